set_option maxRecDepth 100000
/-! FigureKneeModel heardLine ()V -/
theorem n_X2_heardLine : fk_N yX2_heardLine 0 := ⟨by decide +kernel, by decide +kernel, by decide +kernel, by decide +kernel⟩
def f_X2_heardLine_J109 (g : Nat → Nat) (R47 : Int32 → fk_M → Option fk_M) (x0 : Option Nat) (x1 : Int32) (x2 : Int32) (x3 : Int32) (x4 : Int32) (m0 : fk_M) : Option fk_M :=
  R47 (x4 + 1) m0
set_option maxHeartbeats 4000000 in
theorem w_X2_heardLine_J109 {E : fk_E} {l : Launch} {G : fk_G} {b0 n : Nat} {mF : fk_M} (X : fk_X E l G b0 "FigureKneeModel" "heardLine" cX2_heardLine 5 9 233 0 0) (Y : fk_Y E none none n mF 0 0) (x0 : Option Nat) (x1 : Int32) (x2 : Int32) (x3 : Int32) (x4 : Int32)  (m0 : fk_M) {R47 : Int32 → fk_M → Option fk_M} (hR47 : ∀ (v4 : Int32) (m9 : fk_M), R47 v4 m9 = some mF → fk_W E 5 n m9 0 0 47 [(0, tR x0), (1, tI x1), (2, tI x2), (3, tI x3), (4, tI v4)] []) (hf : f_X2_heardLine_J109 G.2.2 R47 x0 x1 x2 x3 x4 m0 = some mF) : fk_W E 5 n m0 0 0 109 [(0, tR x0), (1, tI x1), (2, tI x2), (3, tI x3), (4, tI x4)] [] := by
  unfold f_X2_heardLine_J109 at hf
  refine fk_iinc X 4 [(4, tI (x4 + 1)), (0, tR x0), (1, tI x1), (2, tI x2), (3, tI x3)] dX2_heardLine_109 rfl rfl rfl rfl ?_
  refine fk_goto X 47 dX2_heardLine_112 rfl ?_
  exact fk_cut' (hR47 (x4 + 1) m0  hf) [1, 2, 3, 4, 0] rfl
def f_X2_heardLine_L47 (g : Nat → Nat) (x0 : Option Nat) (x1 : Int32) (x2 : Int32) (x3 : Int32) : Nat → Int32 → fk_M → Option fk_M
  | 0, _, _ => none
  | N + 1, x4, m0 =>
  (gR m0 x0 1 16).bind fun z1 => (aI m0 z1 0 6).bind fun z2 => if z2 ≤ x4 then ((isO m0 x0 1).bind fun u3 => (f_X2_pass x0 m0).bind fun m4 => (gR m4 x0 1 16).bind fun z5 => (aI m4 z5 0 0).bind fun z6 => (isO m4 x0 1).bind fun u7 => bn2 (f_X2_after g x0 (some (g 36)) 0 z6 m4) fun z8 m9 => (gI m9 x0 1 13).bind fun z10 => if z10 = 0 then ((gR m9 x0 1 16).bind fun z11 => (sI m9 z11 0 x1 x2).bind fun m12 => (gR m12 x0 1 16).bind fun z13 => (sI m12 z13 0 (x1 + 1) x3).bind fun m14 => (gR m14 x0 1 16).bind fun z15 => (sI m14 z15 0 (x1 + 2) z8).bind fun m16 => (gR m16 x0 1 16).bind fun z17 => (aI m16 z17 0 6).bind fun z18 => (sI m16 z17 0 6 (z18 + 1)).bind fun m19 => some m19) else (some m9)) else ((gI m0 x0 1 13).bind fun z20 => if z20 = 0 then ((gR m0 x0 1 16).bind fun z21 => (aI m0 z21 0 (26 + (3 * x4))).bind fun z22 => if z22 = x2 then ((gR m0 x0 1 16).bind fun z23 => (aI m0 z23 0 ((26 + (3 * x4)) + 1)).bind fun z24 => if z24 = x3 then ((gI m0 x0 1 4).bind fun z25 => (isO m0 x0 1).bind fun u26 => (f_X2_wrong x0 3 z25 m0).bind fun m27 => f_X2_heardLine_J109 g (f_X2_heardLine_L47 g x0 x1 x2 x3 N) x0 x1 x2 x3 x4 m27) else (f_X2_heardLine_J109 g (f_X2_heardLine_L47 g x0 x1 x2 x3 N) x0 x1 x2 x3 x4 m0)) else (f_X2_heardLine_J109 g (f_X2_heardLine_L47 g x0 x1 x2 x3 N) x0 x1 x2 x3 x4 m0)) else (f_X2_heardLine_J109 g (f_X2_heardLine_L47 g x0 x1 x2 x3 N) x0 x1 x2 x3 x4 m0))
set_option maxHeartbeats 4000000 in
theorem w_X2_heardLine_L47 {E : fk_E} {l : Launch} {G : fk_G} {b0 n : Nat} {mF : fk_M} (X : fk_X E l G b0 "FigureKneeModel" "heardLine" cX2_heardLine 5 9 233 0 0) (Y : fk_Y E none none n mF 0 0) (x0 : Option Nat) (x1 : Int32) (x2 : Int32) (x3 : Int32) : ∀ (N : Nat) (x4 : Int32) (m0 : fk_M), f_X2_heardLine_L47 G.2.2 x0 x1 x2 x3 N x4 m0 = some mF → fk_W E 5 n m0 0 0 47 [(0, tR x0), (1, tI x1), (2, tI x2), (3, tI x3), (4, tI x4)] [] := by
  intro N
  induction N with
  | zero =>
    intro x4 m0 hf
    have hf : (none : Option fk_M) = some _ := hf
    cases hf
  | succ N ih =>
    intro x4 m0 hf
    rw [f_X2_heardLine_L47] at hf
    refine fk_iload X 4 dX2_heardLine_47 rfl ?_
    refine fk_aload_n X 0 dX2_heardLine_49 rfl ?_
    refine fk_getR' X fd_1_16 q1542 dX2_heardLine_50 hf (fun z1 hf => ?_)
    refine fk_bipush (v := 6) X dX2_heardLine_53 rfl ?_
    refine fk_iaload' X dX2_heardLine_55 hf (fun z2 hf => ?_)
    refine fk_icmp_ge' X 115 dX2_heardLine_56 rfl hf (fun hf => ?_) (fun hf => ?_)
    · refine fk_aload_n X 0 dX2_heardLine_115 rfl ?_
      obtain ⟨u3, hq, hf⟩ := bI hf
      obtain ⟨m4, hv, hf⟩ := bI hf
      refine fk_callV0V (ci := 1) (rest := []) X hq rfl (c_X2_pass hv) n_X2_pass q1747 q1749 qs76 q126 q1750 rfl dX2_heardLine_116 rfl rfl rfl rfl rfl (Nat.le_refl _) (Nat.le_refl _) ?_
      refine fk_aload_n X 0 dX2_heardLine_119 rfl ?_
      refine fk_ldcS (i := 36) X rfl dX2_heardLine_120 ?_
      refine fk_iconst (v := 0) X dX2_heardLine_122 rfl ?_
      refine fk_aload_n X 0 dX2_heardLine_123 rfl ?_
      refine fk_getR' X fd_1_16 q1542 dX2_heardLine_124 hf (fun z5 hf => ?_)
      refine fk_iconst (v := 0) X dX2_heardLine_127 rfl ?_
      refine fk_iaload' X dX2_heardLine_128 hf (fun z6 hf => ?_)
      obtain ⟨u7, hq, hf⟩ := bI hf
      obtain ⟨z8, m9, hv, hf⟩ := bn2_eq hf
      refine fk_callV0I (ci := 1) (rest := []) X hq rfl (c_X2_after hv) n_X2_after q1727 q1729 qs71 q126 q1730 rfl dX2_heardLine_129 rfl rfl rfl rfl rfl (Nat.le_refl _) (Nat.le_refl _) ?_
      refine fk_istore X [(4, tI z8), (0, tR x0), (1, tI x1), (2, tI x2), (3, tI x3)] dX2_heardLine_132 rfl rfl ?_
      refine fk_aload_n X 1 dX2_heardLine_134 rfl ?_
      refine fk_getI' X fd_1_13 q1539 dX2_heardLine_135 hf (fun z10 hf => ?_)
      refine fk_if_eq' X 142 dX2_heardLine_138 rfl hf (fun hf => ?_) (fun hf => ?_)
      · refine fk_aload_n X 1 dX2_heardLine_142 rfl ?_
        refine fk_getR' X fd_1_16 q1542 dX2_heardLine_143 hf (fun z11 hf => ?_)
        refine fk_iload_n X 2 dX2_heardLine_146 rfl ?_
        refine fk_iload_n X 3 dX2_heardLine_147 rfl ?_
        refine fk_iastore' X dX2_heardLine_148 hf (fun m12 hf => ?_)
        refine fk_aload_n X 1 dX2_heardLine_149 rfl ?_
        refine fk_getR' X fd_1_16 q1542 dX2_heardLine_150 hf (fun z13 hf => ?_)
        refine fk_iload_n X 2 dX2_heardLine_153 rfl ?_
        refine fk_iconst (v := 1) X dX2_heardLine_154 rfl ?_
        refine fk_iadd X dX2_heardLine_155 ?_
        refine fk_iload_n X 4 dX2_heardLine_156 rfl ?_
        refine fk_iastore' X dX2_heardLine_157 hf (fun m14 hf => ?_)
        refine fk_aload_n X 1 dX2_heardLine_158 rfl ?_
        refine fk_getR' X fd_1_16 q1542 dX2_heardLine_159 hf (fun z15 hf => ?_)
        refine fk_iload_n X 2 dX2_heardLine_162 rfl ?_
        refine fk_iconst (v := 2) X dX2_heardLine_163 rfl ?_
        refine fk_iadd X dX2_heardLine_164 ?_
        refine fk_iload X 0 dX2_heardLine_165 rfl ?_
        refine fk_iastore' X dX2_heardLine_167 hf (fun m16 hf => ?_)
        refine fk_aload_n X 1 dX2_heardLine_168 rfl ?_
        refine fk_getR' X fd_1_16 q1542 dX2_heardLine_169 hf (fun z17 hf => ?_)
        refine fk_bipush (v := 6) X dX2_heardLine_172 rfl ?_
        refine fk_dup2 X dX2_heardLine_174 rfl rfl ?_
        refine fk_iaload' X dX2_heardLine_175 hf (fun z18 hf => ?_)
        refine fk_iconst (v := 1) X dX2_heardLine_176 rfl ?_
        refine fk_iadd X dX2_heardLine_177 ?_
        refine fk_iastore' X dX2_heardLine_178 hf (fun m19 hf => ?_)
        cases hf
        exact fk_return X Y dX2_heardLine_179
      · cases hf
        exact fk_return X Y dX2_heardLine_141
    · refine fk_aload_n X 0 dX2_heardLine_59 rfl ?_
      refine fk_getI' X fd_1_13 q1539 dX2_heardLine_60 hf (fun z20 hf => ?_)
      refine fk_if_ne' X 109 dX2_heardLine_63 rfl hf (fun hf => ?_) (fun hf => ?_)
      · exact fk_cut' (w_X2_heardLine_J109 X Y x0 x1 x2 x3 x4 m0 ih hf) [0, 1, 2, 3, 4] rfl
      · refine fk_aload_n X 0 dX2_heardLine_66 rfl ?_
        refine fk_getR' X fd_1_16 q1542 dX2_heardLine_67 hf (fun z21 hf => ?_)
        refine fk_bipush (v := 26) X dX2_heardLine_70 rfl ?_
        refine fk_iconst (v := 3) X dX2_heardLine_72 rfl ?_
        refine fk_iload X 4 dX2_heardLine_73 rfl ?_
        refine fk_imul X dX2_heardLine_75 ?_
        refine fk_iadd X dX2_heardLine_76 ?_
        refine fk_iaload' X dX2_heardLine_77 hf (fun z22 hf => ?_)
        refine fk_iload_n X 2 dX2_heardLine_78 rfl ?_
        refine fk_icmp_ne' X 109 dX2_heardLine_79 rfl hf (fun hf => ?_) (fun hf => ?_)
        · exact fk_cut' (w_X2_heardLine_J109 X Y x0 x1 x2 x3 x4 m0 ih hf) [0, 1, 2, 3, 4] rfl
        · refine fk_aload_n X 0 dX2_heardLine_82 rfl ?_
          refine fk_getR' X fd_1_16 q1542 dX2_heardLine_83 hf (fun z23 hf => ?_)
          refine fk_bipush (v := 26) X dX2_heardLine_86 rfl ?_
          refine fk_iconst (v := 3) X dX2_heardLine_88 rfl ?_
          refine fk_iload X 4 dX2_heardLine_89 rfl ?_
          refine fk_imul X dX2_heardLine_91 ?_
          refine fk_iadd X dX2_heardLine_92 ?_
          refine fk_iconst (v := 1) X dX2_heardLine_93 rfl ?_
          refine fk_iadd X dX2_heardLine_94 ?_
          refine fk_iaload' X dX2_heardLine_95 hf (fun z24 hf => ?_)
          refine fk_iload_n X 3 dX2_heardLine_96 rfl ?_
          refine fk_icmp_ne' X 109 dX2_heardLine_97 rfl hf (fun hf => ?_) (fun hf => ?_)
          · exact fk_cut' (w_X2_heardLine_J109 X Y x0 x1 x2 x3 x4 m0 ih hf) [0, 1, 2, 3, 4] rfl
          · refine fk_aload_n X 0 dX2_heardLine_100 rfl ?_
            refine fk_iconst (v := 3) X dX2_heardLine_101 rfl ?_
            refine fk_aload_n X 0 dX2_heardLine_102 rfl ?_
            refine fk_getI' X fd_1_4 q1530 dX2_heardLine_103 hf (fun z25 hf => ?_)
            obtain ⟨u26, hq, hf⟩ := bI hf
            obtain ⟨m27, hv, hf⟩ := bI hf
            refine fk_callV0V (ci := 1) (rest := []) X hq rfl (c_X2_wrong hv) n_X2_wrong q1722 q1724 qs70 q126 q1725 rfl dX2_heardLine_106 rfl rfl rfl rfl rfl (Nat.le_refl _) (Nat.le_refl _) ?_
            exact fk_cut' (w_X2_heardLine_J109 X Y x0 x1 x2 x3 x4 m27 ih hf) [0, 1, 2, 3, 4] rfl
def f_X2_heardLine (g : Nat → Nat) (a0 : Option Nat) (m0 : fk_M) : Option fk_M :=
  (gI m0 a0 1 13).bind fun z1 => if z1 = 0 then ((gR m0 a0 1 16).bind fun z2 => (aI m0 z2 0 6).bind fun z3 => (isO m0 a0 1).bind fun u4 => bn2 (f_X2_pairHere g a0 m0) fun z5 m6 => (isO m6 a0 1).bind fun u7 => (f_X2_pass a0 m6).bind fun m8 => (isO m8 a0 1).bind fun u9 => (f_X2_must g a0 (some (g 39)) m8).bind fun m10 => (isO m10 a0 1).bind fun u11 => bn2 (f_X2_numberHere a0 1 30 m10) fun z12 m13 => f_X2_heardLine_L47 g a0 (26 + (3 * z3)) z5 z12 fk_fuel 0 m13) else (some m0)
set_option maxHeartbeats 4000000 in
theorem c_X2_heardLine {l : Launch} {G : fk_G} {b0 : Nat} {n : Nat} {a0 : Option Nat} {m0 : fk_M} {mF : fk_M} (hf : f_X2_heardLine G.2.2 a0 m0 = some mF) : fk_Ct l G b0 yX2_heardLine cX2_heardLine 5 none 9 233 [tR a0] n m0 none n mF 0 0 := by
  refine fk_enter n_X2_heardLine.1 rfl ?_
  intro E X0 Y
  have X : fk_X E l G b0 "FigureKneeModel" "heardLine" cX2_heardLine 5 9 233 0 0 := X0
  show fk_W E 5 n m0 0 0 0 [(0, tR a0)] []
  unfold f_X2_heardLine at hf
  refine fk_aload_n X 0 dX2_heardLine_0 rfl ?_
  refine fk_getI' X fd_1_13 q1539 dX2_heardLine_1 hf (fun z1 hf => ?_)
  refine fk_if_eq' X 8 dX2_heardLine_4 rfl hf (fun hf => ?_) (fun hf => ?_)
  · refine fk_bipush (v := 26) X dX2_heardLine_8 rfl ?_
    refine fk_iconst (v := 3) X dX2_heardLine_10 rfl ?_
    refine fk_aload_n X 0 dX2_heardLine_11 rfl ?_
    refine fk_getR' X fd_1_16 q1542 dX2_heardLine_12 hf (fun z2 hf => ?_)
    refine fk_bipush (v := 6) X dX2_heardLine_15 rfl ?_
    refine fk_iaload' X dX2_heardLine_17 hf (fun z3 hf => ?_)
    refine fk_imul X dX2_heardLine_18 ?_
    refine fk_iadd X dX2_heardLine_19 ?_
    refine fk_istore_n X [(1, tI (26 + (3 * z3))), (0, tR a0)] dX2_heardLine_20 rfl rfl ?_
    refine fk_aload_n X 1 dX2_heardLine_21 rfl ?_
    obtain ⟨u4, hq, hf⟩ := bI hf
    obtain ⟨z5, m6, hv, hf⟩ := bn2_eq hf
    refine fk_callV0I (ci := 1) (rest := []) X hq rfl (c_X2_pairHere hv) n_X2_pairHere q1787 q1789 qs83 q126 q1790 rfl dX2_heardLine_22 rfl rfl rfl rfl rfl (Nat.le_refl _) (Nat.le_refl _) ?_
    refine fk_istore_n X [(2, tI z5), (1, tI (26 + (3 * z3))), (0, tR a0)] dX2_heardLine_25 rfl rfl ?_
    refine fk_aload_n X 2 dX2_heardLine_26 rfl ?_
    obtain ⟨u7, hq, hf⟩ := bI hf
    obtain ⟨m8, hv, hf⟩ := bI hf
    refine fk_callV0V (ci := 1) (rest := []) X hq rfl (c_X2_pass hv) n_X2_pass q1747 q1749 qs76 q126 q1750 rfl dX2_heardLine_27 rfl rfl rfl rfl rfl (Nat.le_refl _) (Nat.le_refl _) ?_
    refine fk_aload_n X 2 dX2_heardLine_30 rfl ?_
    refine fk_ldcS (i := 39) X rfl dX2_heardLine_31 ?_
    obtain ⟨u9, hq, hf⟩ := bI hf
    obtain ⟨m10, hv, hf⟩ := bI hf
    refine fk_callV0V (ci := 1) (rest := []) X hq rfl (c_X2_must hv) n_X2_must q1731 q1733 qs72 q126 q1734 rfl dX2_heardLine_33 rfl rfl rfl rfl rfl (Nat.le_refl _) (Nat.le_refl _) ?_
    refine fk_aload_n X 2 dX2_heardLine_36 rfl ?_
    refine fk_iconst (v := 1) X dX2_heardLine_37 rfl ?_
    refine fk_bipush (v := 30) X dX2_heardLine_38 rfl ?_
    obtain ⟨u11, hq, hf⟩ := bI hf
    obtain ⟨z12, m13, hv, hf⟩ := bn2_eq hf
    refine fk_callV0I (ci := 1) (rest := []) X hq rfl (c_X2_numberHere hv) n_X2_numberHere q1743 q1745 qs75 q126 q1746 rfl dX2_heardLine_40 rfl rfl rfl rfl rfl (Nat.le_refl _) (Nat.le_refl _) ?_
    refine fk_istore_n X [(3, tI z12), (2, tI z5), (1, tI (26 + (3 * z3))), (0, tR a0)] dX2_heardLine_43 rfl rfl ?_
    refine fk_iconst (v := 0) X dX2_heardLine_44 rfl ?_
    refine fk_istore X [(4, tI 0), (3, tI z12), (2, tI z5), (1, tI (26 + (3 * z3))), (0, tR a0)] dX2_heardLine_45 rfl rfl ?_
    exact fk_cut' (w_X2_heardLine_L47 X Y a0 (26 + (3 * z3)) z5 z12 fk_fuel 0 m13 hf) [4, 3, 2, 1, 0] rfl
  · cases hf
    exact fk_return X Y dX2_heardLine_7
/-! FigureKneeModel readLine ()V -/
theorem n_X2_readLine : fk_N yX2_readLine 0 := ⟨by decide +kernel, by decide +kernel, by decide +kernel, by decide +kernel⟩
def f_X2_readLine (g : Nat → Nat) (a0 : Option Nat) (m0 : fk_M) : Option fk_M :=
  (isO m0 a0 1).bind fun u1 => (f_X2_isWord g a0 (some (g 24)) m0).bind fun z2 => if z2 = 0 then ((gR m0 a0 1 16).bind fun z3 => (aI m0 z3 0 2).bind fun z4 => (isO m0 a0 1).bind fun u5 => bn2 (f_X2_begins g a0 (some (g 27)) (if 5 ≤ z4 then (0 : Int32) else 1) m0) fun z6 m7 => if z6 = 0 then ((isO m7 a0 1).bind fun u8 => bn2 (f_X2_begins g a0 (some (g 28)) 1 m7) fun z9 m10 => if z9 = 0 then ((gR m10 a0 1 16).bind fun z11 => (aI m10 z11 0 4).bind fun z12 => (isO m10 a0 1).bind fun u13 => bn2 (f_X2_begins g a0 (some (g 29)) (if 10 ≤ z12 then (0 : Int32) else 1) m10) fun z14 m15 => if z14 = 0 then ((gR m15 a0 1 16).bind fun z16 => (aI m15 z16 0 5).bind fun z17 => (isO m15 a0 1).bind fun u18 => bn2 (f_X2_begins g a0 (some (g 30)) (if 4 ≤ z17 then (0 : Int32) else 1) m15) fun z19 m20 => if z19 = 0 then ((gR m20 a0 1 16).bind fun z21 => (aI m20 z21 0 6).bind fun z22 => (isO m20 a0 1).bind fun u23 => bn2 (f_X2_begins g a0 (some (g 31)) (if 8 ≤ z22 then (0 : Int32) else 1) m20) fun z24 m25 => if z24 = 0 then ((gI m25 a0 1 4).bind fun z26 => (isO m25 a0 1).bind fun u27 => (f_X2_wrong a0 1 z26 m25).bind fun m28 => some m28) else ((isO m25 a0 1).bind fun u29 => (f_X2_heardLine g a0 m25).bind fun m30 => some m30)) else ((isO m20 a0 1).bind fun u31 => (f_X2_unsureLine g a0 m20).bind fun m32 => some m32)) else ((isO m15 a0 1).bind fun u33 => (f_X2_debtLine g a0 m15).bind fun m34 => some m34)) else ((isO m10 a0 1).bind fun u35 => (f_X2_contractLine g a0 m10).bind fun m36 => some m36)) else ((isO m7 a0 1).bind fun u37 => (f_X2_pairLine g a0 m7).bind fun m38 => some m38)) else ((isO m0 a0 1).bind fun u39 => (f_X2_pierLine g a0 m0).bind fun m40 => some m40)
set_option maxHeartbeats 4000000 in
theorem c_X2_readLine {l : Launch} {G : fk_G} {b0 : Nat} {n : Nat} {a0 : Option Nat} {m0 : fk_M} {mF : fk_M} (hf : f_X2_readLine G.2.2 a0 m0 = some mF) : fk_Ct l G b0 yX2_readLine cX2_readLine 1 none 10 257 [tR a0] n m0 none n mF 0 0 := by
  refine fk_enter n_X2_readLine.1 rfl ?_
  intro E X0 Y
  have X : fk_X E l G b0 "FigureKneeModel" "readLine" cX2_readLine 1 10 257 0 0 := X0
  show fk_W E 1 n m0 0 0 0 [(0, tR a0)] []
  unfold f_X2_readLine at hf
  refine fk_aload_n X 0 dX2_readLine_0 rfl ?_
  refine fk_ldcS (i := 24) X rfl dX2_readLine_1 ?_
  obtain ⟨u1, hq, hf⟩ := bI hf
  obtain ⟨z2, hv, hf⟩ := bI hf
  refine fk_callV0I (ci := 1) (rest := []) X hq rfl (c_X2_isWord hv) n_X2_isWord q1695 q1697 qs68 q126 q1698 rfl dX2_readLine_3 rfl rfl rfl rfl rfl (Nat.le_refl _) (Nat.le_refl _) ?_
  refine fk_if_eq' X 16 dX2_readLine_6 rfl hf (fun hf => ?_) (fun hf => ?_)
  · refine fk_aload_n X 0 dX2_readLine_16 rfl ?_
    refine fk_ldcS (i := 27) X rfl dX2_readLine_17 ?_
    refine fk_aload_n X 0 dX2_readLine_19 rfl ?_
    refine fk_getR' X fd_1_16 q1542 dX2_readLine_20 hf (fun z3 hf => ?_)
    refine fk_iconst (v := 2) X dX2_readLine_23 rfl ?_
    refine fk_iaload' X dX2_readLine_24 hf (fun z4 hf => ?_)
    refine fk_iconst (v := 5) X dX2_readLine_25 rfl ?_
    have J1 : fk_W E 1 n m0 0 0 34 [(0, tR a0)] [tI (if 5 ≤ z4 then (0 : Int32) else 1), tR (some (G.2.2 27)), tR a0] := by
      obtain ⟨u5, hq, hf⟩ := bI hf
      obtain ⟨z6, m7, hv, hf⟩ := bn2_eq hf
      refine fk_callV0I (ci := 1) (rest := []) X hq rfl (c_X2_begins hv) n_X2_begins q1753 q1755 qs77 q126 q1756 rfl dX2_readLine_34 rfl rfl rfl rfl rfl (Nat.le_refl _) (Nat.le_refl _) ?_
      refine fk_if_eq' X 47 dX2_readLine_37 rfl hf (fun hf => ?_) (fun hf => ?_)
      · refine fk_aload_n X 0 dX2_readLine_47 rfl ?_
        refine fk_ldcS (i := 28) X rfl dX2_readLine_48 ?_
        refine fk_iconst (v := 1) X dX2_readLine_50 rfl ?_
        obtain ⟨u8, hq, hf⟩ := bI hf
        obtain ⟨z9, m10, hv, hf⟩ := bn2_eq hf
        refine fk_callV0I (ci := 1) (rest := []) X hq rfl (c_X2_begins hv) n_X2_begins q1753 q1755 qs77 q126 q1756 rfl dX2_readLine_51 rfl rfl rfl rfl rfl (Nat.le_refl _) (Nat.le_refl _) ?_
        refine fk_if_eq' X 64 dX2_readLine_54 rfl hf (fun hf => ?_) (fun hf => ?_)
        · refine fk_aload_n X 0 dX2_readLine_64 rfl ?_
          refine fk_ldcS (i := 29) X rfl dX2_readLine_65 ?_
          refine fk_aload_n X 0 dX2_readLine_67 rfl ?_
          refine fk_getR' X fd_1_16 q1542 dX2_readLine_68 hf (fun z11 hf => ?_)
          refine fk_iconst (v := 4) X dX2_readLine_71 rfl ?_
          refine fk_iaload' X dX2_readLine_72 hf (fun z12 hf => ?_)
          refine fk_bipush (v := 10) X dX2_readLine_73 rfl ?_
          have J2 : fk_W E 1 n m10 0 0 83 [(0, tR a0)] [tI (if 10 ≤ z12 then (0 : Int32) else 1), tR (some (G.2.2 29)), tR a0] := by
            obtain ⟨u13, hq, hf⟩ := bI hf
            obtain ⟨z14, m15, hv, hf⟩ := bn2_eq hf
            refine fk_callV0I (ci := 1) (rest := []) X hq rfl (c_X2_begins hv) n_X2_begins q1753 q1755 qs77 q126 q1756 rfl dX2_readLine_83 rfl rfl rfl rfl rfl (Nat.le_refl _) (Nat.le_refl _) ?_
            refine fk_if_eq' X 96 dX2_readLine_86 rfl hf (fun hf => ?_) (fun hf => ?_)
            · refine fk_aload_n X 0 dX2_readLine_96 rfl ?_
              refine fk_ldcS (i := 30) X rfl dX2_readLine_97 ?_
              refine fk_aload_n X 0 dX2_readLine_99 rfl ?_
              refine fk_getR' X fd_1_16 q1542 dX2_readLine_100 hf (fun z16 hf => ?_)
              refine fk_iconst (v := 5) X dX2_readLine_103 rfl ?_
              refine fk_iaload' X dX2_readLine_104 hf (fun z17 hf => ?_)
              refine fk_iconst (v := 4) X dX2_readLine_105 rfl ?_
              have J3 : fk_W E 1 n m15 0 0 114 [(0, tR a0)] [tI (if 4 ≤ z17 then (0 : Int32) else 1), tR (some (G.2.2 30)), tR a0] := by
                obtain ⟨u18, hq, hf⟩ := bI hf
                obtain ⟨z19, m20, hv, hf⟩ := bn2_eq hf
                refine fk_callV0I (ci := 1) (rest := []) X hq rfl (c_X2_begins hv) n_X2_begins q1753 q1755 qs77 q126 q1756 rfl dX2_readLine_114 rfl rfl rfl rfl rfl (Nat.le_refl _) (Nat.le_refl _) ?_
                refine fk_if_eq' X 127 dX2_readLine_117 rfl hf (fun hf => ?_) (fun hf => ?_)
                · refine fk_aload_n X 0 dX2_readLine_127 rfl ?_
                  refine fk_ldcS (i := 31) X rfl dX2_readLine_128 ?_
                  refine fk_aload_n X 0 dX2_readLine_130 rfl ?_
                  refine fk_getR' X fd_1_16 q1542 dX2_readLine_131 hf (fun z21 hf => ?_)
                  refine fk_bipush (v := 6) X dX2_readLine_134 rfl ?_
                  refine fk_iaload' X dX2_readLine_136 hf (fun z22 hf => ?_)
                  refine fk_bipush (v := 8) X dX2_readLine_137 rfl ?_
                  have J4 : fk_W E 1 n m20 0 0 147 [(0, tR a0)] [tI (if 8 ≤ z22 then (0 : Int32) else 1), tR (some (G.2.2 31)), tR a0] := by
                    obtain ⟨u23, hq, hf⟩ := bI hf
                    obtain ⟨z24, m25, hv, hf⟩ := bn2_eq hf
                    refine fk_callV0I (ci := 1) (rest := []) X hq rfl (c_X2_begins hv) n_X2_begins q1753 q1755 qs77 q126 q1756 rfl dX2_readLine_147 rfl rfl rfl rfl rfl (Nat.le_refl _) (Nat.le_refl _) ?_
                    refine fk_if_eq' X 160 dX2_readLine_150 rfl hf (fun hf => ?_) (fun hf => ?_)
                    · refine fk_aload_n X 0 dX2_readLine_160 rfl ?_
                      refine fk_iconst (v := 1) X dX2_readLine_161 rfl ?_
                      refine fk_aload_n X 0 dX2_readLine_162 rfl ?_
                      refine fk_getI' X fd_1_4 q1530 dX2_readLine_163 hf (fun z26 hf => ?_)
                      obtain ⟨u27, hq, hf⟩ := bI hf
                      obtain ⟨m28, hv, hf⟩ := bI hf
                      refine fk_callV0V (ci := 1) (rest := []) X hq rfl (c_X2_wrong hv) n_X2_wrong q1722 q1724 qs70 q126 q1725 rfl dX2_readLine_166 rfl rfl rfl rfl rfl (Nat.le_refl _) (Nat.le_refl _) ?_
                      cases hf
                      exact fk_return X Y dX2_readLine_169
                    · refine fk_aload_n X 0 dX2_readLine_153 rfl ?_
                      obtain ⟨u29, hq, hf⟩ := bI hf
                      obtain ⟨m30, hv, hf⟩ := bI hf
                      refine fk_callV0V (ci := 1) (rest := []) X hq rfl (c_X2_heardLine hv) n_X2_heardLine q1800 q1802 qs86 q126 q1803 rfl dX2_readLine_154 rfl rfl rfl rfl rfl (Nat.le_refl _) (Nat.le_refl _) ?_
                      refine fk_goto X 169 dX2_readLine_157 rfl ?_
                      cases hf
                      exact fk_return X Y dX2_readLine_169
                  refine fk_icmp_ge X 146 dX2_readLine_139 rfl (fun hc5 => ?_) (fun hc5 => ?_)
                  · refine fk_iconst (v := 0) X dX2_readLine_146 rfl ?_
                    simp only [if_pos hc5] at J4
                    exact fk_cut' J4 [0] rfl
                  · refine fk_iconst (v := 1) X dX2_readLine_142 rfl ?_
                    refine fk_goto X 147 dX2_readLine_143 rfl ?_
                    simp only [if_neg hc5] at J4
                    exact fk_cut' J4 [0] rfl
                · refine fk_aload_n X 0 dX2_readLine_120 rfl ?_
                  obtain ⟨u31, hq, hf⟩ := bI hf
                  obtain ⟨m32, hv, hf⟩ := bI hf
                  refine fk_callV0V (ci := 1) (rest := []) X hq rfl (c_X2_unsureLine hv) n_X2_unsureLine q1796 q1798 qs85 q126 q1799 rfl dX2_readLine_121 rfl rfl rfl rfl rfl (Nat.le_refl _) (Nat.le_refl _) ?_
                  refine fk_goto X 169 dX2_readLine_124 rfl ?_
                  cases hf
                  exact fk_return X Y dX2_readLine_169
              refine fk_icmp_ge X 113 dX2_readLine_106 rfl (fun hc6 => ?_) (fun hc6 => ?_)
              · refine fk_iconst (v := 0) X dX2_readLine_113 rfl ?_
                simp only [if_pos hc6] at J3
                exact fk_cut' J3 [0] rfl
              · refine fk_iconst (v := 1) X dX2_readLine_109 rfl ?_
                refine fk_goto X 114 dX2_readLine_110 rfl ?_
                simp only [if_neg hc6] at J3
                exact fk_cut' J3 [0] rfl
            · refine fk_aload_n X 0 dX2_readLine_89 rfl ?_
              obtain ⟨u33, hq, hf⟩ := bI hf
              obtain ⟨m34, hv, hf⟩ := bI hf
              refine fk_callV0V (ci := 1) (rest := []) X hq rfl (c_X2_debtLine hv) n_X2_debtLine q1792 q1794 qs84 q126 q1795 rfl dX2_readLine_90 rfl rfl rfl rfl rfl (Nat.le_refl _) (Nat.le_refl _) ?_
              refine fk_goto X 169 dX2_readLine_93 rfl ?_
              cases hf
              exact fk_return X Y dX2_readLine_169
          refine fk_icmp_ge X 82 dX2_readLine_75 rfl (fun hc7 => ?_) (fun hc7 => ?_)
          · refine fk_iconst (v := 0) X dX2_readLine_82 rfl ?_
            simp only [if_pos hc7] at J2
            exact fk_cut' J2 [0] rfl
          · refine fk_iconst (v := 1) X dX2_readLine_78 rfl ?_
            refine fk_goto X 83 dX2_readLine_79 rfl ?_
            simp only [if_neg hc7] at J2
            exact fk_cut' J2 [0] rfl
        · refine fk_aload_n X 0 dX2_readLine_57 rfl ?_
          obtain ⟨u35, hq, hf⟩ := bI hf
          obtain ⟨m36, hv, hf⟩ := bI hf
          refine fk_callV0V (ci := 1) (rest := []) X hq rfl (c_X2_contractLine hv) n_X2_contractLine q1783 q1785 qs82 q126 q1786 rfl dX2_readLine_58 rfl rfl rfl rfl rfl (Nat.le_refl _) (Nat.le_refl _) ?_
          refine fk_goto X 169 dX2_readLine_61 rfl ?_
          cases hf
          exact fk_return X Y dX2_readLine_169
      · refine fk_aload_n X 0 dX2_readLine_40 rfl ?_
        obtain ⟨u37, hq, hf⟩ := bI hf
        obtain ⟨m38, hv, hf⟩ := bI hf
        refine fk_callV0V (ci := 1) (rest := []) X hq rfl (c_X2_pairLine hv) n_X2_pairLine q1757 q1759 qs78 q126 q1760 rfl dX2_readLine_41 rfl rfl rfl rfl rfl (Nat.le_refl _) (Nat.le_refl _) ?_
        refine fk_goto X 169 dX2_readLine_44 rfl ?_
        cases hf
        exact fk_return X Y dX2_readLine_169
    refine fk_icmp_ge X 33 dX2_readLine_26 rfl (fun hc8 => ?_) (fun hc8 => ?_)
    · refine fk_iconst (v := 0) X dX2_readLine_33 rfl ?_
      simp only [if_pos hc8] at J1
      exact fk_cut' J1 [0] rfl
    · refine fk_iconst (v := 1) X dX2_readLine_29 rfl ?_
      refine fk_goto X 34 dX2_readLine_30 rfl ?_
      simp only [if_neg hc8] at J1
      exact fk_cut' J1 [0] rfl
  · refine fk_aload_n X 0 dX2_readLine_9 rfl ?_
    obtain ⟨u39, hq, hf⟩ := bI hf
    obtain ⟨m40, hv, hf⟩ := bI hf
    refine fk_callV0V (ci := 1) (rest := []) X hq rfl (c_X2_pierLine hv) n_X2_pierLine q1718 q1720 qs69 q126 q1721 rfl dX2_readLine_10 rfl rfl rfl rfl rfl (Nat.le_refl _) (Nat.le_refl _) ?_
    refine fk_goto X 169 dX2_readLine_13 rfl ?_
    cases hf
    exact fk_return X Y dX2_readLine_169
/-! FigureKneeModel copy ([II[III)V -/
theorem n_X2_copy : fk_N yX2_copy 5 := ⟨by decide +kernel, by decide +kernel, by decide +kernel, by decide +kernel⟩
def f_X2_copy_L3 (x0 : Option Nat) (x1 : Int32) (x2 : Option Nat) (x3 : Int32) (x4 : Int32) : Nat → Int32 → fk_M → Option fk_M
  | 0, _, _ => none
  | N + 1, x5, m0 =>
  if x4 ≤ x5 then (some m0) else ((aI m0 x0 0 (x1 + x5)).bind fun z1 => (sI m0 x2 0 (x3 + x5) z1).bind fun m2 => f_X2_copy_L3 x0 x1 x2 x3 x4 N (x5 + 1) m2)
set_option maxHeartbeats 4000000 in
theorem w_X2_copy_L3 {E : fk_E} {l : Launch} {G : fk_G} {b0 n : Nat} {mF : fk_M} (X : fk_X E l G b0 "FigureKneeModel" "copy" cX2_copy 6 1 60 0 0) (Y : fk_Y E none none n mF 0 0) (x0 : Option Nat) (x1 : Int32) (x2 : Option Nat) (x3 : Int32) (x4 : Int32) : ∀ (N : Nat) (x5 : Int32) (m0 : fk_M), f_X2_copy_L3 x0 x1 x2 x3 x4 N x5 m0 = some mF → fk_W E 6 n m0 0 0 3 [(0, tR x0), (1, tI x1), (2, tR x2), (3, tI x3), (4, tI x4), (5, tI x5)] [] := by
  intro N
  induction N with
  | zero =>
    intro x5 m0 hf
    have hf : (none : Option fk_M) = some _ := hf
    cases hf
  | succ N ih =>
    intro x5 m0 hf
    rw [f_X2_copy_L3] at hf
    refine fk_iload X 5 dX2_copy_3 rfl ?_
    refine fk_iload X 4 dX2_copy_5 rfl ?_
    refine fk_icmp_ge' X 28 dX2_copy_7 rfl hf (fun hf => ?_) (fun hf => ?_)
    · cases hf
      exact fk_return X Y dX2_copy_28
    · refine fk_aload_n X 2 dX2_copy_10 rfl ?_
      refine fk_iload_n X 3 dX2_copy_11 rfl ?_
      refine fk_iload X 5 dX2_copy_12 rfl ?_
      refine fk_iadd X dX2_copy_14 ?_
      refine fk_aload_n X 0 dX2_copy_15 rfl ?_
      refine fk_iload_n X 1 dX2_copy_16 rfl ?_
      refine fk_iload X 5 dX2_copy_17 rfl ?_
      refine fk_iadd X dX2_copy_19 ?_
      refine fk_iaload' X dX2_copy_20 hf (fun z1 hf => ?_)
      refine fk_iastore' X dX2_copy_21 hf (fun m2 hf => ?_)
      refine fk_iinc X 5 [(5, tI (x5 + 1)), (0, tR x0), (1, tI x1), (2, tR x2), (3, tI x3), (4, tI x4)] dX2_copy_22 rfl rfl rfl rfl ?_
      refine fk_goto X 3 dX2_copy_25 rfl ?_
      exact fk_cut' (ih (x5 + 1) m2  hf) [1, 2, 3, 4, 5, 0] rfl
def f_X2_copy (a0 : Option Nat) (a1 : Int32) (a2 : Option Nat) (a3 : Int32) (a4 : Int32) (m0 : fk_M) : Option fk_M :=
  f_X2_copy_L3 a0 a1 a2 a3 a4 fk_fuel 0 m0
set_option maxHeartbeats 4000000 in
theorem c_X2_copy {l : Launch} {G : fk_G} {b0 : Nat} {n : Nat} {a0 : Option Nat} {a1 : Int32} {a2 : Option Nat} {a3 : Int32} {a4 : Int32} {m0 : fk_M} {mF : fk_M} (hf : f_X2_copy a0 a1 a2 a3 a4 m0 = some mF) : fk_Ct l G b0 yX2_copy cX2_copy 6 none 1 60 [tR a0, tI a1, tR a2, tI a3, tI a4] n m0 none n mF 0 0 := by
  refine fk_enter n_X2_copy.1 rfl ?_
  intro E X0 Y
  have X : fk_X E l G b0 "FigureKneeModel" "copy" cX2_copy 6 1 60 0 0 := X0
  show fk_W E 6 n m0 0 0 0 [(0, tR a0), (1, tI a1), (2, tR a2), (3, tI a3), (4, tI a4)] []
  unfold f_X2_copy at hf
  refine fk_iconst (v := 0) X dX2_copy_0 rfl ?_
  refine fk_istore X [(5, tI 0), (0, tR a0), (1, tI a1), (2, tR a2), (3, tI a3), (4, tI a4)] dX2_copy_1 rfl rfl ?_
  exact fk_cut' (w_X2_copy_L3 X Y a0 a1 a2 a3 a4 fk_fuel 0 m0 hf) [1, 2, 3, 4, 5, 0] rfl
/-! FigureKneeModel pier (I)I -/
theorem n_X2_pier : fk_N yX2_pier 1 := ⟨by decide +kernel, by decide +kernel, by decide +kernel, by decide +kernel⟩
def f_X2_pier_J183 (g : Nat → Nat) (x0 : Option Nat) (m0 : fk_M) : Option (Int32 × fk_M) :=
  (gI m0 x0 1 13).bind fun z1 => if z1 = 0 then ((gR m0 x0 1 16).bind fun z2 => (gR m0 x0 1 15).bind fun z3 => (f_X2_copy z2 0 z3 0 95 m0).bind fun m4 => (gR m4 x0 1 18).bind fun z5 => (gR m4 x0 1 17).bind fun z6 => (f_X2_copy z5 0 z6 0 36 m4).bind fun m7 => (gR m7 x0 1 18).bind fun z8 => (gR m7 x0 1 19).bind fun z9 => (f_X2_copy z8 0 z9 0 36 m7).bind fun m10 => (pZ m10 x0 1 14 1).bind fun m11 => (pV m11 x0 1 22 (tI 0)).bind fun m12 => (pV m12 x0 1 23 (tI 0)).bind fun m13 => (gR m13 x0 1 15).bind fun z14 => (aI m13 z14 0 2).bind fun z15 => some (z15, m13)) else ((isO m0 x0 1).bind fun u16 => bn2 (f_X2_no x0 4 m0) fun z17 m18 => some (z17, m18))
set_option maxHeartbeats 4000000 in
theorem w_X2_pier_J183 {E : fk_E} {l : Launch} {G : fk_G} {b0 n : Nat} {r : Int32} {mF : fk_M} (X : fk_X E l G b0 "FigureKneeModel" "pier" cX2_pier 3 11 277 0 0) (Y : fk_Y E (some .int) (some (tI r)) n mF 0 0) (x0 : Option Nat)  (m0 : fk_M) (hf : f_X2_pier_J183 G.2.2 x0 m0 = some (r, mF)) : fk_W E 3 n m0 0 0 183 [(0, tR x0)] [] := by
  unfold f_X2_pier_J183 at hf
  refine fk_aload_n X 0 dX2_pier_183 rfl ?_
  refine fk_getI' X fd_1_13 q1539 dX2_pier_184 hf (fun z1 hf => ?_)
  refine fk_if_eq' X 196 dX2_pier_187 rfl hf (fun hf => ?_) (fun hf => ?_)
  · refine fk_aload_n X 0 dX2_pier_196 rfl ?_
    refine fk_getR' X fd_1_16 q1542 dX2_pier_197 hf (fun z2 hf => ?_)
    refine fk_iconst (v := 0) X dX2_pier_200 rfl ?_
    refine fk_aload_n X 0 dX2_pier_201 rfl ?_
    refine fk_getR' X fd_1_15 q1541 dX2_pier_202 hf (fun z3 hf => ?_)
    refine fk_iconst (v := 0) X dX2_pier_205 rfl ?_
    refine fk_bipush (v := 95) X dX2_pier_206 rfl ?_
    obtain ⟨m4, hv, hf⟩ := bI hf
    refine fk_callS0V (rest := []) X (c_X2_copy hv) n_X2_copy q1805 q1806 q126 q1807 dX2_pier_208 rfl rfl rfl rfl rfl (Nat.le_refl _) (Nat.le_refl _) ?_
    refine fk_aload_n X 0 dX2_pier_211 rfl ?_
    refine fk_getR' X fd_1_18 q1544 dX2_pier_212 hf (fun z5 hf => ?_)
    refine fk_iconst (v := 0) X dX2_pier_215 rfl ?_
    refine fk_aload_n X 0 dX2_pier_216 rfl ?_
    refine fk_getR' X fd_1_17 q1543 dX2_pier_217 hf (fun z6 hf => ?_)
    refine fk_iconst (v := 0) X dX2_pier_220 rfl ?_
    refine fk_bipush (v := 36) X dX2_pier_221 rfl ?_
    obtain ⟨m7, hv, hf⟩ := bI hf
    refine fk_callS0V (rest := []) X (c_X2_copy hv) n_X2_copy q1805 q1806 q126 q1807 dX2_pier_223 rfl rfl rfl rfl rfl (Nat.le_refl _) (Nat.le_refl _) ?_
    refine fk_aload_n X 0 dX2_pier_226 rfl ?_
    refine fk_getR' X fd_1_18 q1544 dX2_pier_227 hf (fun z8 hf => ?_)
    refine fk_iconst (v := 0) X dX2_pier_230 rfl ?_
    refine fk_aload_n X 0 dX2_pier_231 rfl ?_
    refine fk_getR' X fd_1_19 q1545 dX2_pier_232 hf (fun z9 hf => ?_)
    refine fk_iconst (v := 0) X dX2_pier_235 rfl ?_
    refine fk_bipush (v := 36) X dX2_pier_236 rfl ?_
    obtain ⟨m10, hv, hf⟩ := bI hf
    refine fk_callS0V (rest := []) X (c_X2_copy hv) n_X2_copy q1805 q1806 q126 q1807 dX2_pier_238 rfl rfl rfl rfl rfl (Nat.le_refl _) (Nat.le_refl _) ?_
    refine fk_aload_n X 0 dX2_pier_241 rfl ?_
    refine fk_iconst (v := 1) X dX2_pier_242 rfl ?_
    refine fk_putZ' X fd_1_14 q1540 dX2_pier_243 hf (fun m11 hf => ?_)
    refine fk_aload_n X 0 dX2_pier_246 rfl ?_
    refine fk_iconst (v := 0) X dX2_pier_247 rfl ?_
    refine fk_putI' X fd_1_22 q1548 dX2_pier_248 (fit_I _) hf (fun m12 hf => ?_)
    refine fk_aload_n X 0 dX2_pier_251 rfl ?_
    refine fk_iconst (v := 0) X dX2_pier_252 rfl ?_
    refine fk_putI' X fd_1_23 q1549 dX2_pier_253 (fit_I _) hf (fun m13 hf => ?_)
    refine fk_aload_n X 0 dX2_pier_256 rfl ?_
    refine fk_getR' X fd_1_15 q1541 dX2_pier_257 hf (fun z14 hf => ?_)
    refine fk_iconst (v := 2) X dX2_pier_260 rfl ?_
    refine fk_iaload' X dX2_pier_261 hf (fun z15 hf => ?_)
    cases hf
    exact fk_ireturn X Y dX2_pier_262 rfl
  · refine fk_aload_n X 0 dX2_pier_190 rfl ?_
    refine fk_iconst (v := 4) X dX2_pier_191 rfl ?_
    obtain ⟨u16, hq, hf⟩ := bI hf
    obtain ⟨z17, m18, hv, hf⟩ := bn2_eq hf
    refine fk_callV0I (ci := 1) (rest := []) X hq rfl (c_X2_no hv) n_X2_no q1672 q1674 qs64 q126 q1675 rfl dX2_pier_192 rfl rfl rfl rfl rfl (Nat.le_refl _) (Nat.le_refl _) ?_
    cases hf
    exact fk_ireturn X Y dX2_pier_195 rfl
def f_X2_pier_J173 (g : Nat → Nat) (x0 : Option Nat) (m0 : fk_M) : Option (Int32 × fk_M) :=
  (gI m0 x0 1 4).bind fun z1 => (isO m0 x0 1).bind fun u2 => (f_X2_wrong x0 6 z1 m0).bind fun m3 => f_X2_pier_J183 g x0 m3
set_option maxHeartbeats 4000000 in
theorem w_X2_pier_J173 {E : fk_E} {l : Launch} {G : fk_G} {b0 n : Nat} {r : Int32} {mF : fk_M} (X : fk_X E l G b0 "FigureKneeModel" "pier" cX2_pier 3 11 277 0 0) (Y : fk_Y E (some .int) (some (tI r)) n mF 0 0) (x0 : Option Nat)  (m0 : fk_M) (hf : f_X2_pier_J173 G.2.2 x0 m0 = some (r, mF)) : fk_W E 3 n m0 0 0 173 [(0, tR x0)] [] := by
  unfold f_X2_pier_J173 at hf
  refine fk_aload_n X 0 dX2_pier_173 rfl ?_
  refine fk_bipush (v := 6) X dX2_pier_174 rfl ?_
  refine fk_aload_n X 0 dX2_pier_176 rfl ?_
  refine fk_getI' X fd_1_4 q1530 dX2_pier_177 hf (fun z1 hf => ?_)
  obtain ⟨u2, hq, hf⟩ := bI hf
  obtain ⟨m3, hv, hf⟩ := bI hf
  refine fk_callV0V (ci := 1) (rest := []) X hq rfl (c_X2_wrong hv) n_X2_wrong q1722 q1724 qs70 q126 q1725 rfl dX2_pier_180 rfl rfl rfl rfl rfl (Nat.le_refl _) (Nat.le_refl _) ?_
  exact fk_cut' (w_X2_pier_J183 X Y x0 m3 hf) [0] rfl
def f_X2_pier_J147 (g : Nat → Nat) (x0 : Option Nat) (m0 : fk_M) : Option (Int32 × fk_M) :=
  (gI m0 x0 1 13).bind fun z1 => if z1 = 0 then ((gR m0 x0 1 16).bind fun z2 => (aI m0 z2 0 7).bind fun z3 => if z3 = 0 then (f_X2_pier_J173 g x0 m0) else ((gR m0 x0 1 16).bind fun z4 => (aI m0 z4 0 2).bind fun z5 => if z5 = 0 then (f_X2_pier_J173 g x0 m0) else (f_X2_pier_J183 g x0 m0))) else (f_X2_pier_J183 g x0 m0)
set_option maxHeartbeats 4000000 in
theorem w_X2_pier_J147 {E : fk_E} {l : Launch} {G : fk_G} {b0 n : Nat} {r : Int32} {mF : fk_M} (X : fk_X E l G b0 "FigureKneeModel" "pier" cX2_pier 3 11 277 0 0) (Y : fk_Y E (some .int) (some (tI r)) n mF 0 0) (x0 : Option Nat)  (m0 : fk_M) (hf : f_X2_pier_J147 G.2.2 x0 m0 = some (r, mF)) : fk_W E 3 n m0 0 0 147 [(0, tR x0)] [] := by
  unfold f_X2_pier_J147 at hf
  refine fk_aload_n X 0 dX2_pier_147 rfl ?_
  refine fk_getI' X fd_1_13 q1539 dX2_pier_148 hf (fun z1 hf => ?_)
  refine fk_if_ne' X 183 dX2_pier_151 rfl hf (fun hf => ?_) (fun hf => ?_)
  · exact fk_cut' (w_X2_pier_J183 X Y x0 m0 hf) [0] rfl
  · refine fk_aload_n X 0 dX2_pier_154 rfl ?_
    refine fk_getR' X fd_1_16 q1542 dX2_pier_155 hf (fun z2 hf => ?_)
    refine fk_bipush (v := 7) X dX2_pier_158 rfl ?_
    refine fk_iaload' X dX2_pier_160 hf (fun z3 hf => ?_)
    refine fk_if_eq' X 173 dX2_pier_161 rfl hf (fun hf => ?_) (fun hf => ?_)
    · exact fk_cut' (w_X2_pier_J173 X Y x0 m0 hf) [0] rfl
    · refine fk_aload_n X 0 dX2_pier_164 rfl ?_
      refine fk_getR' X fd_1_16 q1542 dX2_pier_165 hf (fun z4 hf => ?_)
      refine fk_iconst (v := 2) X dX2_pier_168 rfl ?_
      refine fk_iaload' X dX2_pier_169 hf (fun z5 hf => ?_)
      refine fk_if_ne' X 183 dX2_pier_170 rfl hf (fun hf => ?_) (fun hf => ?_)
      · exact fk_cut' (w_X2_pier_J183 X Y x0 m0 hf) [0] rfl
      · exact fk_cut' (w_X2_pier_J173 X Y x0 m0 hf) [0] rfl
def f_X2_pier_J124 (g : Nat → Nat) (x0 : Option Nat) (m0 : fk_M) : Option (Int32 × fk_M) :=
  (gI m0 x0 1 13).bind fun z1 => if z1 = 0 then ((gI m0 x0 1 6).bind fun z2 => if z2 = 0 then (f_X2_pier_J147 g x0 m0) else ((gI m0 x0 1 4).bind fun z3 => (isO m0 x0 1).bind fun u4 => (f_X2_wrong x0 1 z3 m0).bind fun m5 => f_X2_pier_J147 g x0 m5)) else (f_X2_pier_J147 g x0 m0)
set_option maxHeartbeats 4000000 in
theorem w_X2_pier_J124 {E : fk_E} {l : Launch} {G : fk_G} {b0 n : Nat} {r : Int32} {mF : fk_M} (X : fk_X E l G b0 "FigureKneeModel" "pier" cX2_pier 3 11 277 0 0) (Y : fk_Y E (some .int) (some (tI r)) n mF 0 0) (x0 : Option Nat)  (m0 : fk_M) (hf : f_X2_pier_J124 G.2.2 x0 m0 = some (r, mF)) : fk_W E 3 n m0 0 0 124 [(0, tR x0)] [] := by
  unfold f_X2_pier_J124 at hf
  refine fk_aload_n X 0 dX2_pier_124 rfl ?_
  refine fk_getI' X fd_1_13 q1539 dX2_pier_125 hf (fun z1 hf => ?_)
  refine fk_if_ne' X 147 dX2_pier_128 rfl hf (fun hf => ?_) (fun hf => ?_)
  · exact fk_cut' (w_X2_pier_J147 X Y x0 m0 hf) [0] rfl
  · refine fk_aload_n X 0 dX2_pier_131 rfl ?_
    refine fk_getI' X fd_1_6 q1532 dX2_pier_132 hf (fun z2 hf => ?_)
    refine fk_if_eq' X 147 dX2_pier_135 rfl hf (fun hf => ?_) (fun hf => ?_)
    · exact fk_cut' (w_X2_pier_J147 X Y x0 m0 hf) [0] rfl
    · refine fk_aload_n X 0 dX2_pier_138 rfl ?_
      refine fk_iconst (v := 1) X dX2_pier_139 rfl ?_
      refine fk_aload_n X 0 dX2_pier_140 rfl ?_
      refine fk_getI' X fd_1_4 q1530 dX2_pier_141 hf (fun z3 hf => ?_)
      obtain ⟨u4, hq, hf⟩ := bI hf
      obtain ⟨m5, hv, hf⟩ := bI hf
      refine fk_callV0V (ci := 1) (rest := []) X hq rfl (c_X2_wrong hv) n_X2_wrong q1722 q1724 qs70 q126 q1725 rfl dX2_pier_144 rfl rfl rfl rfl rfl (Nat.le_refl _) (Nat.le_refl _) ?_
      exact fk_cut' (w_X2_pier_J147 X Y x0 m5 hf) [0] rfl
def f_X2_pier_L97 (g : Nat → Nat) (x0 : Option Nat) : Nat → fk_M → Option (Int32 × fk_M)
  | 0, _ => none
  | N + 1, m0 =>
  (gI m0 x0 1 13).bind fun z1 => if z1 = 0 then ((gI m0 x0 1 6).bind fun z2 => if z2 = 59 then ((isO m0 x0 1).bind fun u3 => (f_X2_next x0 m0).bind fun m4 => (isO m4 x0 1).bind fun u5 => (f_X2_readLine g x0 m4).bind fun m6 => f_X2_pier_L97 g x0 N m6) else (f_X2_pier_J124 g x0 m0)) else (f_X2_pier_J124 g x0 m0)
set_option maxHeartbeats 4000000 in
theorem w_X2_pier_L97 {E : fk_E} {l : Launch} {G : fk_G} {b0 n : Nat} {r : Int32} {mF : fk_M} (X : fk_X E l G b0 "FigureKneeModel" "pier" cX2_pier 3 11 277 0 0) (Y : fk_Y E (some .int) (some (tI r)) n mF 0 0) (x0 : Option Nat) : ∀ (N : Nat)  (m0 : fk_M), f_X2_pier_L97 G.2.2 x0 N m0 = some (r, mF) → fk_W E 3 n m0 0 0 97 [(0, tR x0)] [] := by
  intro N
  induction N with
  | zero =>
    intro m0 hf
    have hf : (none : Option (Int32 × fk_M)) = some _ := hf
    cases hf
  | succ N ih =>
    intro m0 hf
    rw [f_X2_pier_L97] at hf
    refine fk_aload_n X 0 dX2_pier_97 rfl ?_
    refine fk_getI' X fd_1_13 q1539 dX2_pier_98 hf (fun z1 hf => ?_)
    refine fk_if_ne' X 124 dX2_pier_101 rfl hf (fun hf => ?_) (fun hf => ?_)
    · exact fk_cut' (w_X2_pier_J124 X Y x0 m0 hf) [0] rfl
    · refine fk_aload_n X 0 dX2_pier_104 rfl ?_
      refine fk_getI' X fd_1_6 q1532 dX2_pier_105 hf (fun z2 hf => ?_)
      refine fk_bipush (v := 59) X dX2_pier_108 rfl ?_
      refine fk_icmp_ne' X 124 dX2_pier_110 rfl hf (fun hf => ?_) (fun hf => ?_)
      · exact fk_cut' (w_X2_pier_J124 X Y x0 m0 hf) [0] rfl
      · refine fk_aload_n X 0 dX2_pier_113 rfl ?_
        obtain ⟨u3, hq, hf⟩ := bI hf
        obtain ⟨m4, hv, hf⟩ := bI hf
        refine fk_callV0V (ci := 1) (rest := []) X hq rfl (c_X2_next hv) n_X2_next q1676 q1678 qs65 q126 q1679 rfl dX2_pier_114 rfl rfl rfl rfl rfl (Nat.le_refl _) (Nat.le_refl _) ?_
        refine fk_aload_n X 0 dX2_pier_117 rfl ?_
        obtain ⟨u5, hq, hf⟩ := bI hf
        obtain ⟨m6, hv, hf⟩ := bI hf
        refine fk_callV0V (ci := 1) (rest := []) X hq rfl (c_X2_readLine hv) n_X2_readLine q1690 q1692 qs67 q126 q1693 rfl dX2_pier_118 rfl rfl rfl rfl rfl (Nat.le_refl _) (Nat.le_refl _) ?_
        refine fk_goto X 97 dX2_pier_121 rfl ?_
        exact fk_cut' (ih m6  hf) [0] rfl
def f_X2_pier_L60 (g : Nat → Nat) (x0 : Option Nat) (x1 : Int32) : Nat → Int32 → fk_M → Option (Int32 × fk_M)
  | 0, _, _ => none
  | N + 1, x2, m0 =>
  if 36 ≤ x2 then ((pV m0 x0 1 3 (tI x1)).bind fun m1 => (pV m1 x0 1 5 (tI 0)).bind fun m2 => (isO m2 x0 1).bind fun u3 => (f_X2_next x0 m2).bind fun m4 => (isO m4 x0 1).bind fun u5 => (f_X2_readLine g x0 m4).bind fun m6 => f_X2_pier_L97 g x0 fk_fuel m6) else ((gR m0 x0 1 18).bind fun z7 => (sI m0 z7 0 x2 0).bind fun m8 => f_X2_pier_L60 g x0 x1 N (x2 + 1) m8)
set_option maxHeartbeats 4000000 in
theorem w_X2_pier_L60 {E : fk_E} {l : Launch} {G : fk_G} {b0 n : Nat} {r : Int32} {mF : fk_M} (X : fk_X E l G b0 "FigureKneeModel" "pier" cX2_pier 3 11 277 0 0) (Y : fk_Y E (some .int) (some (tI r)) n mF 0 0) (x0 : Option Nat) (x1 : Int32) : ∀ (N : Nat) (x2 : Int32) (m0 : fk_M), f_X2_pier_L60 G.2.2 x0 x1 N x2 m0 = some (r, mF) → fk_W E 3 n m0 0 0 60 [(0, tR x0), (1, tI x1), (2, tI x2)] [] := by
  intro N
  induction N with
  | zero =>
    intro x2 m0 hf
    have hf : (none : Option (Int32 × fk_M)) = some _ := hf
    cases hf
  | succ N ih =>
    intro x2 m0 hf
    rw [f_X2_pier_L60] at hf
    refine fk_iload_n X 2 dX2_pier_60 rfl ?_
    refine fk_bipush (v := 36) X dX2_pier_61 rfl ?_
    refine fk_icmp_ge' X 79 dX2_pier_63 rfl hf (fun hf => ?_) (fun hf => ?_)
    · refine fk_aload_n X 0 dX2_pier_79 rfl ?_
      refine fk_iload_n X 1 dX2_pier_80 rfl ?_
      refine fk_putI' X fd_1_3 q1529 dX2_pier_81 (fit_I _) hf (fun m1 hf => ?_)
      refine fk_aload_n X 0 dX2_pier_84 rfl ?_
      refine fk_iconst (v := 0) X dX2_pier_85 rfl ?_
      refine fk_putI' X fd_1_5 q1531 dX2_pier_86 (fit_I _) hf (fun m2 hf => ?_)
      refine fk_aload_n X 0 dX2_pier_89 rfl ?_
      obtain ⟨u3, hq, hf⟩ := bI hf
      obtain ⟨m4, hv, hf⟩ := bI hf
      refine fk_callV0V (ci := 1) (rest := []) X hq rfl (c_X2_next hv) n_X2_next q1676 q1678 qs65 q126 q1679 rfl dX2_pier_90 rfl rfl rfl rfl rfl (Nat.le_refl _) (Nat.le_refl _) ?_
      refine fk_aload_n X 0 dX2_pier_93 rfl ?_
      obtain ⟨u5, hq, hf⟩ := bI hf
      obtain ⟨m6, hv, hf⟩ := bI hf
      refine fk_callV0V (ci := 1) (rest := []) X hq rfl (c_X2_readLine hv) n_X2_readLine q1690 q1692 qs67 q126 q1693 rfl dX2_pier_94 rfl rfl rfl rfl rfl (Nat.le_refl _) (Nat.le_refl _) ?_
      exact fk_cut' (w_X2_pier_L97 X Y x0 fk_fuel m6 hf) [0] rfl
    · refine fk_aload_n X 0 dX2_pier_66 rfl ?_
      refine fk_getR' X fd_1_18 q1544 dX2_pier_67 hf (fun z7 hf => ?_)
      refine fk_iload_n X 2 dX2_pier_70 rfl ?_
      refine fk_iconst (v := 0) X dX2_pier_71 rfl ?_
      refine fk_iastore' X dX2_pier_72 hf (fun m8 hf => ?_)
      refine fk_iinc X 2 [(2, tI (x2 + 1)), (0, tR x0), (1, tI x1)] dX2_pier_73 rfl rfl rfl rfl ?_
      refine fk_goto X 60 dX2_pier_76 rfl ?_
      exact fk_cut' (ih (x2 + 1) m8  hf) [1, 2, 0] rfl
def f_X2_pier_L39 (g : Nat → Nat) (x0 : Option Nat) (x1 : Int32) : Nat → Int32 → fk_M → Option (Int32 × fk_M)
  | 0, _, _ => none
  | N + 1, x2, m0 =>
  if 95 ≤ x2 then (f_X2_pier_L60 g x0 x1 fk_fuel 0 m0) else ((gR m0 x0 1 16).bind fun z1 => (sI m0 z1 0 x2 0).bind fun m2 => f_X2_pier_L39 g x0 x1 N (x2 + 1) m2)
set_option maxHeartbeats 4000000 in
theorem w_X2_pier_L39 {E : fk_E} {l : Launch} {G : fk_G} {b0 n : Nat} {r : Int32} {mF : fk_M} (X : fk_X E l G b0 "FigureKneeModel" "pier" cX2_pier 3 11 277 0 0) (Y : fk_Y E (some .int) (some (tI r)) n mF 0 0) (x0 : Option Nat) (x1 : Int32) : ∀ (N : Nat) (x2 : Int32) (m0 : fk_M), f_X2_pier_L39 G.2.2 x0 x1 N x2 m0 = some (r, mF) → fk_W E 3 n m0 0 0 39 [(0, tR x0), (1, tI x1), (2, tI x2)] [] := by
  intro N
  induction N with
  | zero =>
    intro x2 m0 hf
    have hf : (none : Option (Int32 × fk_M)) = some _ := hf
    cases hf
  | succ N ih =>
    intro x2 m0 hf
    rw [f_X2_pier_L39] at hf
    refine fk_iload_n X 2 dX2_pier_39 rfl ?_
    refine fk_bipush (v := 95) X dX2_pier_40 rfl ?_
    refine fk_icmp_ge' X 58 dX2_pier_42 rfl hf (fun hf => ?_) (fun hf => ?_)
    · refine fk_iconst (v := 0) X dX2_pier_58 rfl ?_
      refine fk_istore_n X [(2, tI 0), (0, tR x0), (1, tI x1)] dX2_pier_59 rfl rfl ?_
      exact fk_cut' (w_X2_pier_L60 X Y x0 x1 fk_fuel 0 m0 hf) [1, 2, 0] rfl
    · refine fk_aload_n X 0 dX2_pier_45 rfl ?_
      refine fk_getR' X fd_1_16 q1542 dX2_pier_46 hf (fun z1 hf => ?_)
      refine fk_iload_n X 2 dX2_pier_49 rfl ?_
      refine fk_iconst (v := 0) X dX2_pier_50 rfl ?_
      refine fk_iastore' X dX2_pier_51 hf (fun m2 hf => ?_)
      refine fk_iinc X 2 [(2, tI (x2 + 1)), (0, tR x0), (1, tI x1)] dX2_pier_52 rfl rfl rfl rfl ?_
      refine fk_goto X 39 dX2_pier_55 rfl ?_
      exact fk_cut' (ih (x2 + 1) m2  hf) [1, 2, 0] rfl
def f_X2_pier (g : Nat → Nat) (a0 : Option Nat) (a1 : Int32) (m0 : fk_M) : Option (Int32 × fk_M) :=
  (isO m0 a0 1).bind fun u1 => (f_X2_good a0 m0).bind fun m2 => (gI m2 a0 1 2).bind fun z3 => (f_X2_in a1 0 z3 m2).bind fun z4 => if z4 = 0 then ((isO m2 a0 1).bind fun u5 => bn2 (f_X2_no a0 2 m2) fun z6 m7 => some (z6, m7)) else ((pV m2 a0 1 2 (tI 0)).bind fun m8 => (pV m8 a0 1 9 (tI 0)).bind fun m9 => (pZ m9 a0 1 13 0).bind fun m10 => f_X2_pier_L39 g a0 a1 fk_fuel 0 m10)
set_option maxHeartbeats 4000000 in
theorem c_X2_pier {l : Launch} {G : fk_G} {b0 : Nat} {n : Nat} {a0 : Option Nat} {a1 : Int32} {m0 : fk_M} {r : Int32} {mF : fk_M} (hf : f_X2_pier G.2.2 a0 a1 m0 = some (r, mF)) : fk_Ct l G b0 yX2_pier cX2_pier 3 (some .int) 11 277 [tR a0, tI a1] n m0 (some (tI r)) n mF 0 0 := by
  refine fk_enter n_X2_pier.1 rfl ?_
  intro E X0 Y
  have X : fk_X E l G b0 "FigureKneeModel" "pier" cX2_pier 3 11 277 0 0 := X0
  show fk_W E 3 n m0 0 0 0 [(0, tR a0), (1, tI a1)] []
  unfold f_X2_pier at hf
  refine fk_aload_n X 0 dX2_pier_0 rfl ?_
  obtain ⟨u1, hq, hf⟩ := bI hf
  obtain ⟨m2, hv, hf⟩ := bI hf
  refine fk_callV0V (ci := 1) (rest := []) X hq rfl (c_X2_good hv) n_X2_good q1665 q1667 qs63 q126 q1668 rfl dX2_pier_1 rfl rfl rfl rfl rfl (Nat.le_refl _) (Nat.le_refl _) ?_
  refine fk_iload_n X 1 dX2_pier_4 rfl ?_
  refine fk_iconst (v := 0) X dX2_pier_5 rfl ?_
  refine fk_aload_n X 0 dX2_pier_6 rfl ?_
  refine fk_getI' X fd_1_2 q1528 dX2_pier_7 hf (fun z3 hf => ?_)
  obtain ⟨z4, hv, hf⟩ := bI hf
  refine fk_callS0I (rest := []) X (c_X2_in hv) n_X2_in q1669 q1670 q126 q1671 dX2_pier_10 rfl rfl rfl rfl rfl (Nat.le_refl _) (Nat.le_refl _) ?_
  refine fk_if_ne' X 22 dX2_pier_13 rfl hf (fun hf => ?_) (fun hf => ?_)
  · refine fk_aload_n X 0 dX2_pier_22 rfl ?_
    refine fk_iconst (v := 0) X dX2_pier_23 rfl ?_
    refine fk_putI' X fd_1_2 q1528 dX2_pier_24 (fit_I _) hf (fun m8 hf => ?_)
    refine fk_aload_n X 0 dX2_pier_27 rfl ?_
    refine fk_iconst (v := 0) X dX2_pier_28 rfl ?_
    refine fk_putI' X fd_1_9 q1535 dX2_pier_29 (fit_I _) hf (fun m9 hf => ?_)
    refine fk_aload_n X 0 dX2_pier_32 rfl ?_
    refine fk_iconst (v := 0) X dX2_pier_33 rfl ?_
    refine fk_putZ' X fd_1_13 q1539 dX2_pier_34 hf (fun m10 hf => ?_)
    refine fk_iconst (v := 0) X dX2_pier_37 rfl ?_
    refine fk_istore_n X [(2, tI 0), (0, tR a0), (1, tI a1)] dX2_pier_38 rfl rfl ?_
    exact fk_cut' (w_X2_pier_L39 X Y a0 a1 fk_fuel 0 m10 hf) [1, 2, 0] rfl
  · refine fk_aload_n X 0 dX2_pier_16 rfl ?_
    refine fk_iconst (v := 2) X dX2_pier_17 rfl ?_
    obtain ⟨u5, hq, hf⟩ := bI hf
    obtain ⟨z6, m7, hv, hf⟩ := bn2_eq hf
    refine fk_callV0I (ci := 1) (rest := []) X hq rfl (c_X2_no hv) n_X2_no q1672 q1674 qs64 q126 q1675 rfl dX2_pier_18 rfl rfl rfl rfl rfl (Nat.le_refl _) (Nat.le_refl _) ?_
    cases hf
    exact fk_ireturn X Y dX2_pier_21 rfl
/-! FigureKneeModel fault ()I -/
theorem n_X2_fault : fk_N yX2_fault 0 := ⟨by decide +kernel, by decide +kernel, by decide +kernel, by decide +kernel⟩
def f_X2_fault (a0 : Option Nat) (m0 : fk_M) : Option (Int32 × fk_M) :=
  (pV m0 a0 1 0 (tI 0)).bind fun m1 => (gI m1 a0 1 9).bind fun z2 => some (z2, m1)
set_option maxHeartbeats 4000000 in
theorem c_X2_fault {l : Launch} {G : fk_G} {b0 : Nat} {n : Nat} {a0 : Option Nat} {m0 : fk_M} {r : Int32} {mF : fk_M} (hf : f_X2_fault a0 m0 = some (r, mF)) : fk_Ct l G b0 yX2_fault cX2_fault 1 (some .int) 1 60 [tR a0] n m0 (some (tI r)) n mF 0 0 := by
  refine fk_enter n_X2_fault.1 rfl ?_
  intro E X0 Y
  have X : fk_X E l G b0 "FigureKneeModel" "fault" cX2_fault 1 1 60 0 0 := X0
  show fk_W E 1 n m0 0 0 0 [(0, tR a0)] []
  unfold f_X2_fault at hf
  refine fk_aload_n X 0 dX2_fault_0 rfl ?_
  refine fk_iconst (v := 0) X dX2_fault_1 rfl ?_
  refine fk_putI' X fd_1_0 q1526 dX2_fault_2 (fit_I _) hf (fun m1 hf => ?_)
  refine fk_aload_n X 0 dX2_fault_5 rfl ?_
  refine fk_getI' X fd_1_9 q1535 dX2_fault_6 hf (fun z2 hf => ?_)
  cases hf
  exact fk_ireturn X Y dX2_fault_9 rfl
/-! FigureKneeModel where ()I -/
theorem n_X2_where : fk_N yX2_where 0 := ⟨by decide +kernel, by decide +kernel, by decide +kernel, by decide +kernel⟩
def f_X2_where (a0 : Option Nat) (m0 : fk_M) : Option (Int32 × fk_M) :=
  (pV m0 a0 1 0 (tI 0)).bind fun m1 => (gI m1 a0 1 11).bind fun z2 => if z2 = 4 then ((gI m1 a0 1 10).bind fun z3 => some (z3, m1)) else (some ((-1), m1))
set_option maxHeartbeats 4000000 in
theorem c_X2_where {l : Launch} {G : fk_G} {b0 : Nat} {n : Nat} {a0 : Option Nat} {m0 : fk_M} {r : Int32} {mF : fk_M} (hf : f_X2_where a0 m0 = some (r, mF)) : fk_Ct l G b0 yX2_where cX2_where 1 (some .int) 1 60 [tR a0] n m0 (some (tI r)) n mF 0 0 := by
  refine fk_enter n_X2_where.1 rfl ?_
  intro E X0 Y
  have X : fk_X E l G b0 "FigureKneeModel" "where" cX2_where 1 1 60 0 0 := X0
  show fk_W E 1 n m0 0 0 0 [(0, tR a0)] []
  unfold f_X2_where at hf
  refine fk_aload_n X 0 dX2_where_0 rfl ?_
  refine fk_iconst (v := 0) X dX2_where_1 rfl ?_
  refine fk_putI' X fd_1_0 q1526 dX2_where_2 (fit_I _) hf (fun m1 hf => ?_)
  refine fk_aload_n X 0 dX2_where_5 rfl ?_
  refine fk_getI' X fd_1_11 q1537 dX2_where_6 hf (fun z2 hf => ?_)
  refine fk_iconst (v := 4) X dX2_where_9 rfl ?_
  refine fk_icmp_ne' X 20 dX2_where_10 rfl hf (fun hf => ?_) (fun hf => ?_)
  · refine fk_iconst (v := (-1)) X dX2_where_20 rfl ?_
    cases hf
    exact fk_ireturn X Y dX2_where_21 rfl
  · refine fk_aload_n X 0 dX2_where_13 rfl ?_
    refine fk_getI' X fd_1_10 q1536 dX2_where_14 hf (fun z3 hf => ?_)
    refine fk_goto X 21 dX2_where_17 rfl ?_
    cases hf
    exact fk_ireturn X Y dX2_where_21 rfl
/-! FigureKneeModel isPair (I)Z -/
theorem n_X2_isPair : fk_N yX2_isPair 1 := ⟨by decide +kernel, by decide +kernel, by decide +kernel, by decide +kernel⟩
def f_X2_isPair (a0 : Option Nat) (a1 : Int32) (m : fk_M) : Option Int32 :=
  (gI m a0 1 14).bind fun z1 => if z1 = 0 then (some 0) else ((gR m a0 1 15).bind fun z2 => (aI m z2 0 2).bind fun z3 => (f_X2_in a1 0 (z3 - 1) m).bind fun z4 => some (if z4 = 0 then (0 : Int32) else 1))
set_option maxHeartbeats 4000000 in
theorem c_X2_isPair {l : Launch} {G : fk_G} {b0 : Nat} {n : Nat} {a0 : Option Nat} {a1 : Int32} {m : fk_M} {r : Int32} (hf : f_X2_isPair a0 a1 m = some r) : fk_Ct l G b0 yX2_isPair cX2_isPair 2 (some .boolean) 2 82 [tR a0, tI a1] n m (some (tI r)) n m 0 0 := by
  refine fk_enter n_X2_isPair.1 rfl ?_
  intro E X0 Y
  have X : fk_X E l G b0 "FigureKneeModel" "isPair" cX2_isPair 2 2 82 0 0 := X0
  show fk_W E 2 n m 0 0 0 [(0, tR a0), (1, tI a1)] []
  unfold f_X2_isPair at hf
  refine fk_aload_n X 0 dX2_isPair_0 rfl ?_
  refine fk_getI' X fd_1_14 q1540 dX2_isPair_1 hf (fun z1 hf => ?_)
  refine fk_if_eq' X 27 dX2_isPair_4 rfl hf (fun hf => ?_) (fun hf => ?_)
  · refine fk_iconst (v := 0) X dX2_isPair_27 rfl ?_
    cases hf
    exact fk_ireturn X Y dX2_isPair_28 (by decide +kernel)
  · refine fk_iload_n X 1 dX2_isPair_7 rfl ?_
    refine fk_iconst (v := 0) X dX2_isPair_8 rfl ?_
    refine fk_aload_n X 0 dX2_isPair_9 rfl ?_
    refine fk_getR' X fd_1_15 q1541 dX2_isPair_10 hf (fun z2 hf => ?_)
    refine fk_iconst (v := 2) X dX2_isPair_13 rfl ?_
    refine fk_iaload' X dX2_isPair_14 hf (fun z3 hf => ?_)
    refine fk_iconst (v := 1) X dX2_isPair_15 rfl ?_
    refine fk_isub X dX2_isPair_16 ?_
    obtain ⟨z4, hv, hf⟩ := bI hf
    refine fk_callS0I (rest := []) X (c_X2_in hv) n_X2_in q1669 q1670 q126 q1671 dX2_isPair_17 rfl rfl rfl rfl rfl (Nat.le_refl _) (Nat.le_refl _) ?_
    have J1 : fk_W E 2 n m 0 0 28 [] [tI (if z4 = 0 then (0 : Int32) else 1)] := by
      cases hf
      exact fk_ireturn X Y dX2_isPair_28 (by (repeat' split) <;> decide +kernel)
    refine fk_if_eq X 27 dX2_isPair_20 rfl (fun hc2 => ?_) (fun hc2 => ?_)
    · refine fk_iconst (v := 0) X dX2_isPair_27 rfl ?_
      simp only [if_pos hc2] at J1
      exact fk_cut' J1 [] rfl
    · refine fk_iconst (v := 1) X dX2_isPair_23 rfl ?_
      refine fk_goto X 28 dX2_isPair_24 rfl ?_
      simp only [if_neg hc2] at J1
      exact fk_cut' J1 [] rfl
/-! FigureKneeModel isMore (I)Z -/
theorem n_X2_isMore : fk_N yX2_isMore 1 := ⟨by decide +kernel, by decide +kernel, by decide +kernel, by decide +kernel⟩
def f_X2_isMore (a0 : Option Nat) (a1 : Int32) (m : fk_M) : Option Int32 :=
  (gR m a0 1 15).bind fun z1 => (aI m z1 0 0).bind fun z2 => some (if (2 * a1) ≤ z2 then (0 : Int32) else 1)
set_option maxHeartbeats 4000000 in
theorem c_X2_isMore {l : Launch} {G : fk_G} {b0 : Nat} {n : Nat} {a0 : Option Nat} {a1 : Int32} {m : fk_M} {r : Int32} (hf : f_X2_isMore a0 a1 m = some r) : fk_Ct l G b0 yX2_isMore cX2_isMore 2 (some .boolean) 1 60 [tR a0, tI a1] n m (some (tI r)) n m 0 0 := by
  refine fk_enter n_X2_isMore.1 rfl ?_
  intro E X0 Y
  have X : fk_X E l G b0 "FigureKneeModel" "isMore" cX2_isMore 2 1 60 0 0 := X0
  show fk_W E 2 n m 0 0 0 [(0, tR a0), (1, tI a1)] []
  unfold f_X2_isMore at hf
  refine fk_iconst (v := 2) X dX2_isMore_0 rfl ?_
  refine fk_iload_n X 1 dX2_isMore_1 rfl ?_
  refine fk_imul X dX2_isMore_2 ?_
  refine fk_aload_n X 0 dX2_isMore_3 rfl ?_
  refine fk_getR' X fd_1_15 q1541 dX2_isMore_4 hf (fun z1 hf => ?_)
  refine fk_iconst (v := 0) X dX2_isMore_7 rfl ?_
  refine fk_iaload' X dX2_isMore_8 hf (fun z2 hf => ?_)
  have J1 : fk_W E 2 n m 0 0 17 [] [tI (if (2 * a1) ≤ z2 then (0 : Int32) else 1)] := by
    cases hf
    exact fk_ireturn X Y dX2_isMore_17 (by (repeat' split) <;> decide +kernel)
  refine fk_icmp_le X 16 dX2_isMore_9 rfl (fun hc2 => ?_) (fun hc2 => ?_)
  · refine fk_iconst (v := 0) X dX2_isMore_16 rfl ?_
    simp only [if_pos hc2] at J1
    exact fk_cut' J1 [] rfl
  · refine fk_iconst (v := 1) X dX2_isMore_12 rfl ?_
    refine fk_goto X 17 dX2_isMore_13 rfl ?_
    simp only [if_neg hc2] at J1
    exact fk_cut' J1 [] rfl
/-! FigureKneeModel pair (II)I -/
theorem n_X2_pair : fk_N yX2_pair 2 := ⟨by decide +kernel, by decide +kernel, by decide +kernel, by decide +kernel⟩
def f_X2_pair_J21 (x0 : Option Nat) (m0 : fk_M) : Option (Int32 × fk_M) :=
  (isO m0 x0 1).bind fun u1 => bn2 (f_X2_no x0 1 m0) fun z2 m3 => some (z2, m3)
set_option maxHeartbeats 4000000 in
theorem w_X2_pair_J21 {E : fk_E} {l : Launch} {G : fk_G} {b0 n : Nat} {r : Int32} {mF : fk_M} (X : fk_X E l G b0 "FigureKneeModel" "pair" cX2_pair 3 3 103 0 0) (Y : fk_Y E (some .int) (some (tI r)) n mF 0 0) (x0 : Option Nat)  (m0 : fk_M) (hf : f_X2_pair_J21 x0 m0 = some (r, mF)) : fk_W E 3 n m0 0 0 21 [(0, tR x0)] [] := by
  unfold f_X2_pair_J21 at hf
  refine fk_aload_n X 0 dX2_pair_21 rfl ?_
  refine fk_iconst (v := 1) X dX2_pair_22 rfl ?_
  obtain ⟨u1, hq, hf⟩ := bI hf
  obtain ⟨z2, m3, hv, hf⟩ := bn2_eq hf
  refine fk_callV0I (ci := 1) (rest := []) X hq rfl (c_X2_no hv) n_X2_no q1672 q1674 qs64 q126 q1675 rfl dX2_pair_23 rfl rfl rfl rfl rfl (Nat.le_refl _) (Nat.le_refl _) ?_
  cases hf
  exact fk_ireturn X Y dX2_pair_26 rfl
def f_X2_pair (a0 : Option Nat) (a1 : Int32) (a2 : Int32) (m0 : fk_M) : Option (Int32 × fk_M) :=
  (isO m0 a0 1).bind fun u1 => (f_X2_good a0 m0).bind fun m2 => (isO m2 a0 1).bind fun u3 => (f_X2_isPair a0 a1 m2).bind fun z4 => if z4 = 0 then (f_X2_pair_J21 a0 m2) else ((f_X2_in a2 0 5 m2).bind fun z5 => if z5 = 0 then (f_X2_pair_J21 a0 m2) else (if a2 = 0 then ((gR m2 a0 1 15).bind fun z6 => (aI m2 z6 0 (8 + a1)).bind fun z7 => some (z7, m2)) else (if a2 = 1 then ((gR m2 a0 1 19).bind fun z8 => (aI m2 z8 0 a1).bind fun z9 => some (z9, m2)) else (if a2 = 2 then ((gR m2 a0 1 15).bind fun z10 => (aI m2 z10 0 0).bind fun z11 => (gR m2 a0 1 19).bind fun z12 => (aI m2 z12 0 a1).bind fun z13 => some ((z11 - z13), m2)) else (if a2 = 3 then ((gR m2 a0 1 19).bind fun z14 => (aI m2 z14 0 (5 + a1)).bind fun z15 => some (z15, m2)) else (if a2 = 4 then ((gR m2 a0 1 15).bind fun z16 => (aI m2 z16 0 (13 + a1)).bind fun z17 => some (z17, m2)) else ((gR m2 a0 1 19).bind fun z18 => (aI m2 z18 0 a1).bind fun z19 => (isO m2 a0 1).bind fun u20 => (f_X2_isMore a0 z19 m2).bind fun z21 => some ((if z21 = 0 then (0 : Int32) else 1), m2))))))))
set_option maxHeartbeats 4000000 in
theorem c_X2_pair {l : Launch} {G : fk_G} {b0 : Nat} {n : Nat} {a0 : Option Nat} {a1 : Int32} {a2 : Int32} {m0 : fk_M} {r : Int32} {mF : fk_M} (hf : f_X2_pair a0 a1 a2 m0 = some (r, mF)) : fk_Ct l G b0 yX2_pair cX2_pair 3 (some .int) 3 103 [tR a0, tI a1, tI a2] n m0 (some (tI r)) n mF 0 0 := by
  refine fk_enter n_X2_pair.1 rfl ?_
  intro E X0 Y
  have X : fk_X E l G b0 "FigureKneeModel" "pair" cX2_pair 3 3 103 0 0 := X0
  show fk_W E 3 n m0 0 0 0 [(0, tR a0), (1, tI a1), (2, tI a2)] []
  unfold f_X2_pair at hf
  refine fk_aload_n X 0 dX2_pair_0 rfl ?_
  obtain ⟨u1, hq, hf⟩ := bI hf
  obtain ⟨m2, hv, hf⟩ := bI hf
  refine fk_callV0V (ci := 1) (rest := []) X hq rfl (c_X2_good hv) n_X2_good q1665 q1667 qs63 q126 q1668 rfl dX2_pair_1 rfl rfl rfl rfl rfl (Nat.le_refl _) (Nat.le_refl _) ?_
  refine fk_aload_n X 0 dX2_pair_4 rfl ?_
  refine fk_iload_n X 1 dX2_pair_5 rfl ?_
  obtain ⟨u3, hq, hf⟩ := bI hf
  obtain ⟨z4, hv, hf⟩ := bI hf
  refine fk_callV0I (ci := 1) (rest := []) X hq rfl (c_X2_isPair hv) n_X2_isPair q1820 q1822 qs87 q126 q1823 rfl dX2_pair_6 rfl rfl rfl rfl rfl (Nat.le_refl _) (Nat.le_refl _) ?_
  refine fk_if_eq' X 21 dX2_pair_9 rfl hf (fun hf => ?_) (fun hf => ?_)
  · exact fk_cut' (w_X2_pair_J21 X Y a0 m2 hf) [0] rfl
  · refine fk_iload_n X 2 dX2_pair_12 rfl ?_
    refine fk_iconst (v := 0) X dX2_pair_13 rfl ?_
    refine fk_iconst (v := 5) X dX2_pair_14 rfl ?_
    obtain ⟨z5, hv, hf⟩ := bI hf
    refine fk_callS0I (rest := []) X (c_X2_in hv) n_X2_in q1669 q1670 q126 q1671 dX2_pair_15 rfl rfl rfl rfl rfl (Nat.le_refl _) (Nat.le_refl _) ?_
    refine fk_if_ne' X 27 dX2_pair_18 rfl hf (fun hf => ?_) (fun hf => ?_)
    · refine fk_iload_n X 2 dX2_pair_27 rfl ?_
      by_cases hs1 : a2 = 0
      · rw [if_pos hs1] at hf
        refine fk_tableIn X 64 dX2_pair_28 (by rw [hs1]; decide) (by rw [hs1]; decide) (by rw [hs1]; rfl) rfl ?_
        refine fk_aload_n X 0 dX2_pair_64 rfl ?_
        refine fk_getR' X fd_1_15 q1541 dX2_pair_65 hf (fun z6 hf => ?_)
        refine fk_bipush (v := 8) X dX2_pair_68 rfl ?_
        refine fk_iload_n X 1 dX2_pair_70 rfl ?_
        refine fk_iadd X dX2_pair_71 ?_
        refine fk_iaload' X dX2_pair_72 hf (fun z7 hf => ?_)
        cases hf
        exact fk_ireturn X Y dX2_pair_73 rfl
      rw [if_neg hs1] at hf
      by_cases hs2 : a2 = 1
      · rw [if_pos hs2] at hf
        refine fk_tableIn X 74 dX2_pair_28 (by rw [hs2]; decide) (by rw [hs2]; decide) (by rw [hs2]; rfl) rfl ?_
        refine fk_aload_n X 0 dX2_pair_74 rfl ?_
        refine fk_getR' X fd_1_19 q1545 dX2_pair_75 hf (fun z8 hf => ?_)
        refine fk_iload_n X 1 dX2_pair_78 rfl ?_
        refine fk_iaload' X dX2_pair_79 hf (fun z9 hf => ?_)
        cases hf
        exact fk_ireturn X Y dX2_pair_80 rfl
      rw [if_neg hs2] at hf
      by_cases hs3 : a2 = 2
      · rw [if_pos hs3] at hf
        refine fk_tableIn X 81 dX2_pair_28 (by rw [hs3]; decide) (by rw [hs3]; decide) (by rw [hs3]; rfl) rfl ?_
        refine fk_aload_n X 0 dX2_pair_81 rfl ?_
        refine fk_getR' X fd_1_15 q1541 dX2_pair_82 hf (fun z10 hf => ?_)
        refine fk_iconst (v := 0) X dX2_pair_85 rfl ?_
        refine fk_iaload' X dX2_pair_86 hf (fun z11 hf => ?_)
        refine fk_aload_n X 0 dX2_pair_87 rfl ?_
        refine fk_getR' X fd_1_19 q1545 dX2_pair_88 hf (fun z12 hf => ?_)
        refine fk_iload_n X 1 dX2_pair_91 rfl ?_
        refine fk_iaload' X dX2_pair_92 hf (fun z13 hf => ?_)
        refine fk_isub X dX2_pair_93 ?_
        cases hf
        exact fk_ireturn X Y dX2_pair_94 rfl
      rw [if_neg hs3] at hf
      by_cases hs4 : a2 = 3
      · rw [if_pos hs4] at hf
        refine fk_tableIn X 95 dX2_pair_28 (by rw [hs4]; decide) (by rw [hs4]; decide) (by rw [hs4]; rfl) rfl ?_
        refine fk_aload_n X 0 dX2_pair_95 rfl ?_
        refine fk_getR' X fd_1_19 q1545 dX2_pair_96 hf (fun z14 hf => ?_)
        refine fk_iconst (v := 5) X dX2_pair_99 rfl ?_
        refine fk_iload_n X 1 dX2_pair_100 rfl ?_
        refine fk_iadd X dX2_pair_101 ?_
        refine fk_iaload' X dX2_pair_102 hf (fun z15 hf => ?_)
        cases hf
        exact fk_ireturn X Y dX2_pair_103 rfl
      rw [if_neg hs4] at hf
      by_cases hs5 : a2 = 4
      · rw [if_pos hs5] at hf
        refine fk_tableIn X 104 dX2_pair_28 (by rw [hs5]; decide) (by rw [hs5]; decide) (by rw [hs5]; rfl) rfl ?_
        refine fk_aload_n X 0 dX2_pair_104 rfl ?_
        refine fk_getR' X fd_1_15 q1541 dX2_pair_105 hf (fun z16 hf => ?_)
        refine fk_bipush (v := 13) X dX2_pair_108 rfl ?_
        refine fk_iload_n X 1 dX2_pair_110 rfl ?_
        refine fk_iadd X dX2_pair_111 ?_
        refine fk_iaload' X dX2_pair_112 hf (fun z17 hf => ?_)
        cases hf
        exact fk_ireturn X Y dX2_pair_113 rfl
      rw [if_neg hs5] at hf
      refine fk_tableOut X 114 dX2_pair_28 (by have e0 := lv_neT hs1 (show (0 : Int32).toInt = 0 from by decide); have e1 := lv_neT hs2 (show (1 : Int32).toInt = 1 from by decide); have e2 := lv_neT hs3 (show (2 : Int32).toInt = 2 from by decide); have e3 := lv_neT hs4 (show (3 : Int32).toInt = 3 from by decide); have e4 := lv_neT hs5 (show (4 : Int32).toInt = 4 from by decide); omega) rfl ?_
      refine fk_aload_n X 0 dX2_pair_114 rfl ?_
      refine fk_aload_n X 0 dX2_pair_115 rfl ?_
      refine fk_getR' X fd_1_19 q1545 dX2_pair_116 hf (fun z18 hf => ?_)
      refine fk_iload_n X 1 dX2_pair_119 rfl ?_
      refine fk_iaload' X dX2_pair_120 hf (fun z19 hf => ?_)
      obtain ⟨u20, hq, hf⟩ := bI hf
      obtain ⟨z21, hv, hf⟩ := bI hf
      refine fk_callV0I (ci := 1) (rest := []) X hq rfl (c_X2_isMore hv) n_X2_isMore q1824 q1826 qs88 q126 q1827 rfl dX2_pair_121 rfl rfl rfl rfl rfl (Nat.le_refl _) (Nat.le_refl _) ?_
      have J6 : fk_W E 3 n m2 0 0 132 [] [tI (if z21 = 0 then (0 : Int32) else 1)] := by
        cases hf
        exact fk_ireturn X Y dX2_pair_132 rfl
      refine fk_if_eq X 131 dX2_pair_124 rfl (fun hc7 => ?_) (fun hc7 => ?_)
      · refine fk_iconst (v := 0) X dX2_pair_131 rfl ?_
        simp only [if_pos hc7] at J6
        exact fk_cut' J6 [] rfl
      · refine fk_iconst (v := 1) X dX2_pair_127 rfl ?_
        refine fk_goto X 132 dX2_pair_128 rfl ?_
        simp only [if_neg hc7] at J6
        exact fk_cut' J6 [] rfl
    · exact fk_cut' (w_X2_pair_J21 X Y a0 m2 hf) [0] rfl
/-! FigureKneeModel why (ZZ)I -/
theorem n_X2_why : fk_N yX2_why 2 := ⟨by decide +kernel, by decide +kernel, by decide +kernel, by decide +kernel⟩
def f_X2_why (a0 : Option Nat) (a1 : Int32) (a2 : Int32) (m : fk_M) : Option Int32 :=
  some (if a1 = 0 then (1 : Int32) else (if a2 = 0 then (2 : Int32) else 0))
set_option maxHeartbeats 4000000 in
theorem c_X2_why {l : Launch} {G : fk_G} {b0 : Nat} {n : Nat} {a0 : Option Nat} {a1 : Int32} {a2 : Int32} {m : fk_M} {r : Int32} (hf : f_X2_why a0 a1 a2 m = some r) : fk_Ct l G b0 yX2_why cX2_why 3 (some .int) 1 60 [tR a0, tI a1, tI a2] n m (some (tI r)) n m 0 0 := by
  refine fk_enter n_X2_why.1 rfl ?_
  intro E X0 Y
  have X : fk_X E l G b0 "FigureKneeModel" "why" cX2_why 3 1 60 0 0 := X0
  show fk_W E 3 n m 0 0 0 [(0, tR a0), (1, tI a1), (2, tI a2)] []
  unfold f_X2_why at hf
  refine fk_iload_n X 1 dX2_why_0 rfl ?_
  have J1 : fk_W E 3 n m 0 0 17 [] [tI (if a1 = 0 then (1 : Int32) else (if a2 = 0 then (2 : Int32) else 0))] := by
    cases hf
    exact fk_ireturn X Y dX2_why_17 rfl
  refine fk_if_ne X 8 dX2_why_1 rfl (fun hc2 => ?_) (fun hc2 => ?_)
  · refine fk_iload_n X 2 dX2_why_8 rfl ?_
    have J3 : fk_W E 3 n m 0 0 17 [] [tI (if a2 = 0 then (2 : Int32) else 0)] := by
      simp only [if_neg hc2] at J1
      exact fk_cut' J1 [] rfl
    refine fk_if_eq X 16 dX2_why_9 rfl (fun hc4 => ?_) (fun hc4 => ?_)
    · refine fk_iconst (v := 2) X dX2_why_16 rfl ?_
      simp only [if_pos hc4] at J3
      exact fk_cut' J3 [] rfl
    · refine fk_iconst (v := 0) X dX2_why_12 rfl ?_
      refine fk_goto X 17 dX2_why_13 rfl ?_
      simp only [if_neg hc4] at J3
      exact fk_cut' J3 [] rfl
  · refine fk_iconst (v := 1) X dX2_why_4 rfl ?_
    refine fk_goto X 17 dX2_why_5 rfl ?_
    simp only [if_pos hc2] at J1
    exact fk_cut' J1 [] rfl
/-! FigureKneeModel aheadWhy (ZI)I -/
theorem n_X2_aheadWhy : fk_N yX2_aheadWhy 2 := ⟨by decide +kernel, by decide +kernel, by decide +kernel, by decide +kernel⟩
def f_X2_aheadWhy (a0 : Option Nat) (a1 : Int32) (a2 : Int32) (m : fk_M) : Option Int32 :=
  (f_X2_in a2 0 60 m).bind fun z1 => (isO m a0 1).bind fun u2 => (f_X2_why a0 a1 z1 m).bind fun z3 => some z3
set_option maxHeartbeats 4000000 in
theorem c_X2_aheadWhy {l : Launch} {G : fk_G} {b0 : Nat} {n : Nat} {a0 : Option Nat} {a1 : Int32} {a2 : Int32} {m : fk_M} {r : Int32} (hf : f_X2_aheadWhy a0 a1 a2 m = some r) : fk_Ct l G b0 yX2_aheadWhy cX2_aheadWhy 3 (some .int) 2 82 [tR a0, tI a1, tI a2] n m (some (tI r)) n m 0 0 := by
  refine fk_enter n_X2_aheadWhy.1 rfl ?_
  intro E X0 Y
  have X : fk_X E l G b0 "FigureKneeModel" "aheadWhy" cX2_aheadWhy 3 2 82 0 0 := X0
  show fk_W E 3 n m 0 0 0 [(0, tR a0), (1, tI a1), (2, tI a2)] []
  unfold f_X2_aheadWhy at hf
  refine fk_aload_n X 0 dX2_aheadWhy_0 rfl ?_
  refine fk_iload_n X 1 dX2_aheadWhy_1 rfl ?_
  refine fk_iload_n X 2 dX2_aheadWhy_2 rfl ?_
  refine fk_iconst (v := 0) X dX2_aheadWhy_3 rfl ?_
  refine fk_bipush (v := 60) X dX2_aheadWhy_4 rfl ?_
  obtain ⟨z1, hv, hf⟩ := bI hf
  refine fk_callS0I (rest := [tI a1, tR a0]) X (c_X2_in hv) n_X2_in q1669 q1670 q126 q1671 dX2_aheadWhy_6 rfl rfl rfl rfl rfl (Nat.le_refl _) (Nat.le_refl _) ?_
  obtain ⟨u2, hq, hf⟩ := bI hf
  obtain ⟨z3, hv, hf⟩ := bI hf
  refine fk_callV0I (ci := 1) (rest := []) X hq rfl (c_X2_why hv) n_X2_why q1836 q1838 qs90 q126 q1839 rfl dX2_aheadWhy_9 rfl rfl rfl rfl rfl (Nat.le_refl _) (Nat.le_refl _) ?_
  cases hf
  exact fk_ireturn X Y dX2_aheadWhy_12 rfl
/-! FigureKneeModel within (I)I -/
theorem n_X2_within : fk_N yX2_within 1 := ⟨by decide +kernel, by decide +kernel, by decide +kernel, by decide +kernel⟩
def f_X2_within (a0 : Option Nat) (a1 : Int32) (m : fk_M) : Option Int32 :=
  if 0 ≤ a1 then ((gR m a0 1 15).bind fun z1 => (aI m z1 0 0).bind fun z2 => if a1 ≤ z2 then (some a1) else ((gR m a0 1 15).bind fun z3 => (aI m z3 0 0).bind fun z4 => some z4)) else (some 0)
set_option maxHeartbeats 4000000 in
theorem c_X2_within {l : Launch} {G : fk_G} {b0 : Nat} {n : Nat} {a0 : Option Nat} {a1 : Int32} {m : fk_M} {r : Int32} (hf : f_X2_within a0 a1 m = some r) : fk_Ct l G b0 yX2_within cX2_within 2 (some .int) 1 60 [tR a0, tI a1] n m (some (tI r)) n m 0 0 := by
  refine fk_enter n_X2_within.1 rfl ?_
  intro E X0 Y
  have X : fk_X E l G b0 "FigureKneeModel" "within" cX2_within 2 1 60 0 0 := X0
  show fk_W E 2 n m 0 0 0 [(0, tR a0), (1, tI a1)] []
  unfold f_X2_within at hf
  refine fk_iload_n X 1 dX2_within_0 rfl ?_
  refine fk_if_ge' X 8 dX2_within_1 rfl hf (fun hf => ?_) (fun hf => ?_)
  · refine fk_iload_n X 1 dX2_within_8 rfl ?_
    refine fk_aload_n X 0 dX2_within_9 rfl ?_
    refine fk_getR' X fd_1_15 q1541 dX2_within_10 hf (fun z1 hf => ?_)
    refine fk_iconst (v := 0) X dX2_within_13 rfl ?_
    refine fk_iaload' X dX2_within_14 hf (fun z2 hf => ?_)
    refine fk_icmp_le' X 27 dX2_within_15 rfl hf (fun hf => ?_) (fun hf => ?_)
    · refine fk_iload_n X 1 dX2_within_27 rfl ?_
      cases hf
      exact fk_ireturn X Y dX2_within_28 rfl
    · refine fk_aload_n X 0 dX2_within_18 rfl ?_
      refine fk_getR' X fd_1_15 q1541 dX2_within_19 hf (fun z3 hf => ?_)
      refine fk_iconst (v := 0) X dX2_within_22 rfl ?_
      refine fk_iaload' X dX2_within_23 hf (fun z4 hf => ?_)
      refine fk_goto X 28 dX2_within_24 rfl ?_
      cases hf
      exact fk_ireturn X Y dX2_within_28 rfl
  · refine fk_iconst (v := 0) X dX2_within_4 rfl ?_
    refine fk_goto X 28 dX2_within_5 rfl ?_
    cases hf
    exact fk_ireturn X Y dX2_within_28 rfl
/-! FigureKneeModel byLaw (III)I -/
theorem n_X2_byLaw : fk_N yX2_byLaw 3 := ⟨by decide +kernel, by decide +kernel, by decide +kernel, by decide +kernel⟩
def f_X2_byLaw_J59 (y0 : Int32) (y1 : Option Nat) (m : fk_M) : Option Int32 :=
  (isO m y1 1).bind fun u1 => (f_X2_within y1 y0 m).bind fun z2 => some z2
set_option maxHeartbeats 4000000 in
theorem w_X2_byLaw_J59 {E : fk_E} {l : Launch} {G : fk_G} {b0 n : Nat} {m : fk_M} {r : Int32} (X : fk_X E l G b0 "FigureKneeModel" "byLaw" cX2_byLaw 5 2 81 0 0) (Y : fk_Y E (some .int) (some (tI r)) n m 0 0)  (y0 : Int32) (y1 : Option Nat) (hf : f_X2_byLaw_J59 y0 y1 m = some r) : fk_W E 5 n m 0 0 59 [] [tI y0, tR y1] := by
  unfold f_X2_byLaw_J59 at hf
  obtain ⟨u1, hq, hf⟩ := bI hf
  obtain ⟨z2, hv, hf⟩ := bI hf
  refine fk_callV0I (ci := 1) (rest := []) X hq rfl (c_X2_within hv) n_X2_within q1856 q1858 qs95 q126 q1859 rfl dX2_byLaw_59 rfl rfl rfl rfl rfl (Nat.le_refl _) (Nat.le_refl _) ?_
  cases hf
  exact fk_ireturn X Y dX2_byLaw_62 rfl
def f_X2_byLaw (a0 : Option Nat) (a1 : Int32) (a2 : Int32) (a3 : Int32) (m : fk_M) : Option Int32 :=
  (gR m a0 1 15).bind fun z1 => (aI m z1 0 (8 + a1)).bind fun z2 => if z2 = 0 then (f_X2_byLaw_J59 (a2 + a3) a0 m) else (if z2 = 1 then (f_X2_byLaw_J59 ((2 * a2) + a3) a0 m) else (if z2 = 2 then (f_X2_byLaw_J59 (a2 - a3) a0 m) else ((gR m a0 1 15).bind fun z3 => (aI m z3 0 0).bind fun z4 => f_X2_byLaw_J59 ((z4 - a2) + a3) a0 m)))
set_option maxHeartbeats 4000000 in
theorem c_X2_byLaw {l : Launch} {G : fk_G} {b0 : Nat} {n : Nat} {a0 : Option Nat} {a1 : Int32} {a2 : Int32} {a3 : Int32} {m : fk_M} {r : Int32} (hf : f_X2_byLaw a0 a1 a2 a3 m = some r) : fk_Ct l G b0 yX2_byLaw cX2_byLaw 5 (some .int) 2 81 [tR a0, tI a1, tI a2, tI a3] n m (some (tI r)) n m 0 0 := by
  refine fk_enter n_X2_byLaw.1 rfl ?_
  intro E X0 Y
  have X : fk_X E l G b0 "FigureKneeModel" "byLaw" cX2_byLaw 5 2 81 0 0 := X0
  show fk_W E 5 n m 0 0 0 [(0, tR a0), (1, tI a1), (2, tI a2), (3, tI a3)] []
  unfold f_X2_byLaw at hf
  refine fk_aload_n X 0 dX2_byLaw_0 rfl ?_
  refine fk_getR' X fd_1_15 q1541 dX2_byLaw_1 hf (fun z1 hf => ?_)
  refine fk_bipush (v := 8) X dX2_byLaw_4 rfl ?_
  refine fk_iload_n X 1 dX2_byLaw_6 rfl ?_
  refine fk_iadd X dX2_byLaw_7 ?_
  refine fk_iaload' X dX2_byLaw_8 hf (fun z2 hf => ?_)
  refine fk_istore X [(4, tI z2), (0, tR a0), (1, tI a1), (2, tI a2), (3, tI a3)] dX2_byLaw_9 rfl rfl ?_
  refine fk_aload_n X 1 dX2_byLaw_11 rfl ?_
  refine fk_iload X 0 dX2_byLaw_12 rfl ?_
  refine fk_if_ne' X 23 dX2_byLaw_14 rfl hf (fun hf => ?_) (fun hf => ?_)
  · refine fk_iload X 0 dX2_byLaw_23 rfl ?_
    refine fk_iconst (v := 1) X dX2_byLaw_25 rfl ?_
    refine fk_icmp_ne' X 37 dX2_byLaw_26 rfl hf (fun hf => ?_) (fun hf => ?_)
    · refine fk_iload X 0 dX2_byLaw_37 rfl ?_
      refine fk_iconst (v := 2) X dX2_byLaw_39 rfl ?_
      refine fk_icmp_ne' X 49 dX2_byLaw_40 rfl hf (fun hf => ?_) (fun hf => ?_)
      · refine fk_aload_n X 1 dX2_byLaw_49 rfl ?_
        refine fk_getR' X fd_1_15 q1541 dX2_byLaw_50 hf (fun z3 hf => ?_)
        refine fk_iconst (v := 0) X dX2_byLaw_53 rfl ?_
        refine fk_iaload' X dX2_byLaw_54 hf (fun z4 hf => ?_)
        refine fk_iload_n X 3 dX2_byLaw_55 rfl ?_
        refine fk_isub X dX2_byLaw_56 ?_
        refine fk_iload_n X 4 dX2_byLaw_57 rfl ?_
        refine fk_iadd X dX2_byLaw_58 ?_
        exact fk_cut' (w_X2_byLaw_J59 X Y ((z4 - a2) + a3) a0 hf) [] rfl
      · refine fk_iload_n X 3 dX2_byLaw_43 rfl ?_
        refine fk_iload_n X 4 dX2_byLaw_44 rfl ?_
        refine fk_isub X dX2_byLaw_45 ?_
        refine fk_goto X 59 dX2_byLaw_46 rfl ?_
        exact fk_cut' (w_X2_byLaw_J59 X Y (a2 - a3) a0 hf) [] rfl
    · refine fk_iconst (v := 2) X dX2_byLaw_29 rfl ?_
      refine fk_iload_n X 3 dX2_byLaw_30 rfl ?_
      refine fk_imul X dX2_byLaw_31 ?_
      refine fk_iload_n X 4 dX2_byLaw_32 rfl ?_
      refine fk_iadd X dX2_byLaw_33 ?_
      refine fk_goto X 59 dX2_byLaw_34 rfl ?_
      exact fk_cut' (w_X2_byLaw_J59 X Y ((2 * a2) + a3) a0 hf) [] rfl
  · refine fk_iload_n X 3 dX2_byLaw_17 rfl ?_
    refine fk_iload_n X 4 dX2_byLaw_18 rfl ?_
    refine fk_iadd X dX2_byLaw_19 ?_
    refine fk_goto X 59 dX2_byLaw_20 rfl ?_
    exact fk_cut' (w_X2_byLaw_J59 X Y (a2 + a3) a0 hf) [] rfl
/-! FigureKneeModel behind (IIIIIZ)I -/
theorem n_X2_behind : fk_N yX2_behind 6 := ⟨by decide +kernel, by decide +kernel, by decide +kernel, by decide +kernel⟩
def f_X2_behind_J16 (x0 : Option Nat) (x4 : Int32) (x5 : Int32) (y0 : Int32) (m : fk_M) : Option Int32 :=
  if x4 ≤ 0 then (some y0) else (if x4 = 0 then none else (if (i_rem x5 x4) = 0 then ((gR m x0 1 15).bind fun z1 => (aI m z1 0 0).bind fun z2 => some (z2 - y0)) else (some y0)))
set_option maxHeartbeats 4000000 in
theorem w_X2_behind_J16 {E : fk_E} {l : Launch} {G : fk_G} {b0 n : Nat} {m : fk_M} {r : Int32} (X : fk_X E l G b0 "FigureKneeModel" "behind" cX2_behind 8 3 105 0 0) (Y : fk_Y E (some .int) (some (tI r)) n m 0 0) (x0 : Option Nat) (x4 : Int32) (x5 : Int32) (y0 : Int32) (hf : f_X2_behind_J16 x0 x4 x5 y0 m = some r) : fk_W E 8 n m 0 0 16 [(0, tR x0), (4, tI x4), (5, tI x5)] [tI y0] := by
  unfold f_X2_behind_J16 at hf
  refine fk_istore X [(7, tI y0), (0, tR x0), (4, tI x4), (5, tI x5)] dX2_behind_16 rfl rfl ?_
  refine fk_iload X 2 dX2_behind_18 rfl ?_
  refine fk_if_le' X 43 dX2_behind_20 rfl hf (fun hf => ?_) (fun hf => ?_)
  · refine fk_iload X 0 dX2_behind_43 rfl ?_
    cases hf
    exact fk_ireturn X Y dX2_behind_45 rfl
  · refine fk_iload X 3 dX2_behind_23 rfl ?_
    refine fk_iload X 2 dX2_behind_25 rfl ?_
    refine fk_irem' X dX2_behind_27 hf (fun hf => ?_)
    refine fk_if_ne' X 43 dX2_behind_28 rfl hf (fun hf => ?_) (fun hf => ?_)
    · refine fk_iload X 0 dX2_behind_43 rfl ?_
      cases hf
      exact fk_ireturn X Y dX2_behind_45 rfl
    · refine fk_aload_n X 1 dX2_behind_31 rfl ?_
      refine fk_getR' X fd_1_15 q1541 dX2_behind_32 hf (fun z1 hf => ?_)
      refine fk_iconst (v := 0) X dX2_behind_35 rfl ?_
      refine fk_iaload' X dX2_behind_36 hf (fun z2 hf => ?_)
      refine fk_iload X 0 dX2_behind_37 rfl ?_
      refine fk_isub X dX2_behind_39 ?_
      refine fk_goto X 45 dX2_behind_40 rfl ?_
      cases hf
      exact fk_ireturn X Y dX2_behind_45 rfl
def f_X2_behind (a0 : Option Nat) (a1 : Int32) (a2 : Int32) (a3 : Int32) (a4 : Int32) (a5 : Int32) (a6 : Int32) (m : fk_M) : Option Int32 :=
  if a6 = 0 then ((isO m a0 1).bind fun u1 => (f_X2_byLaw a0 a1 a2 a3 m).bind fun z2 => f_X2_behind_J16 a0 a4 a5 z2 m) else (f_X2_behind_J16 a0 a4 a5 a2 m)
set_option maxHeartbeats 4000000 in
theorem c_X2_behind {l : Launch} {G : fk_G} {b0 : Nat} {n : Nat} {a0 : Option Nat} {a1 : Int32} {a2 : Int32} {a3 : Int32} {a4 : Int32} {a5 : Int32} {a6 : Int32} {m : fk_M} {r : Int32} (hf : f_X2_behind a0 a1 a2 a3 a4 a5 a6 m = some r) : fk_Ct l G b0 yX2_behind cX2_behind 8 (some .int) 3 105 [tR a0, tI a1, tI a2, tI a3, tI a4, tI a5, tI a6] n m (some (tI r)) n m 0 0 := by
  refine fk_enter n_X2_behind.1 rfl ?_
  intro E X0 Y
  have X : fk_X E l G b0 "FigureKneeModel" "behind" cX2_behind 8 3 105 0 0 := X0
  show fk_W E 8 n m 0 0 0 [(0, tR a0), (1, tI a1), (2, tI a2), (3, tI a3), (4, tI a4), (5, tI a5), (6, tI a6)] []
  unfold f_X2_behind at hf
  refine fk_iload X 6 dX2_behind_0 rfl ?_
  refine fk_if_eq' X 9 dX2_behind_2 rfl hf (fun hf => ?_) (fun hf => ?_)
  · refine fk_aload_n X 0 dX2_behind_9 rfl ?_
    refine fk_iload_n X 1 dX2_behind_10 rfl ?_
    refine fk_iload_n X 2 dX2_behind_11 rfl ?_
    refine fk_iload_n X 3 dX2_behind_12 rfl ?_
    obtain ⟨u1, hq, hf⟩ := bI hf
    obtain ⟨z2, hv, hf⟩ := bI hf
    refine fk_callV0I (ci := 1) (rest := []) X hq rfl (c_X2_byLaw hv) n_X2_byLaw q1852 q1854 qs94 q126 q1855 rfl dX2_behind_13 rfl rfl rfl rfl rfl (Nat.le_refl _) (Nat.le_refl _) ?_
    exact fk_cut' (w_X2_behind_J16 X Y a0 a4 a5 z2 hf) [0, 4, 5] rfl
  · refine fk_iload_n X 2 dX2_behind_5 rfl ?_
    refine fk_goto X 16 dX2_behind_6 rfl ?_
    exact fk_cut' (w_X2_behind_J16 X Y a0 a4 a5 a2 hf) [0, 4, 5] rfl
/-! FigureKneeModel saysBy (IIII)I -/
theorem n_X2_saysBy : fk_N yX2_saysBy 4 := ⟨by decide +kernel, by decide +kernel, by decide +kernel, by decide +kernel⟩
def f_X2_saysBy_L11 (x0 : Option Nat) (x1 : Int32) (x2 : Int32) (x3 : Int32) (x4 : Int32) (m : fk_M) : Nat → Int32 → Int32 → Option Int32
  | 0, _, _ => none
  | N + 1, x5, x6 =>
  if x2 < x6 then (some x5) else ((gR m x0 1 19).bind fun z1 => (aI m z1 0 35).bind fun z2 => (isO m x0 1).bind fun u3 => (f_X2_behind x0 x1 x5 x3 x4 (z2 + x6) 0 m).bind fun z4 => f_X2_saysBy_L11 x0 x1 x2 x3 x4 m N z4 (x6 + 1))
set_option maxHeartbeats 4000000 in
theorem w_X2_saysBy_L11 {E : fk_E} {l : Launch} {G : fk_G} {b0 n : Nat} {m : fk_M} {r : Int32} (X : fk_X E l G b0 "FigureKneeModel" "saysBy" cX2_saysBy 7 4 132 0 0) (Y : fk_Y E (some .int) (some (tI r)) n m 0 0) (x0 : Option Nat) (x1 : Int32) (x2 : Int32) (x3 : Int32) (x4 : Int32) : ∀ (N : Nat) (x5 : Int32) (x6 : Int32), f_X2_saysBy_L11 x0 x1 x2 x3 x4 m N x5 x6 = some r → fk_W E 7 n m 0 0 11 [(0, tR x0), (1, tI x1), (2, tI x2), (3, tI x3), (4, tI x4), (5, tI x5), (6, tI x6)] [] := by
  intro N
  induction N with
  | zero =>
    intro x5 x6 hf
    have hf : (none : Option Int32) = some _ := hf
    cases hf
  | succ N ih =>
    intro x5 x6 hf
    rw [f_X2_saysBy_L11] at hf
    refine fk_iload X 6 dX2_saysBy_11 rfl ?_
    refine fk_iload_n X 2 dX2_saysBy_13 rfl ?_
    refine fk_icmp_gt' X 46 dX2_saysBy_14 rfl hf (fun hf => ?_) (fun hf => ?_)
    · refine fk_iload X 5 dX2_saysBy_46 rfl ?_
      cases hf
      exact fk_ireturn X Y dX2_saysBy_48 rfl
    · refine fk_aload_n X 0 dX2_saysBy_17 rfl ?_
      refine fk_iload_n X 1 dX2_saysBy_18 rfl ?_
      refine fk_iload X 5 dX2_saysBy_19 rfl ?_
      refine fk_iload_n X 3 dX2_saysBy_21 rfl ?_
      refine fk_iload X 4 dX2_saysBy_22 rfl ?_
      refine fk_aload_n X 0 dX2_saysBy_24 rfl ?_
      refine fk_getR' X fd_1_19 q1545 dX2_saysBy_25 hf (fun z1 hf => ?_)
      refine fk_bipush (v := 35) X dX2_saysBy_28 rfl ?_
      refine fk_iaload' X dX2_saysBy_30 hf (fun z2 hf => ?_)
      refine fk_iload X 6 dX2_saysBy_31 rfl ?_
      refine fk_iadd X dX2_saysBy_33 ?_
      refine fk_iconst (v := 0) X dX2_saysBy_34 rfl ?_
      obtain ⟨u3, hq, hf⟩ := bI hf
      obtain ⟨z4, hv, hf⟩ := bI hf
      refine fk_callV0I (ci := 1) (rest := []) X hq rfl (c_X2_behind hv) n_X2_behind q1848 q1850 qs93 q126 q1851 rfl dX2_saysBy_35 rfl rfl rfl rfl rfl (Nat.le_refl _) (Nat.le_refl _) ?_
      refine fk_istore X [(5, tI z4), (0, tR x0), (1, tI x1), (2, tI x2), (3, tI x3), (4, tI x4), (6, tI x6)] dX2_saysBy_38 rfl rfl ?_
      refine fk_iinc X 6 [(6, tI (x6 + 1)), (5, tI z4), (0, tR x0), (1, tI x1), (2, tI x2), (3, tI x3), (4, tI x4)] dX2_saysBy_40 rfl rfl rfl rfl ?_
      refine fk_goto X 11 dX2_saysBy_43 rfl ?_
      exact fk_cut' (ih z4 (x6 + 1)  hf) [2, 3, 4, 5, 6, 1, 0] rfl
def f_X2_saysBy (a0 : Option Nat) (a1 : Int32) (a2 : Int32) (a3 : Int32) (a4 : Int32) (m : fk_M) : Option Int32 :=
  (gR m a0 1 19).bind fun z1 => (aI m z1 0 a1).bind fun z2 => f_X2_saysBy_L11 a0 a1 a2 a3 a4 m fk_fuel z2 1
set_option maxHeartbeats 4000000 in
theorem c_X2_saysBy {l : Launch} {G : fk_G} {b0 : Nat} {n : Nat} {a0 : Option Nat} {a1 : Int32} {a2 : Int32} {a3 : Int32} {a4 : Int32} {m : fk_M} {r : Int32} (hf : f_X2_saysBy a0 a1 a2 a3 a4 m = some r) : fk_Ct l G b0 yX2_saysBy cX2_saysBy 7 (some .int) 4 132 [tR a0, tI a1, tI a2, tI a3, tI a4] n m (some (tI r)) n m 0 0 := by
  refine fk_enter n_X2_saysBy.1 rfl ?_
  intro E X0 Y
  have X : fk_X E l G b0 "FigureKneeModel" "saysBy" cX2_saysBy 7 4 132 0 0 := X0
  show fk_W E 7 n m 0 0 0 [(0, tR a0), (1, tI a1), (2, tI a2), (3, tI a3), (4, tI a4)] []
  unfold f_X2_saysBy at hf
  refine fk_aload_n X 0 dX2_saysBy_0 rfl ?_
  refine fk_getR' X fd_1_19 q1545 dX2_saysBy_1 hf (fun z1 hf => ?_)
  refine fk_iload_n X 1 dX2_saysBy_4 rfl ?_
  refine fk_iaload' X dX2_saysBy_5 hf (fun z2 hf => ?_)
  refine fk_istore X [(5, tI z2), (0, tR a0), (1, tI a1), (2, tI a2), (3, tI a3), (4, tI a4)] dX2_saysBy_6 rfl rfl ?_
  refine fk_iconst (v := 1) X dX2_saysBy_8 rfl ?_
  refine fk_istore X [(6, tI 1), (5, tI z2), (0, tR a0), (1, tI a1), (2, tI a2), (3, tI a3), (4, tI a4)] dX2_saysBy_9 rfl rfl ?_
  exact fk_cut' (w_X2_saysBy_L11 X Y a0 a1 a2 a3 a4 fk_fuel z2 1 hf) [2, 3, 4, 5, 6, 1, 0] rfl
/-! FigureKneeModel saysIn (II)I -/
theorem n_X2_saysIn : fk_N yX2_saysIn 2 := ⟨by decide +kernel, by decide +kernel, by decide +kernel, by decide +kernel⟩
def f_X2_saysIn (a0 : Option Nat) (a1 : Int32) (a2 : Int32) (m : fk_M) : Option Int32 :=
  (gR m a0 1 19).bind fun z1 => (aI m z1 0 (5 + a1)).bind fun z2 => (gR m a0 1 15).bind fun z3 => (aI m z3 0 (13 + a1)).bind fun z4 => (isO m a0 1).bind fun u5 => (f_X2_saysBy a0 a1 a2 z2 z4 m).bind fun z6 => some z6
set_option maxHeartbeats 4000000 in
theorem c_X2_saysIn {l : Launch} {G : fk_G} {b0 : Nat} {n : Nat} {a0 : Option Nat} {a1 : Int32} {a2 : Int32} {m : fk_M} {r : Int32} (hf : f_X2_saysIn a0 a1 a2 m = some r) : fk_Ct l G b0 yX2_saysIn cX2_saysIn 3 (some .int) 5 158 [tR a0, tI a1, tI a2] n m (some (tI r)) n m 0 0 := by
  refine fk_enter n_X2_saysIn.1 rfl ?_
  intro E X0 Y
  have X : fk_X E l G b0 "FigureKneeModel" "saysIn" cX2_saysIn 3 5 158 0 0 := X0
  show fk_W E 3 n m 0 0 0 [(0, tR a0), (1, tI a1), (2, tI a2)] []
  unfold f_X2_saysIn at hf
  refine fk_aload_n X 0 dX2_saysIn_0 rfl ?_
  refine fk_iload_n X 1 dX2_saysIn_1 rfl ?_
  refine fk_iload_n X 2 dX2_saysIn_2 rfl ?_
  refine fk_aload_n X 0 dX2_saysIn_3 rfl ?_
  refine fk_getR' X fd_1_19 q1545 dX2_saysIn_4 hf (fun z1 hf => ?_)
  refine fk_iconst (v := 5) X dX2_saysIn_7 rfl ?_
  refine fk_iload_n X 1 dX2_saysIn_8 rfl ?_
  refine fk_iadd X dX2_saysIn_9 ?_
  refine fk_iaload' X dX2_saysIn_10 hf (fun z2 hf => ?_)
  refine fk_aload_n X 0 dX2_saysIn_11 rfl ?_
  refine fk_getR' X fd_1_15 q1541 dX2_saysIn_12 hf (fun z3 hf => ?_)
  refine fk_bipush (v := 13) X dX2_saysIn_15 rfl ?_
  refine fk_iload_n X 1 dX2_saysIn_17 rfl ?_
  refine fk_iadd X dX2_saysIn_18 ?_
  refine fk_iaload' X dX2_saysIn_19 hf (fun z4 hf => ?_)
  obtain ⟨u5, hq, hf⟩ := bI hf
  obtain ⟨z6, hv, hf⟩ := bI hf
  refine fk_callV0I (ci := 1) (rest := []) X hq rfl (c_X2_saysBy hv) n_X2_saysBy q1844 q1846 qs92 q126 q1847 rfl dX2_saysIn_20 rfl rfl rfl rfl rfl (Nat.le_refl _) (Nat.le_refl _) ?_
  cases hf
  exact fk_ireturn X Y dX2_saysIn_23 rfl
/-! FigureKneeModel says (II)I -/
theorem n_X2_says : fk_N yX2_says 2 := ⟨by decide +kernel, by decide +kernel, by decide +kernel, by decide +kernel⟩
def f_X2_says (a0 : Option Nat) (a1 : Int32) (a2 : Int32) (m0 : fk_M) : Option (Int32 × fk_M) :=
  (isO m0 a0 1).bind fun u1 => (f_X2_good a0 m0).bind fun m2 => (isO m2 a0 1).bind fun u3 => (f_X2_isPair a0 a1 m2).bind fun z4 => (isO m2 a0 1).bind fun u5 => (f_X2_aheadWhy a0 z4 a2 m2).bind fun z6 => if z6 = 0 then ((isO m2 a0 1).bind fun u7 => (f_X2_saysIn a0 a1 a2 m2).bind fun z8 => some (z8, m2)) else ((isO m2 a0 1).bind fun u9 => bn2 (f_X2_no a0 z6 m2) fun z10 m11 => some (z10, m11))
set_option maxHeartbeats 4000000 in
theorem c_X2_says {l : Launch} {G : fk_G} {b0 : Nat} {n : Nat} {a0 : Option Nat} {a1 : Int32} {a2 : Int32} {m0 : fk_M} {r : Int32} {mF : fk_M} (hf : f_X2_says a0 a1 a2 m0 = some (r, mF)) : fk_Ct l G b0 yX2_says cX2_says 4 (some .int) 6 180 [tR a0, tI a1, tI a2] n m0 (some (tI r)) n mF 0 0 := by
  refine fk_enter n_X2_says.1 rfl ?_
  intro E X0 Y
  have X : fk_X E l G b0 "FigureKneeModel" "says" cX2_says 4 6 180 0 0 := X0
  show fk_W E 4 n m0 0 0 0 [(0, tR a0), (1, tI a1), (2, tI a2)] []
  unfold f_X2_says at hf
  refine fk_aload_n X 0 dX2_says_0 rfl ?_
  obtain ⟨u1, hq, hf⟩ := bI hf
  obtain ⟨m2, hv, hf⟩ := bI hf
  refine fk_callV0V (ci := 1) (rest := []) X hq rfl (c_X2_good hv) n_X2_good q1665 q1667 qs63 q126 q1668 rfl dX2_says_1 rfl rfl rfl rfl rfl (Nat.le_refl _) (Nat.le_refl _) ?_
  refine fk_aload_n X 0 dX2_says_4 rfl ?_
  refine fk_aload_n X 0 dX2_says_5 rfl ?_
  refine fk_iload_n X 1 dX2_says_6 rfl ?_
  obtain ⟨u3, hq, hf⟩ := bI hf
  obtain ⟨z4, hv, hf⟩ := bI hf
  refine fk_callV0I (ci := 1) (rest := [tR a0]) X hq rfl (c_X2_isPair hv) n_X2_isPair q1820 q1822 qs87 q126 q1823 rfl dX2_says_7 rfl rfl rfl rfl rfl (Nat.le_refl _) (Nat.le_refl _) ?_
  refine fk_iload_n X 2 dX2_says_10 rfl ?_
  obtain ⟨u5, hq, hf⟩ := bI hf
  obtain ⟨z6, hv, hf⟩ := bI hf
  refine fk_callV0I (ci := 1) (rest := []) X hq rfl (c_X2_aheadWhy hv) n_X2_aheadWhy q1832 q1834 qs89 q126 q1835 rfl dX2_says_11 rfl rfl rfl rfl rfl (Nat.le_refl _) (Nat.le_refl _) ?_
  refine fk_istore_n X [(3, tI z6), (0, tR a0), (1, tI a1), (2, tI a2)] dX2_says_14 rfl rfl ?_
  refine fk_iload_n X 0 dX2_says_15 rfl ?_
  refine fk_if_eq' X 27 dX2_says_16 rfl hf (fun hf => ?_) (fun hf => ?_)
  · refine fk_aload_n X 1 dX2_says_27 rfl ?_
    refine fk_iload_n X 2 dX2_says_28 rfl ?_
    refine fk_iload_n X 3 dX2_says_29 rfl ?_
    obtain ⟨u7, hq, hf⟩ := bI hf
    obtain ⟨z8, hv, hf⟩ := bI hf
    refine fk_callV0I (ci := 1) (rest := []) X hq rfl (c_X2_saysIn hv) n_X2_saysIn q1840 q1842 qs91 q126 q1843 rfl dX2_says_30 rfl rfl rfl rfl rfl (Nat.le_refl _) (Nat.le_refl _) ?_
    cases hf
    exact fk_ireturn X Y dX2_says_33 rfl
  · refine fk_aload_n X 1 dX2_says_19 rfl ?_
    refine fk_iload_n X 0 dX2_says_20 rfl ?_
    obtain ⟨u9, hq, hf⟩ := bI hf
    obtain ⟨z10, m11, hv, hf⟩ := bn2_eq hf
    refine fk_callV0I (ci := 1) (rest := []) X hq rfl (c_X2_no hv) n_X2_no q1672 q1674 qs64 q126 q1675 rfl dX2_says_21 rfl rfl rfl rfl rfl (Nat.le_refl _) (Nat.le_refl _) ?_
    refine fk_goto X 33 dX2_says_24 rfl ?_
    cases hf
    exact fk_ireturn X Y dX2_says_33 rfl
/-! FigureKneeModel saysAll (II)I -/
theorem n_X2_saysAll : fk_N yX2_saysAll 2 := ⟨by decide +kernel, by decide +kernel, by decide +kernel, by decide +kernel⟩
def f_X2_saysAll_L31 (x0 : Option Nat) (x1 : Int32) (x2 : Int32) (m0 : fk_M) : Nat → Int32 → Int32 → Option (Int32 × fk_M)
  | 0, _, _ => none
  | N + 1, x4, x5 =>
  if x2 < x5 then (some (x4, m0)) else ((isO m0 x0 1).bind fun u1 => (f_X2_saysIn x0 x1 x5 m0).bind fun z2 => f_X2_saysAll_L31 x0 x1 x2 m0 N (x4 + z2) (x5 + 1))
set_option maxHeartbeats 4000000 in
theorem w_X2_saysAll_L31 {E : fk_E} {l : Launch} {G : fk_G} {b0 n : Nat} {r : Int32} {mF : fk_M} (X : fk_X E l G b0 "FigureKneeModel" "saysAll" cX2_saysAll 6 6 180 0 0) (Y : fk_Y E (some .int) (some (tI r)) n mF 0 0) (x0 : Option Nat) (x1 : Int32) (x2 : Int32) (m0 : fk_M) : ∀ (N : Nat) (x4 : Int32) (x5 : Int32), f_X2_saysAll_L31 x0 x1 x2 m0 N x4 x5 = some (r, mF) → fk_W E 6 n m0 0 0 31 [(0, tR x0), (1, tI x1), (2, tI x2), (4, tI x4), (5, tI x5)] [] := by
  intro N
  induction N with
  | zero =>
    intro x4 x5 hf
    have hf : (none : Option (Int32 × fk_M)) = some _ := hf
    cases hf
  | succ N ih =>
    intro x4 x5 hf
    rw [f_X2_saysAll_L31] at hf
    refine fk_iload X 4 dX2_saysAll_31 rfl ?_
    refine fk_iload_n X 2 dX2_saysAll_33 rfl ?_
    refine fk_icmp_gt' X 55 dX2_saysAll_34 rfl hf (fun hf => ?_) (fun hf => ?_)
    · refine fk_iload X 3 dX2_saysAll_55 rfl ?_
      cases hf
      exact fk_ireturn X Y dX2_saysAll_57 rfl
    · refine fk_iload X 3 dX2_saysAll_37 rfl ?_
      refine fk_aload_n X 0 dX2_saysAll_39 rfl ?_
      refine fk_iload_n X 1 dX2_saysAll_40 rfl ?_
      refine fk_iload X 4 dX2_saysAll_41 rfl ?_
      obtain ⟨u1, hq, hf⟩ := bI hf
      obtain ⟨z2, hv, hf⟩ := bI hf
      refine fk_callV0I (ci := 1) (rest := [tI x4]) X hq rfl (c_X2_saysIn hv) n_X2_saysIn q1840 q1842 qs91 q126 q1843 rfl dX2_saysAll_43 rfl rfl rfl rfl rfl (Nat.le_refl _) (Nat.le_refl _) ?_
      refine fk_iadd X dX2_saysAll_46 ?_
      refine fk_istore X [(4, tI (x4 + z2)), (0, tR x0), (1, tI x1), (2, tI x2), (5, tI x5)] dX2_saysAll_47 rfl rfl ?_
      refine fk_iinc X 4 [(5, tI (x5 + 1)), (4, tI (x4 + z2)), (0, tR x0), (1, tI x1), (2, tI x2)] dX2_saysAll_49 rfl rfl rfl rfl ?_
      refine fk_goto X 31 dX2_saysAll_52 rfl ?_
      exact fk_cut' (ih (x4 + z2) (x5 + 1)  hf) [2, 3, 4, 1, 0] rfl
def f_X2_saysAll (a0 : Option Nat) (a1 : Int32) (a2 : Int32) (m0 : fk_M) : Option (Int32 × fk_M) :=
  (isO m0 a0 1).bind fun u1 => (f_X2_good a0 m0).bind fun m2 => (isO m2 a0 1).bind fun u3 => (f_X2_isPair a0 a1 m2).bind fun z4 => (isO m2 a0 1).bind fun u5 => (f_X2_aheadWhy a0 z4 a2 m2).bind fun z6 => if z6 = 0 then (f_X2_saysAll_L31 a0 a1 a2 m2 fk_fuel 0 1) else ((isO m2 a0 1).bind fun u7 => bn2 (f_X2_no a0 z6 m2) fun z8 m9 => some (z8, m9))
set_option maxHeartbeats 4000000 in
theorem c_X2_saysAll {l : Launch} {G : fk_G} {b0 : Nat} {n : Nat} {a0 : Option Nat} {a1 : Int32} {a2 : Int32} {m0 : fk_M} {r : Int32} {mF : fk_M} (hf : f_X2_saysAll a0 a1 a2 m0 = some (r, mF)) : fk_Ct l G b0 yX2_saysAll cX2_saysAll 6 (some .int) 6 180 [tR a0, tI a1, tI a2] n m0 (some (tI r)) n mF 0 0 := by
  refine fk_enter n_X2_saysAll.1 rfl ?_
  intro E X0 Y
  have X : fk_X E l G b0 "FigureKneeModel" "saysAll" cX2_saysAll 6 6 180 0 0 := X0
  show fk_W E 6 n m0 0 0 0 [(0, tR a0), (1, tI a1), (2, tI a2)] []
  unfold f_X2_saysAll at hf
  refine fk_aload_n X 0 dX2_saysAll_0 rfl ?_
  obtain ⟨u1, hq, hf⟩ := bI hf
  obtain ⟨m2, hv, hf⟩ := bI hf
  refine fk_callV0V (ci := 1) (rest := []) X hq rfl (c_X2_good hv) n_X2_good q1665 q1667 qs63 q126 q1668 rfl dX2_saysAll_1 rfl rfl rfl rfl rfl (Nat.le_refl _) (Nat.le_refl _) ?_
  refine fk_aload_n X 0 dX2_saysAll_4 rfl ?_
  refine fk_aload_n X 0 dX2_saysAll_5 rfl ?_
  refine fk_iload_n X 1 dX2_saysAll_6 rfl ?_
  obtain ⟨u3, hq, hf⟩ := bI hf
  obtain ⟨z4, hv, hf⟩ := bI hf
  refine fk_callV0I (ci := 1) (rest := [tR a0]) X hq rfl (c_X2_isPair hv) n_X2_isPair q1820 q1822 qs87 q126 q1823 rfl dX2_saysAll_7 rfl rfl rfl rfl rfl (Nat.le_refl _) (Nat.le_refl _) ?_
  refine fk_iload_n X 2 dX2_saysAll_10 rfl ?_
  obtain ⟨u5, hq, hf⟩ := bI hf
  obtain ⟨z6, hv, hf⟩ := bI hf
  refine fk_callV0I (ci := 1) (rest := []) X hq rfl (c_X2_aheadWhy hv) n_X2_aheadWhy q1832 q1834 qs89 q126 q1835 rfl dX2_saysAll_11 rfl rfl rfl rfl rfl (Nat.le_refl _) (Nat.le_refl _) ?_
  refine fk_istore_n X [(3, tI z6), (0, tR a0), (1, tI a1), (2, tI a2)] dX2_saysAll_14 rfl rfl ?_
  refine fk_iload_n X 0 dX2_saysAll_15 rfl ?_
  refine fk_if_eq' X 25 dX2_saysAll_16 rfl hf (fun hf => ?_) (fun hf => ?_)
  · refine fk_iconst (v := 0) X dX2_saysAll_25 rfl ?_
    refine fk_istore X [(4, tI 0), (3, tI z6), (0, tR a0), (1, tI a1), (2, tI a2)] dX2_saysAll_26 rfl rfl ?_
    refine fk_iconst (v := 1) X dX2_saysAll_28 rfl ?_
    refine fk_istore X [(5, tI 1), (4, tI 0), (3, tI z6), (0, tR a0), (1, tI a1), (2, tI a2)] dX2_saysAll_29 rfl rfl ?_
    exact fk_cut' (w_X2_saysAll_L31 X Y a0 a1 a2 m2 fk_fuel 0 1 hf) [3, 4, 5, 1, 0] rfl
  · refine fk_aload_n X 1 dX2_saysAll_19 rfl ?_
    refine fk_iload_n X 0 dX2_saysAll_20 rfl ?_
    obtain ⟨u7, hq, hf⟩ := bI hf
    obtain ⟨z8, m9, hv, hf⟩ := bn2_eq hf
    refine fk_callV0I (ci := 1) (rest := []) X hq rfl (c_X2_no hv) n_X2_no q1672 q1674 qs64 q126 q1675 rfl dX2_saysAll_21 rfl rfl rfl rfl rfl (Nat.le_refl _) (Nat.le_refl _) ?_
    cases hf
    exact fk_ireturn X Y dX2_saysAll_24 rfl
/-! FigureKneeModel moreIn (I)I -/
theorem n_X2_moreIn : fk_N yX2_moreIn 1 := ⟨by decide +kernel, by decide +kernel, by decide +kernel, by decide +kernel⟩
def f_X2_moreIn_L20 (x0 : Option Nat) (x1 : Int32) (m0 : fk_M) : Nat → Int32 → Option (Int32 × fk_M)
  | 0, _ => none
  | N + 1, x2 =>
  if 60 < x2 then (some ((-2), m0)) else ((isO m0 x0 1).bind fun u1 => (f_X2_saysIn x0 x1 x2 m0).bind fun z2 => (isO m0 x0 1).bind fun u3 => (f_X2_isMore x0 z2 m0).bind fun z4 => if z4 = 0 then (f_X2_moreIn_L20 x0 x1 m0 N (x2 + 1)) else (some (x2, m0)))
set_option maxHeartbeats 4000000 in
theorem w_X2_moreIn_L20 {E : fk_E} {l : Launch} {G : fk_G} {b0 n : Nat} {r : Int32} {mF : fk_M} (X : fk_X E l G b0 "FigureKneeModel" "moreIn" cX2_moreIn 3 6 180 0 0) (Y : fk_Y E (some .int) (some (tI r)) n mF 0 0) (x0 : Option Nat) (x1 : Int32) (m0 : fk_M) : ∀ (N : Nat) (x2 : Int32), f_X2_moreIn_L20 x0 x1 m0 N x2 = some (r, mF) → fk_W E 3 n m0 0 0 20 [(0, tR x0), (1, tI x1), (2, tI x2)] [] := by
  intro N
  induction N with
  | zero =>
    intro x2 hf
    have hf : (none : Option (Int32 × fk_M)) = some _ := hf
    cases hf
  | succ N ih =>
    intro x2 hf
    rw [f_X2_moreIn_L20] at hf
    refine fk_iload_n X 2 dX2_moreIn_20 rfl ?_
    refine fk_bipush (v := 60) X dX2_moreIn_21 rfl ?_
    refine fk_icmp_gt' X 47 dX2_moreIn_23 rfl hf (fun hf => ?_) (fun hf => ?_)
    · refine fk_bipush (v := (-2)) X dX2_moreIn_47 rfl ?_
      cases hf
      exact fk_ireturn X Y dX2_moreIn_49 rfl
    · refine fk_aload_n X 0 dX2_moreIn_26 rfl ?_
      refine fk_aload_n X 0 dX2_moreIn_27 rfl ?_
      refine fk_iload_n X 1 dX2_moreIn_28 rfl ?_
      refine fk_iload_n X 2 dX2_moreIn_29 rfl ?_
      obtain ⟨u1, hq, hf⟩ := bI hf
      obtain ⟨z2, hv, hf⟩ := bI hf
      refine fk_callV0I (ci := 1) (rest := [tR x0]) X hq rfl (c_X2_saysIn hv) n_X2_saysIn q1840 q1842 qs91 q126 q1843 rfl dX2_moreIn_30 rfl rfl rfl rfl rfl (Nat.le_refl _) (Nat.le_refl _) ?_
      obtain ⟨u3, hq, hf⟩ := bI hf
      obtain ⟨z4, hv, hf⟩ := bI hf
      refine fk_callV0I (ci := 1) (rest := []) X hq rfl (c_X2_isMore hv) n_X2_isMore q1824 q1826 qs88 q126 q1827 rfl dX2_moreIn_33 rfl rfl rfl rfl rfl (Nat.le_refl _) (Nat.le_refl _) ?_
      refine fk_if_eq' X 41 dX2_moreIn_36 rfl hf (fun hf => ?_) (fun hf => ?_)
      · refine fk_iinc X 2 [(2, tI (x2 + 1)), (0, tR x0), (1, tI x1)] dX2_moreIn_41 rfl rfl rfl rfl ?_
        refine fk_goto X 20 dX2_moreIn_44 rfl ?_
        exact fk_cut' (ih (x2 + 1)  hf) [1, 2, 0] rfl
      · refine fk_iload_n X 2 dX2_moreIn_39 rfl ?_
        cases hf
        exact fk_ireturn X Y dX2_moreIn_40 rfl
def f_X2_moreIn (a0 : Option Nat) (a1 : Int32) (m0 : fk_M) : Option (Int32 × fk_M) :=
  (isO m0 a0 1).bind fun u1 => (f_X2_good a0 m0).bind fun m2 => (isO m2 a0 1).bind fun u3 => (f_X2_isPair a0 a1 m2).bind fun z4 => if z4 = 0 then ((isO m2 a0 1).bind fun u5 => bn2 (f_X2_no a0 1 m2) fun z6 m7 => some (z6, m7)) else (f_X2_moreIn_L20 a0 a1 m2 fk_fuel 0)
set_option maxHeartbeats 4000000 in
theorem c_X2_moreIn {l : Launch} {G : fk_G} {b0 : Nat} {n : Nat} {a0 : Option Nat} {a1 : Int32} {m0 : fk_M} {r : Int32} {mF : fk_M} (hf : f_X2_moreIn a0 a1 m0 = some (r, mF)) : fk_Ct l G b0 yX2_moreIn cX2_moreIn 3 (some .int) 6 180 [tR a0, tI a1] n m0 (some (tI r)) n mF 0 0 := by
  refine fk_enter n_X2_moreIn.1 rfl ?_
  intro E X0 Y
  have X : fk_X E l G b0 "FigureKneeModel" "moreIn" cX2_moreIn 3 6 180 0 0 := X0
  show fk_W E 3 n m0 0 0 0 [(0, tR a0), (1, tI a1)] []
  unfold f_X2_moreIn at hf
  refine fk_aload_n X 0 dX2_moreIn_0 rfl ?_
  obtain ⟨u1, hq, hf⟩ := bI hf
  obtain ⟨m2, hv, hf⟩ := bI hf
  refine fk_callV0V (ci := 1) (rest := []) X hq rfl (c_X2_good hv) n_X2_good q1665 q1667 qs63 q126 q1668 rfl dX2_moreIn_1 rfl rfl rfl rfl rfl (Nat.le_refl _) (Nat.le_refl _) ?_
  refine fk_aload_n X 0 dX2_moreIn_4 rfl ?_
  refine fk_iload_n X 1 dX2_moreIn_5 rfl ?_
  obtain ⟨u3, hq, hf⟩ := bI hf
  obtain ⟨z4, hv, hf⟩ := bI hf
  refine fk_callV0I (ci := 1) (rest := []) X hq rfl (c_X2_isPair hv) n_X2_isPair q1820 q1822 qs87 q126 q1823 rfl dX2_moreIn_6 rfl rfl rfl rfl rfl (Nat.le_refl _) (Nat.le_refl _) ?_
  refine fk_if_ne' X 18 dX2_moreIn_9 rfl hf (fun hf => ?_) (fun hf => ?_)
  · refine fk_iconst (v := 0) X dX2_moreIn_18 rfl ?_
    refine fk_istore_n X [(2, tI 0), (0, tR a0), (1, tI a1)] dX2_moreIn_19 rfl rfl ?_
    exact fk_cut' (w_X2_moreIn_L20 X Y a0 a1 m2 fk_fuel 0 hf) [1, 2, 0] rfl
  · refine fk_aload_n X 0 dX2_moreIn_12 rfl ?_
    refine fk_iconst (v := 1) X dX2_moreIn_13 rfl ?_
    obtain ⟨u5, hq, hf⟩ := bI hf
    obtain ⟨z6, m7, hv, hf⟩ := bn2_eq hf
    refine fk_callV0I (ci := 1) (rest := []) X hq rfl (c_X2_no hv) n_X2_no q1672 q1674 qs64 q126 q1675 rfl dX2_moreIn_14 rfl rfl rfl rfl rfl (Nat.le_refl _) (Nat.le_refl _) ?_
    cases hf
    exact fk_ireturn X Y dX2_moreIn_17 rfl
/-! FigureKneeModel moreTimes (II)I -/
theorem n_X2_moreTimes : fk_N yX2_moreTimes 2 := ⟨by decide +kernel, by decide +kernel, by decide +kernel, by decide +kernel⟩
def f_X2_moreTimes_L31 (x0 : Option Nat) (x1 : Int32) (x2 : Int32) (m0 : fk_M) : Nat → Int32 → Int32 → Option (Int32 × fk_M)
  | 0, _, _ => none
  | N + 1, x4, x5 =>
  if x2 < x5 then (some (x4, m0)) else ((isO m0 x0 1).bind fun u1 => (f_X2_saysIn x0 x1 x5 m0).bind fun z2 => (isO m0 x0 1).bind fun u3 => (f_X2_isMore x0 z2 m0).bind fun z4 => f_X2_moreTimes_L31 x0 x1 x2 m0 N (x4 + (if z4 = 0 then (0 : Int32) else 1)) (x5 + 1))
set_option maxHeartbeats 4000000 in
theorem w_X2_moreTimes_L31 {E : fk_E} {l : Launch} {G : fk_G} {b0 n : Nat} {r : Int32} {mF : fk_M} (X : fk_X E l G b0 "FigureKneeModel" "moreTimes" cX2_moreTimes 6 6 180 0 0) (Y : fk_Y E (some .int) (some (tI r)) n mF 0 0) (x0 : Option Nat) (x1 : Int32) (x2 : Int32) (m0 : fk_M) : ∀ (N : Nat) (x4 : Int32) (x5 : Int32), f_X2_moreTimes_L31 x0 x1 x2 m0 N x4 x5 = some (r, mF) → fk_W E 6 n m0 0 0 31 [(0, tR x0), (1, tI x1), (2, tI x2), (4, tI x4), (5, tI x5)] [] := by
  intro N
  induction N with
  | zero =>
    intro x4 x5 hf
    have hf : (none : Option (Int32 × fk_M)) = some _ := hf
    cases hf
  | succ N ih =>
    intro x4 x5 hf
    rw [f_X2_moreTimes_L31] at hf
    refine fk_iload X 4 dX2_moreTimes_31 rfl ?_
    refine fk_iload_n X 2 dX2_moreTimes_33 rfl ?_
    refine fk_icmp_gt' X 67 dX2_moreTimes_34 rfl hf (fun hf => ?_) (fun hf => ?_)
    · refine fk_iload X 3 dX2_moreTimes_67 rfl ?_
      cases hf
      exact fk_ireturn X Y dX2_moreTimes_69 rfl
    · refine fk_iload X 3 dX2_moreTimes_37 rfl ?_
      refine fk_aload_n X 0 dX2_moreTimes_39 rfl ?_
      refine fk_aload_n X 0 dX2_moreTimes_40 rfl ?_
      refine fk_iload_n X 1 dX2_moreTimes_41 rfl ?_
      refine fk_iload X 4 dX2_moreTimes_42 rfl ?_
      obtain ⟨u1, hq, hf⟩ := bI hf
      obtain ⟨z2, hv, hf⟩ := bI hf
      refine fk_callV0I (ci := 1) (rest := [tR x0, tI x4]) X hq rfl (c_X2_saysIn hv) n_X2_saysIn q1840 q1842 qs91 q126 q1843 rfl dX2_moreTimes_44 rfl rfl rfl rfl rfl (Nat.le_refl _) (Nat.le_refl _) ?_
      obtain ⟨u3, hq, hf⟩ := bI hf
      obtain ⟨z4, hv, hf⟩ := bI hf
      refine fk_callV0I (ci := 1) (rest := [tI x4]) X hq rfl (c_X2_isMore hv) n_X2_isMore q1824 q1826 qs88 q126 q1827 rfl dX2_moreTimes_47 rfl rfl rfl rfl rfl (Nat.le_refl _) (Nat.le_refl _) ?_
      have J1 : fk_W E 6 n m0 0 0 58 [(0, tR x0), (1, tI x1), (2, tI x2), (5, tI x5)] [tI (if z4 = 0 then (0 : Int32) else 1), tI x4] := by
        refine fk_iadd X dX2_moreTimes_58 ?_
        refine fk_istore X [(4, tI (x4 + (if z4 = 0 then (0 : Int32) else 1))), (0, tR x0), (1, tI x1), (2, tI x2), (5, tI x5)] dX2_moreTimes_59 rfl rfl ?_
        refine fk_iinc X 4 [(5, tI (x5 + 1)), (4, tI (x4 + (if z4 = 0 then (0 : Int32) else 1))), (0, tR x0), (1, tI x1), (2, tI x2)] dX2_moreTimes_61 rfl rfl rfl rfl ?_
        refine fk_goto X 31 dX2_moreTimes_64 rfl ?_
        exact fk_cut' (ih (x4 + (if z4 = 0 then (0 : Int32) else 1)) (x5 + 1)  hf) [2, 3, 4, 1, 0] rfl
      refine fk_if_eq X 57 dX2_moreTimes_50 rfl (fun hc2 => ?_) (fun hc2 => ?_)
      · refine fk_iconst (v := 0) X dX2_moreTimes_57 rfl ?_
        simp only [if_pos hc2] at J1
        exact fk_cut' J1 [0, 1, 2, 4] rfl
      · refine fk_iconst (v := 1) X dX2_moreTimes_53 rfl ?_
        refine fk_goto X 58 dX2_moreTimes_54 rfl ?_
        simp only [if_neg hc2] at J1
        exact fk_cut' J1 [0, 1, 2, 4] rfl
def f_X2_moreTimes (a0 : Option Nat) (a1 : Int32) (a2 : Int32) (m0 : fk_M) : Option (Int32 × fk_M) :=
  (isO m0 a0 1).bind fun u1 => (f_X2_good a0 m0).bind fun m2 => (isO m2 a0 1).bind fun u3 => (f_X2_isPair a0 a1 m2).bind fun z4 => (isO m2 a0 1).bind fun u5 => (f_X2_aheadWhy a0 z4 a2 m2).bind fun z6 => if z6 = 0 then (f_X2_moreTimes_L31 a0 a1 a2 m2 fk_fuel 0 1) else ((isO m2 a0 1).bind fun u7 => bn2 (f_X2_no a0 z6 m2) fun z8 m9 => some (z8, m9))
set_option maxHeartbeats 4000000 in
theorem c_X2_moreTimes {l : Launch} {G : fk_G} {b0 : Nat} {n : Nat} {a0 : Option Nat} {a1 : Int32} {a2 : Int32} {m0 : fk_M} {r : Int32} {mF : fk_M} (hf : f_X2_moreTimes a0 a1 a2 m0 = some (r, mF)) : fk_Ct l G b0 yX2_moreTimes cX2_moreTimes 6 (some .int) 6 180 [tR a0, tI a1, tI a2] n m0 (some (tI r)) n mF 0 0 := by
  refine fk_enter n_X2_moreTimes.1 rfl ?_
  intro E X0 Y
  have X : fk_X E l G b0 "FigureKneeModel" "moreTimes" cX2_moreTimes 6 6 180 0 0 := X0
  show fk_W E 6 n m0 0 0 0 [(0, tR a0), (1, tI a1), (2, tI a2)] []
  unfold f_X2_moreTimes at hf
  refine fk_aload_n X 0 dX2_moreTimes_0 rfl ?_
  obtain ⟨u1, hq, hf⟩ := bI hf
  obtain ⟨m2, hv, hf⟩ := bI hf
  refine fk_callV0V (ci := 1) (rest := []) X hq rfl (c_X2_good hv) n_X2_good q1665 q1667 qs63 q126 q1668 rfl dX2_moreTimes_1 rfl rfl rfl rfl rfl (Nat.le_refl _) (Nat.le_refl _) ?_
  refine fk_aload_n X 0 dX2_moreTimes_4 rfl ?_
  refine fk_aload_n X 0 dX2_moreTimes_5 rfl ?_
  refine fk_iload_n X 1 dX2_moreTimes_6 rfl ?_
  obtain ⟨u3, hq, hf⟩ := bI hf
  obtain ⟨z4, hv, hf⟩ := bI hf
  refine fk_callV0I (ci := 1) (rest := [tR a0]) X hq rfl (c_X2_isPair hv) n_X2_isPair q1820 q1822 qs87 q126 q1823 rfl dX2_moreTimes_7 rfl rfl rfl rfl rfl (Nat.le_refl _) (Nat.le_refl _) ?_
  refine fk_iload_n X 2 dX2_moreTimes_10 rfl ?_
  obtain ⟨u5, hq, hf⟩ := bI hf
  obtain ⟨z6, hv, hf⟩ := bI hf
  refine fk_callV0I (ci := 1) (rest := []) X hq rfl (c_X2_aheadWhy hv) n_X2_aheadWhy q1832 q1834 qs89 q126 q1835 rfl dX2_moreTimes_11 rfl rfl rfl rfl rfl (Nat.le_refl _) (Nat.le_refl _) ?_
  refine fk_istore_n X [(3, tI z6), (0, tR a0), (1, tI a1), (2, tI a2)] dX2_moreTimes_14 rfl rfl ?_
  refine fk_iload_n X 0 dX2_moreTimes_15 rfl ?_
  refine fk_if_eq' X 25 dX2_moreTimes_16 rfl hf (fun hf => ?_) (fun hf => ?_)
  · refine fk_iconst (v := 0) X dX2_moreTimes_25 rfl ?_
    refine fk_istore X [(4, tI 0), (3, tI z6), (0, tR a0), (1, tI a1), (2, tI a2)] dX2_moreTimes_26 rfl rfl ?_
    refine fk_iconst (v := 1) X dX2_moreTimes_28 rfl ?_
    refine fk_istore X [(5, tI 1), (4, tI 0), (3, tI z6), (0, tR a0), (1, tI a1), (2, tI a2)] dX2_moreTimes_29 rfl rfl ?_
    exact fk_cut' (w_X2_moreTimes_L31 X Y a0 a1 a2 m2 fk_fuel 0 1 hf) [3, 4, 5, 1, 0] rfl
  · refine fk_aload_n X 1 dX2_moreTimes_19 rfl ?_
    refine fk_iload_n X 0 dX2_moreTimes_20 rfl ?_
    obtain ⟨u7, hq, hf⟩ := bI hf
    obtain ⟨z8, m9, hv, hf⟩ := bn2_eq hf
    refine fk_callV0I (ci := 1) (rest := []) X hq rfl (c_X2_no hv) n_X2_no q1672 q1674 qs64 q126 q1675 rfl dX2_moreTimes_21 rfl rfl rfl rfl rfl (Nat.le_refl _) (Nat.le_refl _) ?_
    cases hf
    exact fk_ireturn X Y dX2_moreTimes_24 rfl
/-! FigureKneeModel isRoundOf (I)Z -/
theorem n_X2_isRoundOf : fk_N yX2_isRoundOf 1 := ⟨by decide +kernel, by decide +kernel, by decide +kernel, by decide +kernel⟩
def f_X2_isRoundOf_L13 (x0 : Option Nat) (x1 : Int32) (m : fk_M) : Nat → Int32 → Option Int32
  | 0, _ => none
  | N + 1, x2 =>
  (gI m x0 1 27).bind fun z1 => if z1 ≤ x2 then (some 1) else ((gR m x0 1 24).bind fun z2 => (gI m x0 1 26).bind fun z3 => (aI m z2 0 (z3 + x2)).bind fun z4 => (gR m x0 1 24).bind fun z5 => (gI m x0 1 26).bind fun z6 => (aI m z5 0 ((z6 + x2) + x1)).bind fun z7 => if z4 = z7 then (f_X2_isRoundOf_L13 x0 x1 m N (x2 + 1)) else (some 0))
set_option maxHeartbeats 4000000 in
theorem w_X2_isRoundOf_L13 {E : fk_E} {l : Launch} {G : fk_G} {b0 n : Nat} {m : fk_M} {r : Int32} (X : fk_X E l G b0 "FigureKneeModel" "isRoundOf" cX2_isRoundOf 3 1 60 0 0) (Y : fk_Y E (some .boolean) (some (tI r)) n m 0 0) (x0 : Option Nat) (x1 : Int32) : ∀ (N : Nat) (x2 : Int32), f_X2_isRoundOf_L13 x0 x1 m N x2 = some r → fk_W E 3 n m 0 0 13 [(0, tR x0), (1, tI x1), (2, tI x2)] [] := by
  intro N
  induction N with
  | zero =>
    intro x2 hf
    have hf : (none : Option Int32) = some _ := hf
    cases hf
  | succ N ih =>
    intro x2 hf
    rw [f_X2_isRoundOf_L13] at hf
    refine fk_iload_n X 2 dX2_isRoundOf_13 rfl ?_
    refine fk_aload_n X 0 dX2_isRoundOf_14 rfl ?_
    refine fk_getI' X fd_1_27 q1553 dX2_isRoundOf_15 hf (fun z1 hf => ?_)
    refine fk_icmp_ge' X 56 dX2_isRoundOf_18 rfl hf (fun hf => ?_) (fun hf => ?_)
    · refine fk_iconst (v := 1) X dX2_isRoundOf_56 rfl ?_
      cases hf
      exact fk_ireturn X Y dX2_isRoundOf_57 (by decide +kernel)
    · refine fk_aload_n X 0 dX2_isRoundOf_21 rfl ?_
      refine fk_getR' X fd_1_24 q1550 dX2_isRoundOf_22 hf (fun z2 hf => ?_)
      refine fk_aload_n X 0 dX2_isRoundOf_25 rfl ?_
      refine fk_getI' X fd_1_26 q1552 dX2_isRoundOf_26 hf (fun z3 hf => ?_)
      refine fk_iload_n X 2 dX2_isRoundOf_29 rfl ?_
      refine fk_iadd X dX2_isRoundOf_30 ?_
      refine fk_iaload' X dX2_isRoundOf_31 hf (fun z4 hf => ?_)
      refine fk_aload_n X 0 dX2_isRoundOf_32 rfl ?_
      refine fk_getR' X fd_1_24 q1550 dX2_isRoundOf_33 hf (fun z5 hf => ?_)
      refine fk_aload_n X 0 dX2_isRoundOf_36 rfl ?_
      refine fk_getI' X fd_1_26 q1552 dX2_isRoundOf_37 hf (fun z6 hf => ?_)
      refine fk_iload_n X 2 dX2_isRoundOf_40 rfl ?_
      refine fk_iadd X dX2_isRoundOf_41 ?_
      refine fk_iload_n X 1 dX2_isRoundOf_42 rfl ?_
      refine fk_iadd X dX2_isRoundOf_43 ?_
      refine fk_iaload' X dX2_isRoundOf_44 hf (fun z7 hf => ?_)
      refine fk_icmp_eq' X 50 dX2_isRoundOf_45 rfl hf (fun hf => ?_) (fun hf => ?_)
      · refine fk_iinc X 2 [(2, tI (x2 + 1)), (0, tR x0), (1, tI x1)] dX2_isRoundOf_50 rfl rfl rfl rfl ?_
        refine fk_goto X 13 dX2_isRoundOf_53 rfl ?_
        exact fk_cut' (ih (x2 + 1)  hf) [1, 2, 0] rfl
      · refine fk_iconst (v := 0) X dX2_isRoundOf_48 rfl ?_
        cases hf
        exact fk_ireturn X Y dX2_isRoundOf_49 (by decide +kernel)
def f_X2_isRoundOf (a0 : Option Nat) (a1 : Int32) (m : fk_M) : Option Int32 :=
  (gI m a0 1 27).bind fun z1 => if a1 = 0 then none else (if (i_rem z1 a1) = 0 then (f_X2_isRoundOf_L13 a0 a1 m fk_fuel 0) else (some 0))
set_option maxHeartbeats 4000000 in
theorem c_X2_isRoundOf {l : Launch} {G : fk_G} {b0 : Nat} {n : Nat} {a0 : Option Nat} {a1 : Int32} {m : fk_M} {r : Int32} (hf : f_X2_isRoundOf a0 a1 m = some r) : fk_Ct l G b0 yX2_isRoundOf cX2_isRoundOf 3 (some .boolean) 1 60 [tR a0, tI a1] n m (some (tI r)) n m 0 0 := by
  refine fk_enter n_X2_isRoundOf.1 rfl ?_
  intro E X0 Y
  have X : fk_X E l G b0 "FigureKneeModel" "isRoundOf" cX2_isRoundOf 3 1 60 0 0 := X0
  show fk_W E 3 n m 0 0 0 [(0, tR a0), (1, tI a1)] []
  unfold f_X2_isRoundOf at hf
  refine fk_aload_n X 0 dX2_isRoundOf_0 rfl ?_
  refine fk_getI' X fd_1_27 q1553 dX2_isRoundOf_1 hf (fun z1 hf => ?_)
  refine fk_iload_n X 1 dX2_isRoundOf_4 rfl ?_
  refine fk_irem' X dX2_isRoundOf_5 hf (fun hf => ?_)
  refine fk_if_eq' X 11 dX2_isRoundOf_6 rfl hf (fun hf => ?_) (fun hf => ?_)
  · refine fk_iconst (v := 0) X dX2_isRoundOf_11 rfl ?_
    refine fk_istore_n X [(2, tI 0), (0, tR a0), (1, tI a1)] dX2_isRoundOf_12 rfl rfl ?_
    exact fk_cut' (w_X2_isRoundOf_L13 X Y a0 a1 fk_fuel 0 hf) [1, 2, 0] rfl
  · refine fk_iconst (v := 0) X dX2_isRoundOf_9 rfl ?_
    cases hf
    exact fk_ireturn X Y dX2_isRoundOf_10 (by decide +kernel)
/-! FigureKneeModel goRound (I)V -/
theorem n_X2_goRound : fk_N yX2_goRound 1 := ⟨by decide +kernel, by decide +kernel, by decide +kernel, by decide +kernel⟩
def f_X2_goRound_L265 (x0 : Option Nat) : Nat → fk_M → Option fk_M
  | 0, _ => none
  | N + 1, m0 =>
  (gI m0 x0 1 28).bind fun z1 => if z1 ≤ 0 then (some m0) else ((gR m0 x0 1 24).bind fun z2 => (gI m0 x0 1 28).bind fun z3 => (aI m0 z2 0 (z3 - 1)).bind fun z4 => (gR m0 x0 1 24).bind fun z5 => (gI m0 x0 1 28).bind fun z6 => (gI m0 x0 1 29).bind fun z7 => (aI m0 z5 0 ((z6 - 1) + z7)).bind fun z8 => if z4 = z8 then ((gI m0 x0 1 28).bind fun z9 => (pV m0 x0 1 28 (tI (z9 - 1))).bind fun m10 => f_X2_goRound_L265 x0 N m10) else (some m0))
set_option maxHeartbeats 4000000 in
theorem w_X2_goRound_L265 {E : fk_E} {l : Launch} {G : fk_G} {b0 n : Nat} {mF : fk_M} (X : fk_X E l G b0 "FigureKneeModel" "goRound" cX2_goRound 7 4 132 0 0) (Y : fk_Y E none none n mF 0 0) (x0 : Option Nat) : ∀ (N : Nat)  (m0 : fk_M), f_X2_goRound_L265 x0 N m0 = some mF → fk_W E 7 n m0 0 0 265 [(0, tR x0)] [] := by
  intro N
  induction N with
  | zero =>
    intro m0 hf
    have hf : (none : Option fk_M) = some _ := hf
    cases hf
  | succ N ih =>
    intro m0 hf
    rw [f_X2_goRound_L265] at hf
    refine fk_aload_n X 0 dX2_goRound_265 rfl ?_
    refine fk_getI' X fd_1_28 q1554 dX2_goRound_266 hf (fun z1 hf => ?_)
    refine fk_if_le' X 315 dX2_goRound_269 rfl hf (fun hf => ?_) (fun hf => ?_)
    · cases hf
      exact fk_return X Y dX2_goRound_315
    · refine fk_aload_n X 0 dX2_goRound_272 rfl ?_
      refine fk_getR' X fd_1_24 q1550 dX2_goRound_273 hf (fun z2 hf => ?_)
      refine fk_aload_n X 0 dX2_goRound_276 rfl ?_
      refine fk_getI' X fd_1_28 q1554 dX2_goRound_277 hf (fun z3 hf => ?_)
      refine fk_iconst (v := 1) X dX2_goRound_280 rfl ?_
      refine fk_isub X dX2_goRound_281 ?_
      refine fk_iaload' X dX2_goRound_282 hf (fun z4 hf => ?_)
      refine fk_aload_n X 0 dX2_goRound_283 rfl ?_
      refine fk_getR' X fd_1_24 q1550 dX2_goRound_284 hf (fun z5 hf => ?_)
      refine fk_aload_n X 0 dX2_goRound_287 rfl ?_
      refine fk_getI' X fd_1_28 q1554 dX2_goRound_288 hf (fun z6 hf => ?_)
      refine fk_iconst (v := 1) X dX2_goRound_291 rfl ?_
      refine fk_isub X dX2_goRound_292 ?_
      refine fk_aload_n X 0 dX2_goRound_293 rfl ?_
      refine fk_getI' X fd_1_29 q1555 dX2_goRound_294 hf (fun z7 hf => ?_)
      refine fk_iadd X dX2_goRound_297 ?_
      refine fk_iaload' X dX2_goRound_298 hf (fun z8 hf => ?_)
      refine fk_icmp_ne' X 315 dX2_goRound_299 rfl hf (fun hf => ?_) (fun hf => ?_)
      · cases hf
        exact fk_return X Y dX2_goRound_315
      · refine fk_aload_n X 0 dX2_goRound_302 rfl ?_
        refine fk_dup X dX2_goRound_303 rfl ?_
        refine fk_getI' X fd_1_28 q1554 dX2_goRound_304 hf (fun z9 hf => ?_)
        refine fk_iconst (v := 1) X dX2_goRound_307 rfl ?_
        refine fk_isub X dX2_goRound_308 ?_
        refine fk_putI' X fd_1_28 q1554 dX2_goRound_309 (fit_I _) hf (fun m10 hf => ?_)
        refine fk_goto X 265 dX2_goRound_312 rfl ?_
        exact fk_cut' (ih m10  hf) [0] rfl
def f_X2_goRound_L233 (x0 : Option Nat) : Nat → fk_M → Option fk_M
  | 0, _ => none
  | N + 1, m0 =>
  (gI m0 x0 1 29).bind fun z1 => (isO m0 x0 1).bind fun u2 => (f_X2_isRoundOf x0 z1 m0).bind fun z3 => if z3 = 0 then ((gI m0 x0 1 29).bind fun z4 => (pV m0 x0 1 29 (tI (z4 + 1))).bind fun m5 => f_X2_goRound_L233 x0 N m5) else ((gI m0 x0 1 26).bind fun z6 => (pV m0 x0 1 28 (tI z6)).bind fun m7 => f_X2_goRound_L265 x0 fk_fuel m7)
set_option maxHeartbeats 4000000 in
theorem w_X2_goRound_L233 {E : fk_E} {l : Launch} {G : fk_G} {b0 n : Nat} {mF : fk_M} (X : fk_X E l G b0 "FigureKneeModel" "goRound" cX2_goRound 7 4 132 0 0) (Y : fk_Y E none none n mF 0 0) (x0 : Option Nat) : ∀ (N : Nat)  (m0 : fk_M), f_X2_goRound_L233 x0 N m0 = some mF → fk_W E 7 n m0 0 0 233 [(0, tR x0)] [] := by
  intro N
  induction N with
  | zero =>
    intro m0 hf
    have hf : (none : Option fk_M) = some _ := hf
    cases hf
  | succ N ih =>
    intro m0 hf
    rw [f_X2_goRound_L233] at hf
    refine fk_aload_n X 0 dX2_goRound_233 rfl ?_
    refine fk_aload_n X 0 dX2_goRound_234 rfl ?_
    refine fk_getI' X fd_1_29 q1555 dX2_goRound_235 hf (fun z1 hf => ?_)
    obtain ⟨u2, hq, hf⟩ := bI hf
    obtain ⟨z3, hv, hf⟩ := bI hf
    refine fk_callV0I (ci := 1) (rest := []) X hq rfl (c_X2_isRoundOf hv) n_X2_isRoundOf q1880 q1882 qs97 q126 q1883 rfl dX2_goRound_238 rfl rfl rfl rfl rfl (Nat.le_refl _) (Nat.le_refl _) ?_
    refine fk_if_ne' X 257 dX2_goRound_241 rfl hf (fun hf => ?_) (fun hf => ?_)
    · refine fk_aload_n X 0 dX2_goRound_257 rfl ?_
      refine fk_aload_n X 0 dX2_goRound_258 rfl ?_
      refine fk_getI' X fd_1_26 q1552 dX2_goRound_259 hf (fun z6 hf => ?_)
      refine fk_putI' X fd_1_28 q1554 dX2_goRound_262 (fit_I _) hf (fun m7 hf => ?_)
      exact fk_cut' (w_X2_goRound_L265 X Y x0 fk_fuel m7 hf) [0] rfl
    · refine fk_aload_n X 0 dX2_goRound_244 rfl ?_
      refine fk_dup X dX2_goRound_245 rfl ?_
      refine fk_getI' X fd_1_29 q1555 dX2_goRound_246 hf (fun z4 hf => ?_)
      refine fk_iconst (v := 1) X dX2_goRound_249 rfl ?_
      refine fk_iadd X dX2_goRound_250 ?_
      refine fk_putI' X fd_1_29 q1555 dX2_goRound_251 (fit_I _) hf (fun m5 hf => ?_)
      refine fk_goto X 233 dX2_goRound_254 rfl ?_
      exact fk_cut' (ih m5  hf) [0] rfl
def f_X2_goRound_L187 (x0 : Option Nat) : Nat → Int32 → fk_M → Option fk_M
  | 0, _, _ => none
  | N + 1, x6, m0 =>
  (gI m0 x0 1 26).bind fun z1 => (gI m0 x0 1 27).bind fun z2 => if (z1 + (2 * z2)) ≤ x6 then ((pV m0 x0 1 29 (tI 1)).bind fun m3 => f_X2_goRound_L233 x0 fk_fuel m3) else ((gR m0 x0 1 24).bind fun z4 => (gR m0 x0 1 24).bind fun z5 => (gI m0 x0 1 27).bind fun z6 => (aI m0 z5 0 (x6 - z6)).bind fun z7 => (sI m0 z4 0 x6 z7).bind fun m8 => f_X2_goRound_L187 x0 N (x6 + 1) m8)
set_option maxHeartbeats 4000000 in
theorem w_X2_goRound_L187 {E : fk_E} {l : Launch} {G : fk_G} {b0 n : Nat} {mF : fk_M} (X : fk_X E l G b0 "FigureKneeModel" "goRound" cX2_goRound 7 4 132 0 0) (Y : fk_Y E none none n mF 0 0) (x0 : Option Nat) : ∀ (N : Nat) (x6 : Int32) (m0 : fk_M), f_X2_goRound_L187 x0 N x6 m0 = some mF → fk_W E 7 n m0 0 0 187 [(0, tR x0), (6, tI x6)] [] := by
  intro N
  induction N with
  | zero =>
    intro x6 m0 hf
    have hf : (none : Option fk_M) = some _ := hf
    cases hf
  | succ N ih =>
    intro x6 m0 hf
    rw [f_X2_goRound_L187] at hf
    refine fk_iload X 1 dX2_goRound_187 rfl ?_
    refine fk_aload_n X 0 dX2_goRound_189 rfl ?_
    refine fk_getI' X fd_1_26 q1552 dX2_goRound_190 hf (fun z1 hf => ?_)
    refine fk_iconst (v := 2) X dX2_goRound_193 rfl ?_
    refine fk_aload_n X 0 dX2_goRound_194 rfl ?_
    refine fk_getI' X fd_1_27 q1553 dX2_goRound_195 hf (fun z2 hf => ?_)
    refine fk_imul X dX2_goRound_198 ?_
    refine fk_iadd X dX2_goRound_199 ?_
    refine fk_icmp_ge' X 228 dX2_goRound_200 rfl hf (fun hf => ?_) (fun hf => ?_)
    · refine fk_aload_n X 0 dX2_goRound_228 rfl ?_
      refine fk_iconst (v := 1) X dX2_goRound_229 rfl ?_
      refine fk_putI' X fd_1_29 q1555 dX2_goRound_230 (fit_I _) hf (fun m3 hf => ?_)
      exact fk_cut' (w_X2_goRound_L233 X Y x0 fk_fuel m3 hf) [0] rfl
    · refine fk_aload_n X 0 dX2_goRound_203 rfl ?_
      refine fk_getR' X fd_1_24 q1550 dX2_goRound_204 hf (fun z4 hf => ?_)
      refine fk_iload X 1 dX2_goRound_207 rfl ?_
      refine fk_aload_n X 0 dX2_goRound_209 rfl ?_
      refine fk_getR' X fd_1_24 q1550 dX2_goRound_210 hf (fun z5 hf => ?_)
      refine fk_iload X 1 dX2_goRound_213 rfl ?_
      refine fk_aload_n X 0 dX2_goRound_215 rfl ?_
      refine fk_getI' X fd_1_27 q1553 dX2_goRound_216 hf (fun z6 hf => ?_)
      refine fk_isub X dX2_goRound_219 ?_
      refine fk_iaload' X dX2_goRound_220 hf (fun z7 hf => ?_)
      refine fk_iastore' X dX2_goRound_221 hf (fun m8 hf => ?_)
      refine fk_iinc X 1 [(6, tI (x6 + 1)), (0, tR x0)] dX2_goRound_222 rfl rfl rfl rfl ?_
      refine fk_goto X 187 dX2_goRound_225 rfl ?_
      exact fk_cut' (ih (x6 + 1) m8  hf) [1, 0] rfl
def f_X2_goRound_L74 (x0 : Option Nat) (x1 : Int32) (x2 : Int32) : Nat → Int32 → Int32 → Int32 → fk_M → Option fk_M
  | 0, _, _, _, _ => none
  | N + 1, x3, x4, x5, m0 =>
  (gR m0 x0 1 25).bind fun z1 => (aI m0 z1 0 x5).bind fun z2 => if 0 ≤ z2 then ((gR m0 x0 1 25).bind fun z3 => (aI m0 z3 0 x5).bind fun z4 => (pV m0 x0 1 26 (tI z4)).bind fun m5 => (gI m5 x0 1 26).bind fun z6 => (pV m5 x0 1 27 (tI (x4 - z6))).bind fun m7 => f_X2_goRound_L187 x0 fk_fuel x4 m7) else ((gR m0 x0 1 25).bind fun z8 => (sI m0 z8 0 x5 x4).bind fun m9 => (gR m9 x0 1 24).bind fun z10 => (sI m9 z10 0 x4 x3).bind fun m11 => (gR m11 x0 1 19).bind fun z12 => (aI m11 z12 0 (5 + x1)).bind fun z13 => (gR m11 x0 1 15).bind fun z14 => (aI m11 z14 0 (13 + x1)).bind fun z15 => (gR m11 x0 1 19).bind fun z16 => (aI m11 z16 0 35).bind fun z17 => (isO m11 x0 1).bind fun u18 => (f_X2_behind x0 x1 x3 z13 z15 (z17 + (x4 + 1)) 0 m11).bind fun z19 => (gR m11 x0 1 19).bind fun z20 => (aI m11 z20 0 35).bind fun z21 => if x2 = 0 then none else (f_X2_goRound_L74 x0 x1 x2 N z19 (x4 + 1) ((z19 * 9) + (i_rem (z21 + (x4 + 1)) x2)) m11))
set_option maxHeartbeats 4000000 in
theorem w_X2_goRound_L74 {E : fk_E} {l : Launch} {G : fk_G} {b0 n : Nat} {mF : fk_M} (X : fk_X E l G b0 "FigureKneeModel" "goRound" cX2_goRound 7 4 132 0 0) (Y : fk_Y E none none n mF 0 0) (x0 : Option Nat) (x1 : Int32) (x2 : Int32) : ∀ (N : Nat) (x3 : Int32) (x4 : Int32) (x5 : Int32) (m0 : fk_M), f_X2_goRound_L74 x0 x1 x2 N x3 x4 x5 m0 = some mF → fk_W E 7 n m0 0 0 74 [(0, tR x0), (1, tI x1), (2, tI x2), (3, tI x3), (4, tI x4), (5, tI x5)] [] := by
  intro N
  induction N with
  | zero =>
    intro x3 x4 x5 m0 hf
    have hf : (none : Option fk_M) = some _ := hf
    cases hf
  | succ N ih =>
    intro x3 x4 x5 m0 hf
    rw [f_X2_goRound_L74] at hf
    refine fk_aload_n X 0 dX2_goRound_74 rfl ?_
    refine fk_getR' X fd_1_25 q1551 dX2_goRound_75 hf (fun z1 hf => ?_)
    refine fk_iload X 5 dX2_goRound_78 rfl ?_
    refine fk_iaload' X dX2_goRound_80 hf (fun z2 hf => ?_)
    refine fk_if_ge' X 161 dX2_goRound_81 rfl hf (fun hf => ?_) (fun hf => ?_)
    · refine fk_aload_n X 0 dX2_goRound_161 rfl ?_
      refine fk_aload_n X 0 dX2_goRound_162 rfl ?_
      refine fk_getR' X fd_1_25 q1551 dX2_goRound_163 hf (fun z3 hf => ?_)
      refine fk_iload X 5 dX2_goRound_166 rfl ?_
      refine fk_iaload' X dX2_goRound_168 hf (fun z4 hf => ?_)
      refine fk_putI' X fd_1_26 q1552 dX2_goRound_169 (fit_I _) hf (fun m5 hf => ?_)
      refine fk_aload_n X 0 dX2_goRound_172 rfl ?_
      refine fk_iload X 4 dX2_goRound_173 rfl ?_
      refine fk_aload_n X 0 dX2_goRound_175 rfl ?_
      refine fk_getI' X fd_1_26 q1552 dX2_goRound_176 hf (fun z6 hf => ?_)
      refine fk_isub X dX2_goRound_179 ?_
      refine fk_putI' X fd_1_27 q1553 dX2_goRound_180 (fit_I _) hf (fun m7 hf => ?_)
      refine fk_iload X 4 dX2_goRound_183 rfl ?_
      refine fk_istore X [(6, tI x4), (0, tR x0), (1, tI x1), (2, tI x2), (3, tI x3), (4, tI x4), (5, tI x5)] dX2_goRound_185 rfl rfl ?_
      exact fk_cut' (w_X2_goRound_L187 X Y x0 fk_fuel x4 m7 hf) [1, 0] rfl
    · refine fk_aload_n X 0 dX2_goRound_84 rfl ?_
      refine fk_getR' X fd_1_25 q1551 dX2_goRound_85 hf (fun z8 hf => ?_)
      refine fk_iload X 5 dX2_goRound_88 rfl ?_
      refine fk_iload X 4 dX2_goRound_90 rfl ?_
      refine fk_iastore' X dX2_goRound_92 hf (fun m9 hf => ?_)
      refine fk_aload_n X 0 dX2_goRound_93 rfl ?_
      refine fk_getR' X fd_1_24 q1550 dX2_goRound_94 hf (fun z10 hf => ?_)
      refine fk_iload X 4 dX2_goRound_97 rfl ?_
      refine fk_iload_n X 3 dX2_goRound_99 rfl ?_
      refine fk_iastore' X dX2_goRound_100 hf (fun m11 hf => ?_)
      refine fk_iinc X 4 [(4, tI (x4 + 1)), (0, tR x0), (1, tI x1), (2, tI x2), (3, tI x3), (5, tI x5)] dX2_goRound_101 rfl rfl rfl rfl ?_
      refine fk_aload_n X 1 dX2_goRound_104 rfl ?_
      refine fk_iload_n X 2 dX2_goRound_105 rfl ?_
      refine fk_iload_n X 4 dX2_goRound_106 rfl ?_
      refine fk_aload_n X 1 dX2_goRound_107 rfl ?_
      refine fk_getR' X fd_1_19 q1545 dX2_goRound_108 hf (fun z12 hf => ?_)
      refine fk_iconst (v := 5) X dX2_goRound_111 rfl ?_
      refine fk_iload_n X 2 dX2_goRound_112 rfl ?_
      refine fk_iadd X dX2_goRound_113 ?_
      refine fk_iaload' X dX2_goRound_114 hf (fun z13 hf => ?_)
      refine fk_aload_n X 1 dX2_goRound_115 rfl ?_
      refine fk_getR' X fd_1_15 q1541 dX2_goRound_116 hf (fun z14 hf => ?_)
      refine fk_bipush (v := 13) X dX2_goRound_119 rfl ?_
      refine fk_iload_n X 2 dX2_goRound_121 rfl ?_
      refine fk_iadd X dX2_goRound_122 ?_
      refine fk_iaload' X dX2_goRound_123 hf (fun z15 hf => ?_)
      refine fk_aload_n X 1 dX2_goRound_124 rfl ?_
      refine fk_getR' X fd_1_19 q1545 dX2_goRound_125 hf (fun z16 hf => ?_)
      refine fk_bipush (v := 35) X dX2_goRound_128 rfl ?_
      refine fk_iaload' X dX2_goRound_130 hf (fun z17 hf => ?_)
      refine fk_iload X 0 dX2_goRound_131 rfl ?_
      refine fk_iadd X dX2_goRound_133 ?_
      refine fk_iconst (v := 0) X dX2_goRound_134 rfl ?_
      obtain ⟨u18, hq, hf⟩ := bI hf
      obtain ⟨z19, hv, hf⟩ := bI hf
      refine fk_callV0I (ci := 1) (rest := []) X hq rfl (c_X2_behind hv) n_X2_behind q1848 q1850 qs93 q126 q1851 rfl dX2_goRound_135 rfl rfl rfl rfl rfl (Nat.le_refl _) (Nat.le_refl _) ?_
      refine fk_istore_n X [(3, tI z19), (4, tI (x4 + 1)), (0, tR x0), (1, tI x1), (2, tI x2), (5, tI x5)] dX2_goRound_138 rfl rfl ?_
      refine fk_iload_n X 0 dX2_goRound_139 rfl ?_
      refine fk_bipush (v := 9) X dX2_goRound_140 rfl ?_
      refine fk_imul X dX2_goRound_142 ?_
      refine fk_aload_n X 2 dX2_goRound_143 rfl ?_
      refine fk_getR' X fd_1_19 q1545 dX2_goRound_144 hf (fun z20 hf => ?_)
      refine fk_bipush (v := 35) X dX2_goRound_147 rfl ?_
      refine fk_iaload' X dX2_goRound_149 hf (fun z21 hf => ?_)
      refine fk_iload X 1 dX2_goRound_150 rfl ?_
      refine fk_iadd X dX2_goRound_152 ?_
      refine fk_iload_n X 4 dX2_goRound_153 rfl ?_
      refine fk_irem' X dX2_goRound_154 hf (fun hf => ?_)
      refine fk_iadd X dX2_goRound_155 ?_
      refine fk_istore X [(5, tI ((z19 * 9) + (i_rem (z21 + (x4 + 1)) x2))), (3, tI z19), (4, tI (x4 + 1)), (0, tR x0), (1, tI x1), (2, tI x2)] dX2_goRound_156 rfl rfl ?_
      refine fk_goto X 74 dX2_goRound_158 rfl ?_
      exact fk_cut' (ih z19 (x4 + 1) ((z19 * 9) + (i_rem (z21 + (x4 + 1)) x2)) m11  hf) [3, 4, 5, 1, 2, 0] rfl
def f_X2_goRound_L28 (x0 : Option Nat) (x1 : Int32) (x2 : Int32) : Nat → Int32 → fk_M → Option fk_M
  | 0, _, _ => none
  | N + 1, x3, m0 =>
  if 900 ≤ x3 then ((gR m0 x0 1 19).bind fun z1 => (aI m0 z1 0 x1).bind fun z2 => (gR m0 x0 1 19).bind fun z3 => (aI m0 z3 0 35).bind fun z4 => if x2 = 0 then none else (f_X2_goRound_L74 x0 x1 x2 fk_fuel z2 0 ((z2 * 9) + (i_rem z4 x2)) m0)) else ((gR m0 x0 1 25).bind fun z5 => (sI m0 z5 0 x3 (-1)).bind fun m6 => f_X2_goRound_L28 x0 x1 x2 N (x3 + 1) m6)
set_option maxHeartbeats 4000000 in
theorem w_X2_goRound_L28 {E : fk_E} {l : Launch} {G : fk_G} {b0 n : Nat} {mF : fk_M} (X : fk_X E l G b0 "FigureKneeModel" "goRound" cX2_goRound 7 4 132 0 0) (Y : fk_Y E none none n mF 0 0) (x0 : Option Nat) (x1 : Int32) (x2 : Int32) : ∀ (N : Nat) (x3 : Int32) (m0 : fk_M), f_X2_goRound_L28 x0 x1 x2 N x3 m0 = some mF → fk_W E 7 n m0 0 0 28 [(0, tR x0), (1, tI x1), (2, tI x2), (3, tI x3)] [] := by
  intro N
  induction N with
  | zero =>
    intro x3 m0 hf
    have hf : (none : Option fk_M) = some _ := hf
    cases hf
  | succ N ih =>
    intro x3 m0 hf
    rw [f_X2_goRound_L28] at hf
    refine fk_iload_n X 3 dX2_goRound_28 rfl ?_
    refine fk_sipush (v := 900) X dX2_goRound_29 rfl ?_
    refine fk_icmp_ge' X 48 dX2_goRound_32 rfl hf (fun hf => ?_) (fun hf => ?_)
    · refine fk_aload_n X 0 dX2_goRound_48 rfl ?_
      refine fk_getR' X fd_1_19 q1545 dX2_goRound_49 hf (fun z1 hf => ?_)
      refine fk_iload_n X 1 dX2_goRound_52 rfl ?_
      refine fk_iaload' X dX2_goRound_53 hf (fun z2 hf => ?_)
      refine fk_istore_n X [(3, tI z2), (0, tR x0), (1, tI x1), (2, tI x2)] dX2_goRound_54 rfl rfl ?_
      refine fk_iconst (v := 0) X dX2_goRound_55 rfl ?_
      refine fk_istore X [(4, tI 0), (3, tI z2), (0, tR x0), (1, tI x1), (2, tI x2)] dX2_goRound_56 rfl rfl ?_
      refine fk_iload_n X 1 dX2_goRound_58 rfl ?_
      refine fk_bipush (v := 9) X dX2_goRound_59 rfl ?_
      refine fk_imul X dX2_goRound_61 ?_
      refine fk_aload_n X 2 dX2_goRound_62 rfl ?_
      refine fk_getR' X fd_1_19 q1545 dX2_goRound_63 hf (fun z3 hf => ?_)
      refine fk_bipush (v := 35) X dX2_goRound_66 rfl ?_
      refine fk_iaload' X dX2_goRound_68 hf (fun z4 hf => ?_)
      refine fk_iload_n X 4 dX2_goRound_69 rfl ?_
      refine fk_irem' X dX2_goRound_70 hf (fun hf => ?_)
      refine fk_iadd X dX2_goRound_71 ?_
      refine fk_istore X [(5, tI ((z2 * 9) + (i_rem z4 x2))), (4, tI 0), (3, tI z2), (0, tR x0), (1, tI x1), (2, tI x2)] dX2_goRound_72 rfl rfl ?_
      exact fk_cut' (w_X2_goRound_L74 X Y x0 x1 x2 fk_fuel z2 0 ((z2 * 9) + (i_rem z4 x2)) m0 hf) [3, 4, 5, 2, 1, 0] rfl
    · refine fk_aload_n X 0 dX2_goRound_35 rfl ?_
      refine fk_getR' X fd_1_25 q1551 dX2_goRound_36 hf (fun z5 hf => ?_)
      refine fk_iload_n X 3 dX2_goRound_39 rfl ?_
      refine fk_iconst (v := (-1)) X dX2_goRound_40 rfl ?_
      refine fk_iastore' X dX2_goRound_41 hf (fun m6 hf => ?_)
      refine fk_iinc X 3 [(3, tI (x3 + 1)), (0, tR x0), (1, tI x1), (2, tI x2)] dX2_goRound_42 rfl rfl rfl rfl ?_
      refine fk_goto X 28 dX2_goRound_45 rfl ?_
      exact fk_cut' (ih (x3 + 1) m6  hf) [1, 2, 3, 0] rfl
def f_X2_goRound_J25 (x0 : Option Nat) (x1 : Int32) (y0 : Int32) (m0 : fk_M) : Option fk_M :=
  f_X2_goRound_L28 x0 x1 y0 fk_fuel 0 m0
set_option maxHeartbeats 4000000 in
theorem w_X2_goRound_J25 {E : fk_E} {l : Launch} {G : fk_G} {b0 n : Nat} {mF : fk_M} (X : fk_X E l G b0 "FigureKneeModel" "goRound" cX2_goRound 7 4 132 0 0) (Y : fk_Y E none none n mF 0 0) (x0 : Option Nat) (x1 : Int32) (y0 : Int32) (m0 : fk_M) (hf : f_X2_goRound_J25 x0 x1 y0 m0 = some mF) : fk_W E 7 n m0 0 0 25 [(0, tR x0), (1, tI x1)] [tI y0] := by
  unfold f_X2_goRound_J25 at hf
  refine fk_istore_n X [(2, tI y0), (0, tR x0), (1, tI x1)] dX2_goRound_25 rfl rfl ?_
  refine fk_iconst (v := 0) X dX2_goRound_26 rfl ?_
  refine fk_istore_n X [(3, tI 0), (2, tI y0), (0, tR x0), (1, tI x1)] dX2_goRound_27 rfl rfl ?_
  exact fk_cut' (w_X2_goRound_L28 X Y x0 x1 y0 fk_fuel 0 m0 hf) [2, 3, 1, 0] rfl
def f_X2_goRound (a0 : Option Nat) (a1 : Int32) (m0 : fk_M) : Option fk_M :=
  (gR m0 a0 1 15).bind fun z1 => (aI m0 z1 0 (13 + a1)).bind fun z2 => if z2 = 0 then (f_X2_goRound_J25 a0 a1 1 m0) else ((gR m0 a0 1 15).bind fun z3 => (aI m0 z3 0 (13 + a1)).bind fun z4 => f_X2_goRound_J25 a0 a1 z4 m0)
set_option maxHeartbeats 4000000 in
theorem c_X2_goRound {l : Launch} {G : fk_G} {b0 : Nat} {n : Nat} {a0 : Option Nat} {a1 : Int32} {m0 : fk_M} {mF : fk_M} (hf : f_X2_goRound a0 a1 m0 = some mF) : fk_Ct l G b0 yX2_goRound cX2_goRound 7 none 4 132 [tR a0, tI a1] n m0 none n mF 0 0 := by
  refine fk_enter n_X2_goRound.1 rfl ?_
  intro E X0 Y
  have X : fk_X E l G b0 "FigureKneeModel" "goRound" cX2_goRound 7 4 132 0 0 := X0
  show fk_W E 7 n m0 0 0 0 [(0, tR a0), (1, tI a1)] []
  unfold f_X2_goRound at hf
  refine fk_aload_n X 0 dX2_goRound_0 rfl ?_
  refine fk_getR' X fd_1_15 q1541 dX2_goRound_1 hf (fun z1 hf => ?_)
  refine fk_bipush (v := 13) X dX2_goRound_4 rfl ?_
  refine fk_iload_n X 1 dX2_goRound_6 rfl ?_
  refine fk_iadd X dX2_goRound_7 ?_
  refine fk_iaload' X dX2_goRound_8 hf (fun z2 hf => ?_)
  refine fk_if_ne' X 16 dX2_goRound_9 rfl hf (fun hf => ?_) (fun hf => ?_)
  · refine fk_aload_n X 0 dX2_goRound_16 rfl ?_
    refine fk_getR' X fd_1_15 q1541 dX2_goRound_17 hf (fun z3 hf => ?_)
    refine fk_bipush (v := 13) X dX2_goRound_20 rfl ?_
    refine fk_iload_n X 1 dX2_goRound_22 rfl ?_
    refine fk_iadd X dX2_goRound_23 ?_
    refine fk_iaload' X dX2_goRound_24 hf (fun z4 hf => ?_)
    exact fk_cut' (w_X2_goRound_J25 X Y a0 a1 z4 m0 hf) [0, 1] rfl
  · refine fk_iconst (v := 1) X dX2_goRound_12 rfl ?_
    refine fk_goto X 25 dX2_goRound_13 rfl ?_
    exact fk_cut' (w_X2_goRound_J25 X Y a0 a1 1 m0 hf) [0, 1] rfl
