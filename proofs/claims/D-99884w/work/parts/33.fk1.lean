set_option maxRecDepth 100000
/-! FigureKnee loudest (I)I -/
theorem n_X1_loudest : fk_N yX1_loudest 1 := ⟨by decide +kernel, by decide +kernel, by decide +kernel, by decide +kernel⟩
def f_X1_loudest_J77 (R36 : Int32 → Int32 → Int32 → fk_M → Option (Int32 × fk_M)) (x0 : Option Nat) (x1 : Int32) (x3 : Int32) (x4 : Int32) (x5 : Int32) (m0 : fk_M) : Option (Int32 × fk_M) :=
  R36 x3 x4 (x5 + 1) m0
set_option maxHeartbeats 4000000 in
theorem w_X1_loudest_J77 {E : fk_E} {l : Launch} {G : fk_G} {b0 n : Nat} {r : Int32} {mF : fk_M} (X : fk_X E l G b0 "FigureKnee" "loudest" cX1_loudest 6 8 219 0 0) (Y : fk_Y E (some .int) (some (tI r)) n mF 0 0) (x0 : Option Nat) (x1 : Int32) (x3 : Int32) (x4 : Int32) (x5 : Int32)  (m0 : fk_M) {R36 : Int32 → Int32 → Int32 → fk_M → Option (Int32 × fk_M)} (hR36 : ∀ (v3 : Int32) (v4 : Int32) (v5 : Int32) (m9 : fk_M), R36 v3 v4 v5 m9 = some (r, mF) → fk_W E 6 n m9 0 0 36 [(0, tR x0), (1, tI x1), (3, tI v3), (4, tI v4), (5, tI v5)] []) (hf : f_X1_loudest_J77 R36 x0 x1 x3 x4 x5 m0 = some (r, mF)) : fk_W E 6 n m0 0 0 77 [(0, tR x0), (1, tI x1), (3, tI x3), (4, tI x4), (5, tI x5)] [] := by
  unfold f_X1_loudest_J77 at hf
  refine fk_iinc X 4 [(5, tI (x5 + 1)), (0, tR x0), (1, tI x1), (3, tI x3), (4, tI x4)] dX1_loudest_77 rfl rfl rfl rfl ?_
  refine fk_goto X 36 dX1_loudest_80 rfl ?_
  exact fk_cut' (hR36 x3 x4 (x5 + 1) m0  hf) [1, 2, 3, 4, 0] rfl
def f_X1_loudest_L36 (x0 : Option Nat) (x1 : Int32) : Nat → Int32 → Int32 → Int32 → fk_M → Option (Int32 × fk_M)
  | 0, _, _, _, _ => none
  | N + 1, x3, x4, x5, m0 =>
  (isO m0 x0 0).bind fun u1 => (f_X1_pairs x0 m0).bind fun z2 => if z2 ≤ x5 then ((isO m0 x0 0).bind fun u3 => bn2 (f_X1_well x0 x3 m0) fun z4 m5 => some (z4, m5)) else ((isO m0 x0 0).bind fun u6 => (f_X1_tellsOn x0 x5 x1 m0).bind fun m7 => (gR m7 x0 0 9).bind fun z8 => (aI m7 z8 2 x1).bind fun z9 => if x4 < z9 then ((gR m7 x0 0 9).bind fun z10 => (aI m7 z10 2 x1).bind fun z11 => f_X1_loudest_J77 (f_X1_loudest_L36 x0 x1 N) x0 x1 x5 z11 x5 m7) else (f_X1_loudest_J77 (f_X1_loudest_L36 x0 x1 N) x0 x1 x3 x4 x5 m7))
set_option maxHeartbeats 4000000 in
theorem w_X1_loudest_L36 {E : fk_E} {l : Launch} {G : fk_G} {b0 n : Nat} {r : Int32} {mF : fk_M} (X : fk_X E l G b0 "FigureKnee" "loudest" cX1_loudest 6 8 219 0 0) (Y : fk_Y E (some .int) (some (tI r)) n mF 0 0) (x0 : Option Nat) (x1 : Int32) : ∀ (N : Nat) (x3 : Int32) (x4 : Int32) (x5 : Int32) (m0 : fk_M), f_X1_loudest_L36 x0 x1 N x3 x4 x5 m0 = some (r, mF) → fk_W E 6 n m0 0 0 36 [(0, tR x0), (1, tI x1), (3, tI x3), (4, tI x4), (5, tI x5)] [] := by
  intro N
  induction N with
  | zero =>
    intro x3 x4 x5 m0 hf
    have hf : (none : Option (Int32 × fk_M)) = some _ := hf
    cases hf
  | succ N ih =>
    intro x3 x4 x5 m0 hf
    rw [f_X1_loudest_L36] at hf
    refine fk_iload X 4 dX1_loudest_36 rfl ?_
    refine fk_aload_n X 0 dX1_loudest_38 rfl ?_
    obtain ⟨u1, hq, hf⟩ := bI hf
    obtain ⟨z2, hv, hf⟩ := bI hf
    refine fk_callV0I (ci := 0) (rest := [tI x5]) X hq rfl (c_X1_pairs hv) n_X1_pairs q996 q998 qs24 q122 q999 rfl dX1_loudest_39 rfl rfl rfl rfl rfl (Nat.le_refl _) (Nat.le_refl _) ?_
    refine fk_icmp_ge' X 83 dX1_loudest_42 rfl hf (fun hf => ?_) (fun hf => ?_)
    · refine fk_aload_n X 0 dX1_loudest_83 rfl ?_
      refine fk_iload_n X 2 dX1_loudest_84 rfl ?_
      obtain ⟨u3, hq, hf⟩ := bI hf
      obtain ⟨z4, m5, hv, hf⟩ := bn2_eq hf
      refine fk_callV0I (ci := 0) (rest := []) X hq rfl (c_X1_well hv) n_X1_well q1001 q1003 qs25 q122 q1004 rfl dX1_loudest_85 rfl rfl rfl rfl rfl (Nat.le_refl _) (Nat.le_refl _) ?_
      cases hf
      exact fk_ireturn X Y dX1_loudest_88 rfl
    · refine fk_aload_n X 0 dX1_loudest_45 rfl ?_
      refine fk_iload X 4 dX1_loudest_46 rfl ?_
      refine fk_iload_n X 1 dX1_loudest_48 rfl ?_
      obtain ⟨u6, hq, hf⟩ := bI hf
      obtain ⟨m7, hv, hf⟩ := bI hf
      refine fk_callV0V (ci := 0) (rest := []) X hq rfl (c_X1_tellsOn hv) n_X1_tellsOn q1043 q1045 qs31 q122 q1046 rfl dX1_loudest_49 rfl rfl rfl rfl rfl (Nat.le_refl _) (Nat.le_refl _) ?_
      refine fk_aload_n X 0 dX1_loudest_52 rfl ?_
      refine fk_getR' X fd_0_9 q199 dX1_loudest_53 hf (fun z8 hf => ?_)
      refine fk_iload_n X 1 dX1_loudest_56 rfl ?_
      refine fk_saload' X dX1_loudest_57 hf (fun z9 hf => ?_)
      refine fk_iload X 3 dX1_loudest_58 rfl ?_
      refine fk_icmp_gt' X 66 dX1_loudest_60 rfl hf (fun hf => ?_) (fun hf => ?_)
      · refine fk_aload_n X 0 dX1_loudest_66 rfl ?_
        refine fk_getR' X fd_0_9 q199 dX1_loudest_67 hf (fun z10 hf => ?_)
        refine fk_iload_n X 1 dX1_loudest_70 rfl ?_
        refine fk_saload' X dX1_loudest_71 hf (fun z11 hf => ?_)
        refine fk_istore X [(4, tI z11), (0, tR x0), (1, tI x1), (3, tI x3), (5, tI x5)] dX1_loudest_72 rfl rfl ?_
        refine fk_iload X 4 dX1_loudest_74 rfl ?_
        refine fk_istore_n X [(3, tI x5), (4, tI z11), (0, tR x0), (1, tI x1), (5, tI x5)] dX1_loudest_76 rfl rfl ?_
        exact fk_cut' (w_X1_loudest_J77 X Y x0 x1 x5 z11 x5 m7 ih hf) [2, 3, 0, 1, 4] rfl
      · refine fk_goto X 77 dX1_loudest_63 rfl ?_
        exact fk_cut' (w_X1_loudest_J77 X Y x0 x1 x3 x4 x5 m7 ih hf) [0, 1, 2, 3, 4] rfl
def f_X1_loudest (a0 : Option Nat) (a1 : Int32) (m0 : fk_M) : Option (Int32 × fk_M) :=
  (gR m0 a0 0 5).bind fun z1 => (isO m0 a0 0).bind fun u2 => (f_X1_whyAhead a0 (if z1 = none then (0 : Int32) else 1) a1 m0).bind fun z3 => if z3 ≤ 0 then (f_X1_loudest_L36 a0 a1 fk_fuel 0 (-1) 0 m0) else ((isO m0 a0 0).bind fun u4 => bn2 (f_X1_refused a0 z3 m0) fun z5 m6 => some (z5, m6))
set_option maxHeartbeats 4000000 in
theorem c_X1_loudest {l : Launch} {G : fk_G} {b0 : Nat} {n : Nat} {a0 : Option Nat} {a1 : Int32} {m0 : fk_M} {r : Int32} {mF : fk_M} (hf : f_X1_loudest a0 a1 m0 = some (r, mF)) : fk_Ct l G b0 yX1_loudest cX1_loudest 6 (some .int) 8 219 [tR a0, tI a1] n m0 (some (tI r)) n mF 0 0 := by
  refine fk_enter n_X1_loudest.1 rfl ?_
  intro E X0 Y
  have X : fk_X E l G b0 "FigureKnee" "loudest" cX1_loudest 6 8 219 0 0 := X0
  show fk_W E 6 n m0 0 0 0 [(0, tR a0), (1, tI a1)] []
  unfold f_X1_loudest at hf
  refine fk_aload_n X 0 dX1_loudest_0 rfl ?_
  refine fk_aload_n X 0 dX1_loudest_1 rfl ?_
  refine fk_getR' X fd_0_5 q195 dX1_loudest_2 hf (fun z1 hf => ?_)
  have J1 : fk_W E 6 n m0 0 0 13 [(0, tR a0), (1, tI a1)] [tI (if z1 = none then (0 : Int32) else 1), tR a0] := by
    refine fk_iload_n X 1 dX1_loudest_13 rfl ?_
    obtain ⟨u2, hq, hf⟩ := bI hf
    obtain ⟨z3, hv, hf⟩ := bI hf
    refine fk_callV0I (ci := 0) (rest := []) X hq rfl (c_X1_whyAhead hv) n_X1_whyAhead q1035 q1037 qs29 q122 q1038 rfl dX1_loudest_14 rfl rfl rfl rfl rfl (Nat.le_refl _) (Nat.le_refl _) ?_
    refine fk_istore_n X [(2, tI z3), (0, tR a0), (1, tI a1)] dX1_loudest_17 rfl rfl ?_
    refine fk_iload_n X 0 dX1_loudest_18 rfl ?_
    refine fk_if_le' X 28 dX1_loudest_19 rfl hf (fun hf => ?_) (fun hf => ?_)
    · refine fk_iconst (v := 0) X dX1_loudest_28 rfl ?_
      refine fk_istore_n X [(3, tI 0), (2, tI z3), (0, tR a0), (1, tI a1)] dX1_loudest_29 rfl rfl ?_
      refine fk_iconst (v := (-1)) X dX1_loudest_30 rfl ?_
      refine fk_istore X [(4, tI (-1)), (3, tI 0), (2, tI z3), (0, tR a0), (1, tI a1)] dX1_loudest_31 rfl rfl ?_
      refine fk_iconst (v := 0) X dX1_loudest_33 rfl ?_
      refine fk_istore X [(5, tI 0), (4, tI (-1)), (3, tI 0), (2, tI z3), (0, tR a0), (1, tI a1)] dX1_loudest_34 rfl rfl ?_
      exact fk_cut' (w_X1_loudest_L36 X Y a0 a1 fk_fuel 0 (-1) 0 m0 hf) [4, 5, 2, 1, 0] rfl
    · refine fk_aload_n X 1 dX1_loudest_22 rfl ?_
      refine fk_iload_n X 0 dX1_loudest_23 rfl ?_
      obtain ⟨u4, hq, hf⟩ := bI hf
      obtain ⟨z5, m6, hv, hf⟩ := bn2_eq hf
      refine fk_callV0I (ci := 0) (rest := []) X hq rfl (c_X1_refused hv) n_X1_refused q264 q266 qs0 q122 q267 rfl dX1_loudest_24 rfl rfl rfl rfl rfl (Nat.le_refl _) (Nat.le_refl _) ?_
      cases hf
      exact fk_ireturn X Y dX1_loudest_27 rfl
  refine fk_ifnull X 12 dX1_loudest_5 rfl (fun hc2 => ?_) (fun hc2 => ?_)
  · refine fk_iconst (v := 0) X dX1_loudest_12 rfl ?_
    simp only [if_pos hc2] at J1
    exact fk_cut' J1 [0, 1] rfl
  · refine fk_iconst (v := 1) X dX1_loudest_8 rfl ?_
    refine fk_goto X 13 dX1_loudest_9 rfl ?_
    simp only [if_neg hc2] at J1
    exact fk_cut' J1 [0, 1] rfl
/-! FigureKnee overtakes (II)I -/
theorem n_X1_overtakes : fk_N yX1_overtakes 2 := ⟨by decide +kernel, by decide +kernel, by decide +kernel, by decide +kernel⟩
def f_X1_overtakes_L39 (x0 : Option Nat) (x1 : Int32) (x2 : Int32) (m0 : fk_M) : Nat → Int32 → Int32 → Int32 → Option (Int32 × fk_M)
  | 0, _, _, _ => none
  | N + 1, x3, x4, x5 =>
  if 60 < x5 then ((isO m0 x0 0).bind fun u1 => bn2 (f_X1_well x0 (-2) m0) fun z2 m3 => some (z2, m3)) else (if x3 ≤ x4 then ((gR m0 x0 0 6).bind fun z4 => (gR m0 z4 13 2).bind fun z5 => (aI m0 z5 1 x1).bind fun z6 => (isO m0 x0 0).bind fun u7 => (f_X1_at x0 x1 m0).bind fun z8 => (gI m0 z8 6 4).bind fun z9 => (gR m0 x0 0 6).bind fun z10 => (gI m0 z10 13 4).bind fun z11 => (isO m0 x0 0).bind fun u12 => (f_X1_then x0 x1 x3 z6 z9 ((z11 + x5) + 1) 0 m0).bind fun z13 => (gR m0 x0 0 6).bind fun z14 => (gR m0 z14 13 2).bind fun z15 => (aI m0 z15 1 x2).bind fun z16 => (isO m0 x0 0).bind fun u17 => (f_X1_at x0 x2 m0).bind fun z18 => (gI m0 z18 6 4).bind fun z19 => (gR m0 x0 0 6).bind fun z20 => (gI m0 z20 13 4).bind fun z21 => (isO m0 x0 0).bind fun u22 => (f_X1_then x0 x2 x4 z16 z19 ((z21 + x5) + 1) 0 m0).bind fun z23 => f_X1_overtakes_L39 x0 x1 x2 m0 N z13 z23 (x5 + 1)) else ((isO m0 x0 0).bind fun u24 => bn2 (f_X1_well x0 x5 m0) fun z25 m26 => some (z25, m26)))
set_option maxHeartbeats 4000000 in
theorem w_X1_overtakes_L39 {E : fk_E} {l : Launch} {G : fk_G} {b0 n : Nat} {r : Int32} {mF : fk_M} (X : fk_X E l G b0 "FigureKnee" "overtakes" cX1_overtakes 6 6 172 0 0) (Y : fk_Y E (some .int) (some (tI r)) n mF 0 0) (x0 : Option Nat) (x1 : Int32) (x2 : Int32) (m0 : fk_M) : ∀ (N : Nat) (x3 : Int32) (x4 : Int32) (x5 : Int32), f_X1_overtakes_L39 x0 x1 x2 m0 N x3 x4 x5 = some (r, mF) → fk_W E 6 n m0 0 0 39 [(0, tR x0), (1, tI x1), (2, tI x2), (3, tI x3), (4, tI x4), (5, tI x5)] [] := by
  intro N
  induction N with
  | zero =>
    intro x3 x4 x5 hf
    have hf : (none : Option (Int32 × fk_M)) = some _ := hf
    cases hf
  | succ N ih =>
    intro x3 x4 x5 hf
    rw [f_X1_overtakes_L39] at hf
    refine fk_iload X 5 dX1_overtakes_39 rfl ?_
    refine fk_bipush (v := 60) X dX1_overtakes_41 rfl ?_
    refine fk_icmp_gt' X 141 dX1_overtakes_43 rfl hf (fun hf => ?_) (fun hf => ?_)
    · refine fk_aload_n X 0 dX1_overtakes_141 rfl ?_
      refine fk_bipush (v := (-2)) X dX1_overtakes_142 rfl ?_
      obtain ⟨u1, hq, hf⟩ := bI hf
      obtain ⟨z2, m3, hv, hf⟩ := bn2_eq hf
      refine fk_callV0I (ci := 0) (rest := []) X hq rfl (c_X1_well hv) n_X1_well q1001 q1003 qs25 q122 q1004 rfl dX1_overtakes_144 rfl rfl rfl rfl rfl (Nat.le_refl _) (Nat.le_refl _) ?_
      cases hf
      exact fk_ireturn X Y dX1_overtakes_147 rfl
    · refine fk_iload_n X 3 dX1_overtakes_46 rfl ?_
      refine fk_iload X 4 dX1_overtakes_47 rfl ?_
      refine fk_icmp_le' X 59 dX1_overtakes_49 rfl hf (fun hf => ?_) (fun hf => ?_)
      · refine fk_aload_n X 0 dX1_overtakes_59 rfl ?_
        refine fk_iload_n X 1 dX1_overtakes_60 rfl ?_
        refine fk_iload_n X 3 dX1_overtakes_61 rfl ?_
        refine fk_aload_n X 0 dX1_overtakes_62 rfl ?_
        refine fk_getR' X fd_0_6 q196 dX1_overtakes_63 hf (fun z4 hf => ?_)
        refine fk_getR' X fd_13_2 q968 dX1_overtakes_66 hf (fun z5 hf => ?_)
        refine fk_iload_n X 1 dX1_overtakes_69 rfl ?_
        refine fk_baload' X dX1_overtakes_70 hf (fun z6 hf => ?_)
        refine fk_aload_n X 0 dX1_overtakes_71 rfl ?_
        refine fk_iload_n X 1 dX1_overtakes_72 rfl ?_
        obtain ⟨u7, hq, hf⟩ := bI hf
        obtain ⟨z8, hv, hf⟩ := bI hf
        refine fk_callV0R (ci := 0) (rest := [tI z6, tI x3, tI x1, tR x0]) X hq rfl (c_X1_at hv) n_X1_at q1021 q1023 qs27 q122 q1024 rfl dX1_overtakes_73 rfl rfl rfl rfl rfl (Nat.le_refl _) (Nat.le_refl _) ?_
        refine fk_getI' X fd_6_4 q753 dX1_overtakes_76 hf (fun z9 hf => ?_)
        refine fk_aload_n X 0 dX1_overtakes_79 rfl ?_
        refine fk_getR' X fd_0_6 q196 dX1_overtakes_80 hf (fun z10 hf => ?_)
        refine fk_getI' X fd_13_4 q972 dX1_overtakes_83 hf (fun z11 hf => ?_)
        refine fk_iload X 5 dX1_overtakes_86 rfl ?_
        refine fk_iadd X dX1_overtakes_88 ?_
        refine fk_iconst (v := 1) X dX1_overtakes_89 rfl ?_
        refine fk_iadd X dX1_overtakes_90 ?_
        refine fk_iconst (v := 0) X dX1_overtakes_91 rfl ?_
        obtain ⟨u12, hq, hf⟩ := bI hf
        obtain ⟨z13, hv, hf⟩ := bI hf
        refine fk_callV0I (ci := 0) (rest := []) X hq rfl (c_X1_then hv) n_X1_then q1051 q1053 qs33 q122 q1054 rfl dX1_overtakes_92 rfl rfl rfl rfl rfl (Nat.le_refl _) (Nat.le_refl _) ?_
        refine fk_istore_n X [(3, tI z13), (0, tR x0), (1, tI x1), (2, tI x2), (4, tI x4), (5, tI x5)] dX1_overtakes_95 rfl rfl ?_
        refine fk_aload_n X 1 dX1_overtakes_96 rfl ?_
        refine fk_iload_n X 3 dX1_overtakes_97 rfl ?_
        refine fk_iload X 4 dX1_overtakes_98 rfl ?_
        refine fk_aload_n X 1 dX1_overtakes_100 rfl ?_
        refine fk_getR' X fd_0_6 q196 dX1_overtakes_101 hf (fun z14 hf => ?_)
        refine fk_getR' X fd_13_2 q968 dX1_overtakes_104 hf (fun z15 hf => ?_)
        refine fk_iload_n X 3 dX1_overtakes_107 rfl ?_
        refine fk_baload' X dX1_overtakes_108 hf (fun z16 hf => ?_)
        refine fk_aload_n X 1 dX1_overtakes_109 rfl ?_
        refine fk_iload_n X 3 dX1_overtakes_110 rfl ?_
        obtain ⟨u17, hq, hf⟩ := bI hf
        obtain ⟨z18, hv, hf⟩ := bI hf
        refine fk_callV0R (ci := 0) (rest := [tI z16, tI x4, tI x2, tR x0]) X hq rfl (c_X1_at hv) n_X1_at q1021 q1023 qs27 q122 q1024 rfl dX1_overtakes_111 rfl rfl rfl rfl rfl (Nat.le_refl _) (Nat.le_refl _) ?_
        refine fk_getI' X fd_6_4 q753 dX1_overtakes_114 hf (fun z19 hf => ?_)
        refine fk_aload_n X 1 dX1_overtakes_117 rfl ?_
        refine fk_getR' X fd_0_6 q196 dX1_overtakes_118 hf (fun z20 hf => ?_)
        refine fk_getI' X fd_13_4 q972 dX1_overtakes_121 hf (fun z21 hf => ?_)
        refine fk_iload X 5 dX1_overtakes_124 rfl ?_
        refine fk_iadd X dX1_overtakes_126 ?_
        refine fk_iconst (v := 1) X dX1_overtakes_127 rfl ?_
        refine fk_iadd X dX1_overtakes_128 ?_
        refine fk_iconst (v := 0) X dX1_overtakes_129 rfl ?_
        obtain ⟨u22, hq, hf⟩ := bI hf
        obtain ⟨z23, hv, hf⟩ := bI hf
        refine fk_callV0I (ci := 0) (rest := []) X hq rfl (c_X1_then hv) n_X1_then q1051 q1053 qs33 q122 q1054 rfl dX1_overtakes_130 rfl rfl rfl rfl rfl (Nat.le_refl _) (Nat.le_refl _) ?_
        refine fk_istore X [(4, tI z23), (3, tI z13), (0, tR x0), (1, tI x1), (2, tI x2), (5, tI x5)] dX1_overtakes_133 rfl rfl ?_
        refine fk_iinc X 5 [(5, tI (x5 + 1)), (4, tI z23), (3, tI z13), (0, tR x0), (1, tI x1), (2, tI x2)] dX1_overtakes_135 rfl rfl rfl rfl ?_
        refine fk_goto X 39 dX1_overtakes_138 rfl ?_
        exact fk_cut' (ih z13 z23 (x5 + 1)  hf) [3, 4, 5, 2, 1, 0] rfl
      · refine fk_aload_n X 0 dX1_overtakes_52 rfl ?_
        refine fk_iload X 5 dX1_overtakes_53 rfl ?_
        obtain ⟨u24, hq, hf⟩ := bI hf
        obtain ⟨z25, m26, hv, hf⟩ := bn2_eq hf
        refine fk_callV0I (ci := 0) (rest := []) X hq rfl (c_X1_well hv) n_X1_well q1001 q1003 qs25 q122 q1004 rfl dX1_overtakes_55 rfl rfl rfl rfl rfl (Nat.le_refl _) (Nat.le_refl _) ?_
        cases hf
        exact fk_ireturn X Y dX1_overtakes_58 rfl
def f_X1_overtakes (a0 : Option Nat) (a1 : Int32) (a2 : Int32) (m0 : fk_M) : Option (Int32 × fk_M) :=
  (isO m0 a0 0).bind fun u1 => (f_X1_areTwo a0 a1 a2 m0).bind fun z2 => if z2 = 0 then ((isO m0 a0 0).bind fun u3 => bn2 (f_X1_refused a0 1 m0) fun z4 m5 => some (z4, m5)) else ((gR m0 a0 0 6).bind fun z6 => (gR m0 z6 13 1).bind fun z7 => (aI m0 z7 1 a1).bind fun z8 => (gR m0 a0 0 6).bind fun z9 => (gR m0 z9 13 1).bind fun z10 => (aI m0 z10 1 a2).bind fun z11 => f_X1_overtakes_L39 a0 a1 a2 m0 fk_fuel z8 z11 0)
set_option maxHeartbeats 4000000 in
theorem c_X1_overtakes {l : Launch} {G : fk_G} {b0 : Nat} {n : Nat} {a0 : Option Nat} {a1 : Int32} {a2 : Int32} {m0 : fk_M} {r : Int32} {mF : fk_M} (hf : f_X1_overtakes a0 a1 a2 m0 = some (r, mF)) : fk_Ct l G b0 yX1_overtakes cX1_overtakes 6 (some .int) 6 172 [tR a0, tI a1, tI a2] n m0 (some (tI r)) n mF 0 0 := by
  refine fk_enter n_X1_overtakes.1 rfl ?_
  intro E X0 Y
  have X : fk_X E l G b0 "FigureKnee" "overtakes" cX1_overtakes 6 6 172 0 0 := X0
  show fk_W E 6 n m0 0 0 0 [(0, tR a0), (1, tI a1), (2, tI a2)] []
  unfold f_X1_overtakes at hf
  refine fk_aload_n X 0 dX1_overtakes_0 rfl ?_
  refine fk_iload_n X 1 dX1_overtakes_1 rfl ?_
  refine fk_iload_n X 2 dX1_overtakes_2 rfl ?_
  obtain ⟨u1, hq, hf⟩ := bI hf
  obtain ⟨z2, hv, hf⟩ := bI hf
  refine fk_callV0I (ci := 0) (rest := []) X hq rfl (c_X1_areTwo hv) n_X1_areTwo q1134 q1136 qs36 q122 q1137 rfl dX1_overtakes_3 rfl rfl rfl rfl rfl (Nat.le_refl _) (Nat.le_refl _) ?_
  refine fk_if_ne' X 15 dX1_overtakes_6 rfl hf (fun hf => ?_) (fun hf => ?_)
  · refine fk_aload_n X 0 dX1_overtakes_15 rfl ?_
    refine fk_getR' X fd_0_6 q196 dX1_overtakes_16 hf (fun z6 hf => ?_)
    refine fk_getR' X fd_13_1 q966 dX1_overtakes_19 hf (fun z7 hf => ?_)
    refine fk_iload_n X 1 dX1_overtakes_22 rfl ?_
    refine fk_baload' X dX1_overtakes_23 hf (fun z8 hf => ?_)
    refine fk_istore_n X [(3, tI z8), (0, tR a0), (1, tI a1), (2, tI a2)] dX1_overtakes_24 rfl rfl ?_
    refine fk_aload_n X 1 dX1_overtakes_25 rfl ?_
    refine fk_getR' X fd_0_6 q196 dX1_overtakes_26 hf (fun z9 hf => ?_)
    refine fk_getR' X fd_13_1 q966 dX1_overtakes_29 hf (fun z10 hf => ?_)
    refine fk_iload_n X 3 dX1_overtakes_32 rfl ?_
    refine fk_baload' X dX1_overtakes_33 hf (fun z11 hf => ?_)
    refine fk_istore X [(4, tI z11), (3, tI z8), (0, tR a0), (1, tI a1), (2, tI a2)] dX1_overtakes_34 rfl rfl ?_
    refine fk_iconst (v := 0) X dX1_overtakes_36 rfl ?_
    refine fk_istore X [(5, tI 0), (4, tI z11), (3, tI z8), (0, tR a0), (1, tI a1), (2, tI a2)] dX1_overtakes_37 rfl rfl ?_
    exact fk_cut' (w_X1_overtakes_L39 X Y a0 a1 a2 m0 fk_fuel z8 z11 0 hf) [3, 4, 5, 2, 1, 0] rfl
  · refine fk_aload_n X 0 dX1_overtakes_9 rfl ?_
    refine fk_iconst (v := 1) X dX1_overtakes_10 rfl ?_
    obtain ⟨u3, hq, hf⟩ := bI hf
    obtain ⟨z4, m5, hv, hf⟩ := bn2_eq hf
    refine fk_callV0I (ci := 0) (rest := []) X hq rfl (c_X1_refused hv) n_X1_refused q264 q266 qs0 q122 q267 rfl dX1_overtakes_11 rfl rfl rfl rfl rfl (Nat.le_refl _) (Nat.le_refl _) ?_
    cases hf
    exact fk_ireturn X Y dX1_overtakes_14 rfl
/-! FigureKnee saidIn (II)I -/
theorem n_X1_saidIn : fk_N yX1_saidIn 2 := ⟨by decide +kernel, by decide +kernel, by decide +kernel, by decide +kernel⟩
def f_X1_saidIn (a0 : Option Nat) (a1 : Int32) (a2 : Int32) (m0 : fk_M) : Option (Int32 × fk_M) :=
  (isO m0 a0 0).bind fun u1 => (f_X1_tellsOn a0 a1 a2 m0).bind fun m2 => (gR m2 a0 0 9).bind fun z3 => (aI m2 z3 2 a2).bind fun z4 => some (z4, m2)
set_option maxHeartbeats 4000000 in
theorem c_X1_saidIn {l : Launch} {G : fk_G} {b0 : Nat} {n : Nat} {a0 : Option Nat} {a1 : Int32} {a2 : Int32} {m0 : fk_M} {r : Int32} {mF : fk_M} (hf : f_X1_saidIn a0 a1 a2 m0 = some (r, mF)) : fk_Ct l G b0 yX1_saidIn cX1_saidIn 3 (some .int) 8 219 [tR a0, tI a1, tI a2] n m0 (some (tI r)) n mF 0 0 := by
  refine fk_enter n_X1_saidIn.1 rfl ?_
  intro E X0 Y
  have X : fk_X E l G b0 "FigureKnee" "saidIn" cX1_saidIn 3 8 219 0 0 := X0
  show fk_W E 3 n m0 0 0 0 [(0, tR a0), (1, tI a1), (2, tI a2)] []
  unfold f_X1_saidIn at hf
  refine fk_aload_n X 0 dX1_saidIn_0 rfl ?_
  refine fk_iload_n X 1 dX1_saidIn_1 rfl ?_
  refine fk_iload_n X 2 dX1_saidIn_2 rfl ?_
  obtain ⟨u1, hq, hf⟩ := bI hf
  obtain ⟨m2, hv, hf⟩ := bI hf
  refine fk_callV0V (ci := 0) (rest := []) X hq rfl (c_X1_tellsOn hv) n_X1_tellsOn q1043 q1045 qs31 q122 q1046 rfl dX1_saidIn_3 rfl rfl rfl rfl rfl (Nat.le_refl _) (Nat.le_refl _) ?_
  refine fk_aload_n X 0 dX1_saidIn_6 rfl ?_
  refine fk_getR' X fd_0_9 q199 dX1_saidIn_7 hf (fun z3 hf => ?_)
  refine fk_iload_n X 2 dX1_saidIn_10 rfl ?_
  refine fk_saload' X dX1_saidIn_11 hf (fun z4 hf => ?_)
  cases hf
  exact fk_ireturn X Y dX1_saidIn_12 rfl
/-! FigureKnee widest (I)I -/
theorem n_X1_widest : fk_N yX1_widest 1 := ⟨by decide +kernel, by decide +kernel, by decide +kernel, by decide +kernel⟩
def f_X1_widest_L52 (R37 : Int32 → Int32 → Int32 → fk_M → Option (Int32 × fk_M)) (x0 : Option Nat) (x1 : Int32) (x5 : Int32) : Nat → Int32 → Int32 → Int32 → fk_M → Option (Int32 × fk_M)
  | 0, _, _, _, _ => none
  | N + 1, x3, x4, x6, m0 =>
  (isO m0 x0 0).bind fun u1 => (f_X1_pairs x0 m0).bind fun z2 => if z2 ≤ x6 then (R37 x3 x4 (x5 + 1) m0) else ((isO m0 x0 0).bind fun u3 => bn2 (f_X1_saidIn x0 x5 x1 m0) fun z4 m5 => (isO m5 x0 0).bind fun u6 => bn2 (f_X1_saidIn x0 x6 x1 m5) fun z7 m8 => f_X1_widest_L52 R37 x0 x1 x5 N (if x4 < (i_abs (z4 - z7)) then ((10 * x5) + x6) else x3) (if x4 < (i_abs (z4 - z7)) then (i_abs (z4 - z7)) else x4) (x6 + 1) m8)
set_option maxHeartbeats 4000000 in
theorem w_X1_widest_L52 {E : fk_E} {l : Launch} {G : fk_G} {b0 n : Nat} {r : Int32} {mF : fk_M} (X : fk_X E l G b0 "FigureKnee" "widest" cX1_widest 8 9 241 0 0) (Y : fk_Y E (some .int) (some (tI r)) n mF 0 0) (x0 : Option Nat) (x1 : Int32) (x5 : Int32) {R37 : Int32 → Int32 → Int32 → fk_M → Option (Int32 × fk_M)} (hR37 : ∀ (v3 : Int32) (v4 : Int32) (v5 : Int32) (m9 : fk_M), R37 v3 v4 v5 m9 = some (r, mF) → fk_W E 8 n m9 0 0 37 [(0, tR x0), (1, tI x1), (3, tI v3), (4, tI v4), (5, tI v5)] []) : ∀ (N : Nat) (x3 : Int32) (x4 : Int32) (x6 : Int32) (m0 : fk_M), f_X1_widest_L52 R37 x0 x1 x5 N x3 x4 x6 m0 = some (r, mF) → fk_W E 8 n m0 0 0 52 [(0, tR x0), (1, tI x1), (3, tI x3), (4, tI x4), (5, tI x5), (6, tI x6)] [] := by
  intro N
  induction N with
  | zero =>
    intro x3 x4 x6 m0 hf
    have hf : (none : Option (Int32 × fk_M)) = some _ := hf
    cases hf
  | succ N ih =>
    intro x3 x4 x6 m0 hf
    rw [f_X1_widest_L52] at hf
    refine fk_iload X 5 dX1_widest_52 rfl ?_
    refine fk_aload_n X 0 dX1_widest_54 rfl ?_
    obtain ⟨u1, hq, hf⟩ := bI hf
    obtain ⟨z2, hv, hf⟩ := bI hf
    refine fk_callV0I (ci := 0) (rest := [tI x6]) X hq rfl (c_X1_pairs hv) n_X1_pairs q996 q998 qs24 q122 q999 rfl dX1_widest_55 rfl rfl rfl rfl rfl (Nat.le_refl _) (Nat.le_refl _) ?_
    refine fk_icmp_ge' X 110 dX1_widest_58 rfl hf (fun hf => ?_) (fun hf => ?_)
    · refine fk_iinc X 4 [(5, tI (x5 + 1)), (0, tR x0), (1, tI x1), (3, tI x3), (4, tI x4), (6, tI x6)] dX1_widest_110 rfl rfl rfl rfl ?_
      refine fk_goto X 37 dX1_widest_113 rfl ?_
      exact fk_cut' (hR37 x3 x4 (x5 + 1) m0  hf) [1, 2, 3, 4, 0] rfl
    · refine fk_aload_n X 0 dX1_widest_61 rfl ?_
      refine fk_iload X 4 dX1_widest_62 rfl ?_
      refine fk_iload_n X 1 dX1_widest_64 rfl ?_
      obtain ⟨u3, hq, hf⟩ := bI hf
      obtain ⟨z4, m5, hv, hf⟩ := bn2_eq hf
      refine fk_callV0I (ci := 0) (rest := []) X hq rfl (c_X1_saidIn hv) n_X1_saidIn q1150 q1152 qs37 q122 q1153 rfl dX1_widest_65 rfl rfl rfl rfl rfl (Nat.le_refl _) (Nat.le_refl _) ?_
      refine fk_aload_n X 0 dX1_widest_68 rfl ?_
      refine fk_iload X 5 dX1_widest_69 rfl ?_
      refine fk_iload_n X 1 dX1_widest_71 rfl ?_
      obtain ⟨u6, hq, hf⟩ := bI hf
      obtain ⟨z7, m8, hv, hf⟩ := bn2_eq hf
      refine fk_callV0I (ci := 0) (rest := [tI z4]) X hq rfl (c_X1_saidIn hv) n_X1_saidIn q1150 q1152 qs37 q122 q1153 rfl dX1_widest_72 rfl rfl rfl rfl rfl (Nat.le_refl _) (Nat.le_refl _) ?_
      refine fk_isub X dX1_widest_75 ?_
      refine fk_mabs X q1154 q1155 q136 q1156 dX1_widest_76 (by omega) (Nat.le_trans (Nat.le_of_ble_eq_true (rfl : Nat.ble (_ + 13) 40 = true)) (by omega)) (Nat.le_refl _) (Nat.le_refl _) ?_
      refine fk_istore X [(7, tI (i_abs (z4 - z7))), (0, tR x0), (1, tI x1), (3, tI x3), (4, tI x4), (5, tI x5), (6, tI x6)] dX1_widest_79 rfl rfl ?_
      refine fk_iload X 0 dX1_widest_81 rfl ?_
      refine fk_iload X 4 dX1_widest_83 rfl ?_
      have J1 : fk_W E 8 n m8 0 0 104 [(3, tI (if x4 < (i_abs (z4 - z7)) then ((10 * x5) + x6) else x3)), (4, tI (if x4 < (i_abs (z4 - z7)) then (i_abs (z4 - z7)) else x4)), (0, tR x0), (1, tI x1), (5, tI x5), (6, tI x6)] [] := by
        refine fk_iinc X 5 [(6, tI (x6 + 1)), (3, tI (if x4 < (i_abs (z4 - z7)) then ((10 * x5) + x6) else x3)), (4, tI (if x4 < (i_abs (z4 - z7)) then (i_abs (z4 - z7)) else x4)), (0, tR x0), (1, tI x1), (5, tI x5)] dX1_widest_104 rfl rfl rfl rfl ?_
        refine fk_goto X 52 dX1_widest_107 rfl ?_
        exact fk_cut' (ih (if x4 < (i_abs (z4 - z7)) then ((10 * x5) + x6) else x3) (if x4 < (i_abs (z4 - z7)) then (i_abs (z4 - z7)) else x4) (x6 + 1) m8  hf) [3, 4, 1, 2, 5, 0] rfl
      refine fk_icmp_gt X 91 dX1_widest_85 rfl (fun hc2 => ?_) (fun hc2 => ?_)
      · refine fk_iload X 0 dX1_widest_91 rfl ?_
        refine fk_istore X [(4, tI (i_abs (z4 - z7))), (7, tI (i_abs (z4 - z7))), (0, tR x0), (1, tI x1), (3, tI x3), (5, tI x5), (6, tI x6)] dX1_widest_93 rfl rfl ?_
        refine fk_bipush (v := 10) X dX1_widest_95 rfl ?_
        refine fk_iload X 5 dX1_widest_97 rfl ?_
        refine fk_imul X dX1_widest_99 ?_
        refine fk_iload X 6 dX1_widest_100 rfl ?_
        refine fk_iadd X dX1_widest_102 ?_
        refine fk_istore_n X [(3, tI ((10 * x5) + x6)), (4, tI (i_abs (z4 - z7))), (7, tI (i_abs (z4 - z7))), (0, tR x0), (1, tI x1), (5, tI x5), (6, tI x6)] dX1_widest_103 rfl rfl ?_
        simp only [if_pos hc2] at J1
        exact fk_cut' J1 [0, 1, 3, 4, 5, 6] rfl
      · refine fk_goto X 104 dX1_widest_88 rfl ?_
        simp only [if_neg hc2] at J1
        exact fk_cut' J1 [3, 4, 1, 2, 5, 6] rfl
def f_X1_widest_L37 (x0 : Option Nat) (x1 : Int32) : Nat → Int32 → Int32 → Int32 → fk_M → Option (Int32 × fk_M)
  | 0, _, _, _, _ => none
  | N + 1, x3, x4, x5, m0 =>
  (isO m0 x0 0).bind fun u1 => (f_X1_pairs x0 m0).bind fun z2 => if z2 ≤ x5 then ((isO m0 x0 0).bind fun u3 => bn2 (f_X1_well x0 x3 m0) fun z4 m5 => some (z4, m5)) else (f_X1_widest_L52 (f_X1_widest_L37 x0 x1 N) x0 x1 x5 fk_fuel x3 x4 (x5 + 1) m0)
set_option maxHeartbeats 4000000 in
theorem w_X1_widest_L37 {E : fk_E} {l : Launch} {G : fk_G} {b0 n : Nat} {r : Int32} {mF : fk_M} (X : fk_X E l G b0 "FigureKnee" "widest" cX1_widest 8 9 241 0 0) (Y : fk_Y E (some .int) (some (tI r)) n mF 0 0) (x0 : Option Nat) (x1 : Int32) : ∀ (N : Nat) (x3 : Int32) (x4 : Int32) (x5 : Int32) (m0 : fk_M), f_X1_widest_L37 x0 x1 N x3 x4 x5 m0 = some (r, mF) → fk_W E 8 n m0 0 0 37 [(0, tR x0), (1, tI x1), (3, tI x3), (4, tI x4), (5, tI x5)] [] := by
  intro N
  induction N with
  | zero =>
    intro x3 x4 x5 m0 hf
    have hf : (none : Option (Int32 × fk_M)) = some _ := hf
    cases hf
  | succ N ih =>
    intro x3 x4 x5 m0 hf
    rw [f_X1_widest_L37] at hf
    refine fk_iload X 4 dX1_widest_37 rfl ?_
    refine fk_aload_n X 0 dX1_widest_39 rfl ?_
    obtain ⟨u1, hq, hf⟩ := bI hf
    obtain ⟨z2, hv, hf⟩ := bI hf
    refine fk_callV0I (ci := 0) (rest := [tI x5]) X hq rfl (c_X1_pairs hv) n_X1_pairs q996 q998 qs24 q122 q999 rfl dX1_widest_40 rfl rfl rfl rfl rfl (Nat.le_refl _) (Nat.le_refl _) ?_
    refine fk_icmp_ge' X 116 dX1_widest_43 rfl hf (fun hf => ?_) (fun hf => ?_)
    · refine fk_aload_n X 0 dX1_widest_116 rfl ?_
      refine fk_iload_n X 2 dX1_widest_117 rfl ?_
      obtain ⟨u3, hq, hf⟩ := bI hf
      obtain ⟨z4, m5, hv, hf⟩ := bn2_eq hf
      refine fk_callV0I (ci := 0) (rest := []) X hq rfl (c_X1_well hv) n_X1_well q1001 q1003 qs25 q122 q1004 rfl dX1_widest_118 rfl rfl rfl rfl rfl (Nat.le_refl _) (Nat.le_refl _) ?_
      cases hf
      exact fk_ireturn X Y dX1_widest_121 rfl
    · refine fk_iload X 4 dX1_widest_46 rfl ?_
      refine fk_iconst (v := 1) X dX1_widest_48 rfl ?_
      refine fk_iadd X dX1_widest_49 ?_
      refine fk_istore X [(6, tI (x5 + 1)), (0, tR x0), (1, tI x1), (3, tI x3), (4, tI x4), (5, tI x5)] dX1_widest_50 rfl rfl ?_
      exact fk_cut' (w_X1_widest_L52 X Y x0 x1 x5 ih fk_fuel x3 x4 (x5 + 1) m0 hf) [1, 2, 3, 4, 5, 0] rfl
def f_X1_widest (a0 : Option Nat) (a1 : Int32) (m0 : fk_M) : Option (Int32 × fk_M) :=
  (gR m0 a0 0 5).bind fun z1 => (isO m0 a0 0).bind fun u2 => (f_X1_whyAhead a0 (if z1 = none then (0 : Int32) else 1) a1 m0).bind fun z3 => if z3 ≤ 0 then (f_X1_widest_L37 a0 a1 fk_fuel (-2) (-1) 0 m0) else ((isO m0 a0 0).bind fun u4 => bn2 (f_X1_refused a0 z3 m0) fun z5 m6 => some (z5, m6))
set_option maxHeartbeats 4000000 in
theorem c_X1_widest {l : Launch} {G : fk_G} {b0 : Nat} {n : Nat} {a0 : Option Nat} {a1 : Int32} {m0 : fk_M} {r : Int32} {mF : fk_M} (hf : f_X1_widest a0 a1 m0 = some (r, mF)) : fk_Ct l G b0 yX1_widest cX1_widest 8 (some .int) 9 241 [tR a0, tI a1] n m0 (some (tI r)) n mF 0 0 := by
  refine fk_enter n_X1_widest.1 rfl ?_
  intro E X0 Y
  have X : fk_X E l G b0 "FigureKnee" "widest" cX1_widest 8 9 241 0 0 := X0
  show fk_W E 8 n m0 0 0 0 [(0, tR a0), (1, tI a1)] []
  unfold f_X1_widest at hf
  refine fk_aload_n X 0 dX1_widest_0 rfl ?_
  refine fk_aload_n X 0 dX1_widest_1 rfl ?_
  refine fk_getR' X fd_0_5 q195 dX1_widest_2 hf (fun z1 hf => ?_)
  have J1 : fk_W E 8 n m0 0 0 13 [(0, tR a0), (1, tI a1)] [tI (if z1 = none then (0 : Int32) else 1), tR a0] := by
    refine fk_iload_n X 1 dX1_widest_13 rfl ?_
    obtain ⟨u2, hq, hf⟩ := bI hf
    obtain ⟨z3, hv, hf⟩ := bI hf
    refine fk_callV0I (ci := 0) (rest := []) X hq rfl (c_X1_whyAhead hv) n_X1_whyAhead q1035 q1037 qs29 q122 q1038 rfl dX1_widest_14 rfl rfl rfl rfl rfl (Nat.le_refl _) (Nat.le_refl _) ?_
    refine fk_istore_n X [(2, tI z3), (0, tR a0), (1, tI a1)] dX1_widest_17 rfl rfl ?_
    refine fk_iload_n X 0 dX1_widest_18 rfl ?_
    refine fk_if_le' X 28 dX1_widest_19 rfl hf (fun hf => ?_) (fun hf => ?_)
    · refine fk_bipush (v := (-2)) X dX1_widest_28 rfl ?_
      refine fk_istore_n X [(3, tI (-2)), (2, tI z3), (0, tR a0), (1, tI a1)] dX1_widest_30 rfl rfl ?_
      refine fk_iconst (v := (-1)) X dX1_widest_31 rfl ?_
      refine fk_istore X [(4, tI (-1)), (3, tI (-2)), (2, tI z3), (0, tR a0), (1, tI a1)] dX1_widest_32 rfl rfl ?_
      refine fk_iconst (v := 0) X dX1_widest_34 rfl ?_
      refine fk_istore X [(5, tI 0), (4, tI (-1)), (3, tI (-2)), (2, tI z3), (0, tR a0), (1, tI a1)] dX1_widest_35 rfl rfl ?_
      exact fk_cut' (w_X1_widest_L37 X Y a0 a1 fk_fuel (-2) (-1) 0 m0 hf) [4, 5, 2, 1, 0] rfl
    · refine fk_aload_n X 1 dX1_widest_22 rfl ?_
      refine fk_iload_n X 0 dX1_widest_23 rfl ?_
      obtain ⟨u4, hq, hf⟩ := bI hf
      obtain ⟨z5, m6, hv, hf⟩ := bn2_eq hf
      refine fk_callV0I (ci := 0) (rest := []) X hq rfl (c_X1_refused hv) n_X1_refused q264 q266 qs0 q122 q267 rfl dX1_widest_24 rfl rfl rfl rfl rfl (Nat.le_refl _) (Nat.le_refl _) ?_
      cases hf
      exact fk_ireturn X Y dX1_widest_27 rfl
  refine fk_ifnull X 12 dX1_widest_5 rfl (fun hc2 => ?_) (fun hc2 => ?_)
  · refine fk_iconst (v := 0) X dX1_widest_12 rfl ?_
    simp only [if_pos hc2] at J1
    exact fk_cut' J1 [0, 1] rfl
  · refine fk_iconst (v := 1) X dX1_widest_8 rfl ?_
    refine fk_goto X 13 dX1_widest_9 rfl ?_
    simp only [if_neg hc2] at J1
    exact fk_cut' J1 [0, 1] rfl
/-! FigureKnee sumAll (I)I -/
theorem n_X1_sumAll : fk_N yX1_sumAll 1 := ⟨by decide +kernel, by decide +kernel, by decide +kernel, by decide +kernel⟩
def f_X1_sumAll_L33 (x0 : Option Nat) (x1 : Int32) : Nat → Int32 → Int32 → fk_M → Option (Int32 × fk_M)
  | 0, _, _, _ => none
  | N + 1, x3, x4, m0 =>
  (isO m0 x0 0).bind fun u1 => (f_X1_pairs x0 m0).bind fun z2 => if z2 ≤ x4 then ((isO m0 x0 0).bind fun u3 => bn2 (f_X1_well x0 x3 m0) fun z4 m5 => some (z4, m5)) else ((isO m0 x0 0).bind fun u6 => bn2 (f_X1_saidIn x0 x4 x1 m0) fun z7 m8 => f_X1_sumAll_L33 x0 x1 N (x3 + z7) (x4 + 1) m8)
set_option maxHeartbeats 4000000 in
theorem w_X1_sumAll_L33 {E : fk_E} {l : Launch} {G : fk_G} {b0 n : Nat} {r : Int32} {mF : fk_M} (X : fk_X E l G b0 "FigureKnee" "sumAll" cX1_sumAll 5 9 241 0 0) (Y : fk_Y E (some .int) (some (tI r)) n mF 0 0) (x0 : Option Nat) (x1 : Int32) : ∀ (N : Nat) (x3 : Int32) (x4 : Int32) (m0 : fk_M), f_X1_sumAll_L33 x0 x1 N x3 x4 m0 = some (r, mF) → fk_W E 5 n m0 0 0 33 [(0, tR x0), (1, tI x1), (3, tI x3), (4, tI x4)] [] := by
  intro N
  induction N with
  | zero =>
    intro x3 x4 m0 hf
    have hf : (none : Option (Int32 × fk_M)) = some _ := hf
    cases hf
  | succ N ih =>
    intro x3 x4 m0 hf
    rw [f_X1_sumAll_L33] at hf
    refine fk_iload X 3 dX1_sumAll_33 rfl ?_
    refine fk_aload_n X 0 dX1_sumAll_35 rfl ?_
    obtain ⟨u1, hq, hf⟩ := bI hf
    obtain ⟨z2, hv, hf⟩ := bI hf
    refine fk_callV0I (ci := 0) (rest := [tI x4]) X hq rfl (c_X1_pairs hv) n_X1_pairs q996 q998 qs24 q122 q999 rfl dX1_sumAll_36 rfl rfl rfl rfl rfl (Nat.le_refl _) (Nat.le_refl _) ?_
    refine fk_icmp_ge' X 58 dX1_sumAll_39 rfl hf (fun hf => ?_) (fun hf => ?_)
    · refine fk_aload_n X 0 dX1_sumAll_58 rfl ?_
      refine fk_iload_n X 2 dX1_sumAll_59 rfl ?_
      obtain ⟨u3, hq, hf⟩ := bI hf
      obtain ⟨z4, m5, hv, hf⟩ := bn2_eq hf
      refine fk_callV0I (ci := 0) (rest := []) X hq rfl (c_X1_well hv) n_X1_well q1001 q1003 qs25 q122 q1004 rfl dX1_sumAll_60 rfl rfl rfl rfl rfl (Nat.le_refl _) (Nat.le_refl _) ?_
      cases hf
      exact fk_ireturn X Y dX1_sumAll_63 rfl
    · refine fk_iload_n X 2 dX1_sumAll_42 rfl ?_
      refine fk_aload_n X 0 dX1_sumAll_43 rfl ?_
      refine fk_iload X 3 dX1_sumAll_44 rfl ?_
      refine fk_iload_n X 1 dX1_sumAll_46 rfl ?_
      obtain ⟨u6, hq, hf⟩ := bI hf
      obtain ⟨z7, m8, hv, hf⟩ := bn2_eq hf
      refine fk_callV0I (ci := 0) (rest := [tI x3]) X hq rfl (c_X1_saidIn hv) n_X1_saidIn q1150 q1152 qs37 q122 q1153 rfl dX1_sumAll_47 rfl rfl rfl rfl rfl (Nat.le_refl _) (Nat.le_refl _) ?_
      refine fk_iadd X dX1_sumAll_50 ?_
      refine fk_istore_n X [(3, tI (x3 + z7)), (0, tR x0), (1, tI x1), (4, tI x4)] dX1_sumAll_51 rfl rfl ?_
      refine fk_iinc X 3 [(4, tI (x4 + 1)), (3, tI (x3 + z7)), (0, tR x0), (1, tI x1)] dX1_sumAll_52 rfl rfl rfl rfl ?_
      refine fk_goto X 33 dX1_sumAll_55 rfl ?_
      exact fk_cut' (ih (x3 + z7) (x4 + 1) m8  hf) [2, 3, 1, 0] rfl
def f_X1_sumAll (a0 : Option Nat) (a1 : Int32) (m0 : fk_M) : Option (Int32 × fk_M) :=
  (gR m0 a0 0 5).bind fun z1 => (isO m0 a0 0).bind fun u2 => (f_X1_whyAhead a0 (if z1 = none then (0 : Int32) else 1) a1 m0).bind fun z3 => if z3 ≤ 0 then (f_X1_sumAll_L33 a0 a1 fk_fuel 0 0 m0) else ((isO m0 a0 0).bind fun u4 => bn2 (f_X1_refused a0 z3 m0) fun z5 m6 => some (z5, m6))
set_option maxHeartbeats 4000000 in
theorem c_X1_sumAll {l : Launch} {G : fk_G} {b0 : Nat} {n : Nat} {a0 : Option Nat} {a1 : Int32} {m0 : fk_M} {r : Int32} {mF : fk_M} (hf : f_X1_sumAll a0 a1 m0 = some (r, mF)) : fk_Ct l G b0 yX1_sumAll cX1_sumAll 5 (some .int) 9 241 [tR a0, tI a1] n m0 (some (tI r)) n mF 0 0 := by
  refine fk_enter n_X1_sumAll.1 rfl ?_
  intro E X0 Y
  have X : fk_X E l G b0 "FigureKnee" "sumAll" cX1_sumAll 5 9 241 0 0 := X0
  show fk_W E 5 n m0 0 0 0 [(0, tR a0), (1, tI a1)] []
  unfold f_X1_sumAll at hf
  refine fk_aload_n X 0 dX1_sumAll_0 rfl ?_
  refine fk_aload_n X 0 dX1_sumAll_1 rfl ?_
  refine fk_getR' X fd_0_5 q195 dX1_sumAll_2 hf (fun z1 hf => ?_)
  have J1 : fk_W E 5 n m0 0 0 13 [(0, tR a0), (1, tI a1)] [tI (if z1 = none then (0 : Int32) else 1), tR a0] := by
    refine fk_iload_n X 1 dX1_sumAll_13 rfl ?_
    obtain ⟨u2, hq, hf⟩ := bI hf
    obtain ⟨z3, hv, hf⟩ := bI hf
    refine fk_callV0I (ci := 0) (rest := []) X hq rfl (c_X1_whyAhead hv) n_X1_whyAhead q1035 q1037 qs29 q122 q1038 rfl dX1_sumAll_14 rfl rfl rfl rfl rfl (Nat.le_refl _) (Nat.le_refl _) ?_
    refine fk_istore_n X [(2, tI z3), (0, tR a0), (1, tI a1)] dX1_sumAll_17 rfl rfl ?_
    refine fk_iload_n X 0 dX1_sumAll_18 rfl ?_
    refine fk_if_le' X 28 dX1_sumAll_19 rfl hf (fun hf => ?_) (fun hf => ?_)
    · refine fk_iconst (v := 0) X dX1_sumAll_28 rfl ?_
      refine fk_istore_n X [(3, tI 0), (2, tI z3), (0, tR a0), (1, tI a1)] dX1_sumAll_29 rfl rfl ?_
      refine fk_iconst (v := 0) X dX1_sumAll_30 rfl ?_
      refine fk_istore X [(4, tI 0), (3, tI 0), (2, tI z3), (0, tR a0), (1, tI a1)] dX1_sumAll_31 rfl rfl ?_
      exact fk_cut' (w_X1_sumAll_L33 X Y a0 a1 fk_fuel 0 0 m0 hf) [3, 4, 1, 0] rfl
    · refine fk_aload_n X 1 dX1_sumAll_22 rfl ?_
      refine fk_iload_n X 0 dX1_sumAll_23 rfl ?_
      obtain ⟨u4, hq, hf⟩ := bI hf
      obtain ⟨z5, m6, hv, hf⟩ := bn2_eq hf
      refine fk_callV0I (ci := 0) (rest := []) X hq rfl (c_X1_refused hv) n_X1_refused q264 q266 qs0 q122 q267 rfl dX1_sumAll_24 rfl rfl rfl rfl rfl (Nat.le_refl _) (Nat.le_refl _) ?_
      cases hf
      exact fk_ireturn X Y dX1_sumAll_27 rfl
  refine fk_ifnull X 12 dX1_sumAll_5 rfl (fun hc2 => ?_) (fun hc2 => ?_)
  · refine fk_iconst (v := 0) X dX1_sumAll_12 rfl ?_
    simp only [if_pos hc2] at J1
    exact fk_cut' J1 [0, 1] rfl
  · refine fk_iconst (v := 1) X dX1_sumAll_8 rfl ?_
    refine fk_goto X 13 dX1_sumAll_9 rfl ?_
    simp only [if_neg hc2] at J1
    exact fk_cut' J1 [0, 1] rfl
/-! FigureKnee mastersIn (I)I -/
theorem n_X1_mastersIn : fk_N yX1_mastersIn 1 := ⟨by decide +kernel, by decide +kernel, by decide +kernel, by decide +kernel⟩
def f_X1_mastersIn_L4 (x0 : Option Nat) (x1 : Int32) : Nat → Int32 → Int32 → fk_M → Option (Int32 × fk_M)
  | 0, _, _, _ => none
  | N + 1, x2, x3, m0 =>
  (isO m0 x0 0).bind fun u1 => (f_X1_pairs x0 m0).bind fun z2 => if z2 ≤ x3 then (some (x2, m0)) else ((isO m0 x0 0).bind fun u3 => (f_X1_tellsOn x0 x3 x1 m0).bind fun m4 => (gR m4 x0 0 9).bind fun z5 => (aI m4 z5 2 x1).bind fun z6 => (isO m4 x0 0).bind fun u7 => (f_X1_isMore x0 z6 m4).bind fun z8 => f_X1_mastersIn_L4 x0 x1 N (x2 ||| (if z8 = 0 then (0 : Int32) else (i_shl 1 x3))) (x3 + 1) m4)
set_option maxHeartbeats 4000000 in
theorem w_X1_mastersIn_L4 {E : fk_E} {l : Launch} {G : fk_G} {b0 n : Nat} {r : Int32} {mF : fk_M} (X : fk_X E l G b0 "FigureKnee" "mastersIn" cX1_mastersIn 4 8 219 0 0) (Y : fk_Y E (some .int) (some (tI r)) n mF 0 0) (x0 : Option Nat) (x1 : Int32) : ∀ (N : Nat) (x2 : Int32) (x3 : Int32) (m0 : fk_M), f_X1_mastersIn_L4 x0 x1 N x2 x3 m0 = some (r, mF) → fk_W E 4 n m0 0 0 4 [(0, tR x0), (1, tI x1), (2, tI x2), (3, tI x3)] [] := by
  intro N
  induction N with
  | zero =>
    intro x2 x3 m0 hf
    have hf : (none : Option (Int32 × fk_M)) = some _ := hf
    cases hf
  | succ N ih =>
    intro x2 x3 m0 hf
    rw [f_X1_mastersIn_L4] at hf
    refine fk_iload_n X 3 dX1_mastersIn_4 rfl ?_
    refine fk_aload_n X 0 dX1_mastersIn_5 rfl ?_
    obtain ⟨u1, hq, hf⟩ := bI hf
    obtain ⟨z2, hv, hf⟩ := bI hf
    refine fk_callV0I (ci := 0) (rest := [tI x3]) X hq rfl (c_X1_pairs hv) n_X1_pairs q996 q998 qs24 q122 q999 rfl dX1_mastersIn_6 rfl rfl rfl rfl rfl (Nat.le_refl _) (Nat.le_refl _) ?_
    refine fk_icmp_ge' X 47 dX1_mastersIn_9 rfl hf (fun hf => ?_) (fun hf => ?_)
    · refine fk_iload_n X 2 dX1_mastersIn_47 rfl ?_
      cases hf
      exact fk_ireturn X Y dX1_mastersIn_48 rfl
    · refine fk_aload_n X 0 dX1_mastersIn_12 rfl ?_
      refine fk_iload_n X 3 dX1_mastersIn_13 rfl ?_
      refine fk_iload_n X 1 dX1_mastersIn_14 rfl ?_
      obtain ⟨u3, hq, hf⟩ := bI hf
      obtain ⟨m4, hv, hf⟩ := bI hf
      refine fk_callV0V (ci := 0) (rest := []) X hq rfl (c_X1_tellsOn hv) n_X1_tellsOn q1043 q1045 qs31 q122 q1046 rfl dX1_mastersIn_15 rfl rfl rfl rfl rfl (Nat.le_refl _) (Nat.le_refl _) ?_
      refine fk_iload_n X 2 dX1_mastersIn_18 rfl ?_
      refine fk_aload_n X 0 dX1_mastersIn_19 rfl ?_
      refine fk_aload_n X 0 dX1_mastersIn_20 rfl ?_
      refine fk_getR' X fd_0_9 q199 dX1_mastersIn_21 hf (fun z5 hf => ?_)
      refine fk_iload_n X 1 dX1_mastersIn_24 rfl ?_
      refine fk_saload' X dX1_mastersIn_25 hf (fun z6 hf => ?_)
      obtain ⟨u7, hq, hf⟩ := bI hf
      obtain ⟨z8, hv, hf⟩ := bI hf
      refine fk_callV0I (ci := 0) (rest := [tI x2]) X hq rfl (c_X1_isMore hv) n_X1_isMore q1027 q1029 qs28 q122 q1030 rfl dX1_mastersIn_26 rfl rfl rfl rfl rfl (Nat.le_refl _) (Nat.le_refl _) ?_
      have J1 : fk_W E 4 n m4 0 0 39 [(0, tR x0), (1, tI x1), (3, tI x3)] [tI (if z8 = 0 then (0 : Int32) else (i_shl 1 x3)), tI x2] := by
        refine fk_ior X dX1_mastersIn_39 ?_
        refine fk_istore_n X [(2, tI (x2 ||| (if z8 = 0 then (0 : Int32) else (i_shl 1 x3)))), (0, tR x0), (1, tI x1), (3, tI x3)] dX1_mastersIn_40 rfl rfl ?_
        refine fk_iinc X 3 [(3, tI (x3 + 1)), (2, tI (x2 ||| (if z8 = 0 then (0 : Int32) else (i_shl 1 x3)))), (0, tR x0), (1, tI x1)] dX1_mastersIn_41 rfl rfl rfl rfl ?_
        refine fk_goto X 4 dX1_mastersIn_44 rfl ?_
        exact fk_cut' (ih (x2 ||| (if z8 = 0 then (0 : Int32) else (i_shl 1 x3))) (x3 + 1) m4  hf) [2, 3, 1, 0] rfl
      refine fk_if_eq X 38 dX1_mastersIn_29 rfl (fun hc2 => ?_) (fun hc2 => ?_)
      · refine fk_iconst (v := 0) X dX1_mastersIn_38 rfl ?_
        simp only [if_pos hc2] at J1
        exact fk_cut' J1 [0, 1, 3] rfl
      · refine fk_iconst (v := 1) X dX1_mastersIn_32 rfl ?_
        refine fk_iload_n X 3 dX1_mastersIn_33 rfl ?_
        refine fk_ishl X dX1_mastersIn_34 ?_
        refine fk_goto X 39 dX1_mastersIn_35 rfl ?_
        simp only [if_neg hc2] at J1
        exact fk_cut' J1 [0, 1, 3] rfl
def f_X1_mastersIn (a0 : Option Nat) (a1 : Int32) (m0 : fk_M) : Option (Int32 × fk_M) :=
  f_X1_mastersIn_L4 a0 a1 fk_fuel 0 0 m0
set_option maxHeartbeats 4000000 in
theorem c_X1_mastersIn {l : Launch} {G : fk_G} {b0 : Nat} {n : Nat} {a0 : Option Nat} {a1 : Int32} {m0 : fk_M} {r : Int32} {mF : fk_M} (hf : f_X1_mastersIn a0 a1 m0 = some (r, mF)) : fk_Ct l G b0 yX1_mastersIn cX1_mastersIn 4 (some .int) 8 219 [tR a0, tI a1] n m0 (some (tI r)) n mF 0 0 := by
  refine fk_enter n_X1_mastersIn.1 rfl ?_
  intro E X0 Y
  have X : fk_X E l G b0 "FigureKnee" "mastersIn" cX1_mastersIn 4 8 219 0 0 := X0
  show fk_W E 4 n m0 0 0 0 [(0, tR a0), (1, tI a1)] []
  unfold f_X1_mastersIn at hf
  refine fk_iconst (v := 0) X dX1_mastersIn_0 rfl ?_
  refine fk_istore_n X [(2, tI 0), (0, tR a0), (1, tI a1)] dX1_mastersIn_1 rfl rfl ?_
  refine fk_iconst (v := 0) X dX1_mastersIn_2 rfl ?_
  refine fk_istore_n X [(3, tI 0), (2, tI 0), (0, tR a0), (1, tI a1)] dX1_mastersIn_3 rfl rfl ?_
  exact fk_cut' (w_X1_mastersIn_L4 X Y a0 a1 fk_fuel 0 0 m0 hf) [2, 3, 1, 0] rfl
/-! FigureKnee masters (I)I -/
theorem n_X1_masters : fk_N yX1_masters 1 := ⟨by decide +kernel, by decide +kernel, by decide +kernel, by decide +kernel⟩
def f_X1_masters (a0 : Option Nat) (a1 : Int32) (m0 : fk_M) : Option (Int32 × fk_M) :=
  (gR m0 a0 0 5).bind fun z1 => (isO m0 a0 0).bind fun u2 => (f_X1_whyAhead a0 (if z1 = none then (0 : Int32) else 1) a1 m0).bind fun z3 => if z3 ≤ 0 then ((isO m0 a0 0).bind fun u4 => bn2 (f_X1_mastersIn a0 a1 m0) fun z5 m6 => (isO m6 a0 0).bind fun u7 => bn2 (f_X1_well a0 z5 m6) fun z8 m9 => some (z8, m9)) else ((isO m0 a0 0).bind fun u10 => bn2 (f_X1_refused a0 z3 m0) fun z11 m12 => some (z11, m12))
set_option maxHeartbeats 4000000 in
theorem c_X1_masters {l : Launch} {G : fk_G} {b0 : Nat} {n : Nat} {a0 : Option Nat} {a1 : Int32} {m0 : fk_M} {r : Int32} {mF : fk_M} (hf : f_X1_masters a0 a1 m0 = some (r, mF)) : fk_Ct l G b0 yX1_masters cX1_masters 3 (some .int) 9 242 [tR a0, tI a1] n m0 (some (tI r)) n mF 0 0 := by
  refine fk_enter n_X1_masters.1 rfl ?_
  intro E X0 Y
  have X : fk_X E l G b0 "FigureKnee" "masters" cX1_masters 3 9 242 0 0 := X0
  show fk_W E 3 n m0 0 0 0 [(0, tR a0), (1, tI a1)] []
  unfold f_X1_masters at hf
  refine fk_aload_n X 0 dX1_masters_0 rfl ?_
  refine fk_aload_n X 0 dX1_masters_1 rfl ?_
  refine fk_getR' X fd_0_5 q195 dX1_masters_2 hf (fun z1 hf => ?_)
  have J1 : fk_W E 3 n m0 0 0 13 [(0, tR a0), (1, tI a1)] [tI (if z1 = none then (0 : Int32) else 1), tR a0] := by
    refine fk_iload_n X 1 dX1_masters_13 rfl ?_
    obtain ⟨u2, hq, hf⟩ := bI hf
    obtain ⟨z3, hv, hf⟩ := bI hf
    refine fk_callV0I (ci := 0) (rest := []) X hq rfl (c_X1_whyAhead hv) n_X1_whyAhead q1035 q1037 qs29 q122 q1038 rfl dX1_masters_14 rfl rfl rfl rfl rfl (Nat.le_refl _) (Nat.le_refl _) ?_
    refine fk_istore_n X [(2, tI z3), (0, tR a0), (1, tI a1)] dX1_masters_17 rfl rfl ?_
    refine fk_iload_n X 0 dX1_masters_18 rfl ?_
    refine fk_if_le' X 30 dX1_masters_19 rfl hf (fun hf => ?_) (fun hf => ?_)
    · refine fk_aload_n X 1 dX1_masters_30 rfl ?_
      refine fk_aload_n X 1 dX1_masters_31 rfl ?_
      refine fk_iload_n X 2 dX1_masters_32 rfl ?_
      obtain ⟨u4, hq, hf⟩ := bI hf
      obtain ⟨z5, m6, hv, hf⟩ := bn2_eq hf
      refine fk_callV0I (ci := 0) (rest := [tR a0]) X hq rfl (c_X1_mastersIn hv) n_X1_mastersIn q1165 q1167 qs38 q122 q1168 rfl dX1_masters_33 rfl rfl rfl rfl rfl (Nat.le_refl _) (Nat.le_refl _) ?_
      obtain ⟨u7, hq, hf⟩ := bI hf
      obtain ⟨z8, m9, hv, hf⟩ := bn2_eq hf
      refine fk_callV0I (ci := 0) (rest := []) X hq rfl (c_X1_well hv) n_X1_well q1001 q1003 qs25 q122 q1004 rfl dX1_masters_36 rfl rfl rfl rfl rfl (Nat.le_refl _) (Nat.le_refl _) ?_
      cases hf
      exact fk_ireturn X Y dX1_masters_39 rfl
    · refine fk_aload_n X 1 dX1_masters_22 rfl ?_
      refine fk_iload_n X 0 dX1_masters_23 rfl ?_
      obtain ⟨u10, hq, hf⟩ := bI hf
      obtain ⟨z11, m12, hv, hf⟩ := bn2_eq hf
      refine fk_callV0I (ci := 0) (rest := []) X hq rfl (c_X1_refused hv) n_X1_refused q264 q266 qs0 q122 q267 rfl dX1_masters_24 rfl rfl rfl rfl rfl (Nat.le_refl _) (Nat.le_refl _) ?_
      refine fk_goto X 39 dX1_masters_27 rfl ?_
      cases hf
      exact fk_ireturn X Y dX1_masters_39 rfl
  refine fk_ifnull X 12 dX1_masters_5 rfl (fun hc2 => ?_) (fun hc2 => ?_)
  · refine fk_iconst (v := 0) X dX1_masters_12 rfl ?_
    simp only [if_pos hc2] at J1
    exact fk_cut' J1 [0, 1] rfl
  · refine fk_iconst (v := 1) X dX1_masters_8 rfl ?_
    refine fk_goto X 13 dX1_masters_9 rfl ?_
    simp only [if_neg hc2] at J1
    exact fk_cut' J1 [0, 1] rfl
/-! FigureKnee bestEvery (II)I -/
theorem n_X1_bestEvery : fk_N yX1_bestEvery 2 := ⟨by decide +kernel, by decide +kernel, by decide +kernel, by decide +kernel⟩
def f_X1_bestEvery_J63 (R10 : Int32 → Int32 → fk_M → Option (Int32 × fk_M)) (x0 : Option Nat) (x1 : Int32) (x2 : Int32) (x3 : Int32) (x4 : Int32) (m0 : fk_M) : Option (Int32 × fk_M) :=
  R10 x3 (x4 + 1) m0
set_option maxHeartbeats 4000000 in
theorem w_X1_bestEvery_J63 {E : fk_E} {l : Launch} {G : fk_G} {b0 n : Nat} {r : Int32} {mF : fk_M} (X : fk_X E l G b0 "FigureKnee" "bestEvery" cX1_bestEvery 5 7 197 0 0) (Y : fk_Y E (some .int) (some (tI r)) n mF 0 0) (x0 : Option Nat) (x1 : Int32) (x2 : Int32) (x3 : Int32) (x4 : Int32)  (m0 : fk_M) {R10 : Int32 → Int32 → fk_M → Option (Int32 × fk_M)} (hR10 : ∀ (v3 : Int32) (v4 : Int32) (m9 : fk_M), R10 v3 v4 m9 = some (r, mF) → fk_W E 5 n m9 0 0 10 [(0, tR x0), (1, tI x1), (2, tI x2), (3, tI v3), (4, tI v4)] []) (hf : f_X1_bestEvery_J63 R10 x0 x1 x2 x3 x4 m0 = some (r, mF)) : fk_W E 5 n m0 0 0 63 [(0, tR x0), (1, tI x1), (2, tI x2), (3, tI x3), (4, tI x4)] [] := by
  unfold f_X1_bestEvery_J63 at hf
  refine fk_iinc X 4 [(4, tI (x4 + 1)), (0, tR x0), (1, tI x1), (2, tI x2), (3, tI x3)] dX1_bestEvery_63 rfl rfl rfl rfl ?_
  refine fk_goto X 10 dX1_bestEvery_66 rfl ?_
  exact fk_cut' (hR10 x3 (x4 + 1) m0  hf) [1, 2, 3, 4, 0] rfl
def f_X1_bestEvery_L10 (x0 : Option Nat) (x1 : Int32) (x2 : Int32) : Nat → Int32 → Int32 → fk_M → Option (Int32 × fk_M)
  | 0, _, _, _ => none
  | N + 1, x3, x4, m0 =>
  if 9 < x4 then (some (x3, m0)) else ((gR m0 x0 0 6).bind fun z1 => (gR m0 z1 13 2).bind fun z2 => (aI m0 z2 1 x1).bind fun z3 => (isO m0 x0 0).bind fun u4 => (f_X1_tells x0 x1 z3 x4 x2 m0).bind fun m5 => (gR m5 x0 0 9).bind fun z6 => (aI m5 z6 2 x2).bind fun z7 => (gI m5 x0 0 12).bind fun z8 => if z8 < z7 then ((gR m5 x0 0 9).bind fun z9 => (aI m5 z9 2 x2).bind fun z10 => (pV m5 x0 0 12 (tI z10)).bind fun m11 => f_X1_bestEvery_J63 (f_X1_bestEvery_L10 x0 x1 x2 N) x0 x1 x2 x4 x4 m11) else (f_X1_bestEvery_J63 (f_X1_bestEvery_L10 x0 x1 x2 N) x0 x1 x2 x3 x4 m5))
set_option maxHeartbeats 4000000 in
theorem w_X1_bestEvery_L10 {E : fk_E} {l : Launch} {G : fk_G} {b0 n : Nat} {r : Int32} {mF : fk_M} (X : fk_X E l G b0 "FigureKnee" "bestEvery" cX1_bestEvery 5 7 197 0 0) (Y : fk_Y E (some .int) (some (tI r)) n mF 0 0) (x0 : Option Nat) (x1 : Int32) (x2 : Int32) : ∀ (N : Nat) (x3 : Int32) (x4 : Int32) (m0 : fk_M), f_X1_bestEvery_L10 x0 x1 x2 N x3 x4 m0 = some (r, mF) → fk_W E 5 n m0 0 0 10 [(0, tR x0), (1, tI x1), (2, tI x2), (3, tI x3), (4, tI x4)] [] := by
  intro N
  induction N with
  | zero =>
    intro x3 x4 m0 hf
    have hf : (none : Option (Int32 × fk_M)) = some _ := hf
    cases hf
  | succ N ih =>
    intro x3 x4 m0 hf
    rw [f_X1_bestEvery_L10] at hf
    refine fk_iload X 4 dX1_bestEvery_10 rfl ?_
    refine fk_bipush (v := 9) X dX1_bestEvery_12 rfl ?_
    refine fk_icmp_gt' X 69 dX1_bestEvery_14 rfl hf (fun hf => ?_) (fun hf => ?_)
    · refine fk_iload_n X 3 dX1_bestEvery_69 rfl ?_
      cases hf
      exact fk_ireturn X Y dX1_bestEvery_70 rfl
    · refine fk_aload_n X 0 dX1_bestEvery_17 rfl ?_
      refine fk_iload_n X 1 dX1_bestEvery_18 rfl ?_
      refine fk_aload_n X 0 dX1_bestEvery_19 rfl ?_
      refine fk_getR' X fd_0_6 q196 dX1_bestEvery_20 hf (fun z1 hf => ?_)
      refine fk_getR' X fd_13_2 q968 dX1_bestEvery_23 hf (fun z2 hf => ?_)
      refine fk_iload_n X 1 dX1_bestEvery_26 rfl ?_
      refine fk_baload' X dX1_bestEvery_27 hf (fun z3 hf => ?_)
      refine fk_iload X 4 dX1_bestEvery_28 rfl ?_
      refine fk_iload_n X 2 dX1_bestEvery_30 rfl ?_
      obtain ⟨u4, hq, hf⟩ := bI hf
      obtain ⟨m5, hv, hf⟩ := bI hf
      refine fk_callV0V (ci := 0) (rest := []) X hq rfl (c_X1_tells hv) n_X1_tells q1047 q1049 qs32 q122 q1050 rfl dX1_bestEvery_31 rfl rfl rfl rfl rfl (Nat.le_refl _) (Nat.le_refl _) ?_
      refine fk_aload_n X 0 dX1_bestEvery_34 rfl ?_
      refine fk_getR' X fd_0_9 q199 dX1_bestEvery_35 hf (fun z6 hf => ?_)
      refine fk_iload_n X 2 dX1_bestEvery_38 rfl ?_
      refine fk_saload' X dX1_bestEvery_39 hf (fun z7 hf => ?_)
      refine fk_aload_n X 0 dX1_bestEvery_40 rfl ?_
      refine fk_getI' X fd_0_12 q202 dX1_bestEvery_41 hf (fun z8 hf => ?_)
      refine fk_icmp_gt' X 50 dX1_bestEvery_44 rfl hf (fun hf => ?_) (fun hf => ?_)
      · refine fk_aload_n X 0 dX1_bestEvery_50 rfl ?_
        refine fk_aload_n X 0 dX1_bestEvery_51 rfl ?_
        refine fk_getR' X fd_0_9 q199 dX1_bestEvery_52 hf (fun z9 hf => ?_)
        refine fk_iload_n X 2 dX1_bestEvery_55 rfl ?_
        refine fk_saload' X dX1_bestEvery_56 hf (fun z10 hf => ?_)
        refine fk_putI' X fd_0_12 q202 dX1_bestEvery_57 (fit_I _) hf (fun m11 hf => ?_)
        refine fk_iload X 4 dX1_bestEvery_60 rfl ?_
        refine fk_istore_n X [(3, tI x4), (0, tR x0), (1, tI x1), (2, tI x2), (4, tI x4)] dX1_bestEvery_62 rfl rfl ?_
        exact fk_cut' (w_X1_bestEvery_J63 X Y x0 x1 x2 x4 x4 m11 ih hf) [1, 2, 3, 0, 4] rfl
      · refine fk_goto X 63 dX1_bestEvery_47 rfl ?_
        exact fk_cut' (w_X1_bestEvery_J63 X Y x0 x1 x2 x3 x4 m5 ih hf) [0, 1, 2, 3, 4] rfl
def f_X1_bestEvery (a0 : Option Nat) (a1 : Int32) (a2 : Int32) (m0 : fk_M) : Option (Int32 × fk_M) :=
  (pV m0 a0 0 12 (tI (-1))).bind fun m1 => f_X1_bestEvery_L10 a0 a1 a2 fk_fuel 0 0 m1
set_option maxHeartbeats 4000000 in
theorem c_X1_bestEvery {l : Launch} {G : fk_G} {b0 : Nat} {n : Nat} {a0 : Option Nat} {a1 : Int32} {a2 : Int32} {m0 : fk_M} {r : Int32} {mF : fk_M} (hf : f_X1_bestEvery a0 a1 a2 m0 = some (r, mF)) : fk_Ct l G b0 yX1_bestEvery cX1_bestEvery 5 (some .int) 7 197 [tR a0, tI a1, tI a2] n m0 (some (tI r)) n mF 0 0 := by
  refine fk_enter n_X1_bestEvery.1 rfl ?_
  intro E X0 Y
  have X : fk_X E l G b0 "FigureKnee" "bestEvery" cX1_bestEvery 5 7 197 0 0 := X0
  show fk_W E 5 n m0 0 0 0 [(0, tR a0), (1, tI a1), (2, tI a2)] []
  unfold f_X1_bestEvery at hf
  refine fk_iconst (v := 0) X dX1_bestEvery_0 rfl ?_
  refine fk_istore_n X [(3, tI 0), (0, tR a0), (1, tI a1), (2, tI a2)] dX1_bestEvery_1 rfl rfl ?_
  refine fk_aload_n X 1 dX1_bestEvery_2 rfl ?_
  refine fk_iconst (v := (-1)) X dX1_bestEvery_3 rfl ?_
  refine fk_putI' X fd_0_12 q202 dX1_bestEvery_4 (fit_I _) hf (fun m1 hf => ?_)
  refine fk_iconst (v := 0) X dX1_bestEvery_7 rfl ?_
  refine fk_istore X [(4, tI 0), (3, tI 0), (0, tR a0), (1, tI a1), (2, tI a2)] dX1_bestEvery_8 rfl rfl ?_
  exact fk_cut' (w_X1_bestEvery_L10 X Y a0 a1 a2 fk_fuel 0 0 m1 hf) [2, 3, 4, 1, 0] rfl
/-! FigureKnee everyFor (II)I -/
theorem n_X1_everyFor : fk_N yX1_everyFor 2 := ⟨by decide +kernel, by decide +kernel, by decide +kernel, by decide +kernel⟩
def f_X1_everyFor (a0 : Option Nat) (a1 : Int32) (a2 : Int32) (m0 : fk_M) : Option (Int32 × fk_M) :=
  (isO m0 a0 0).bind fun u1 => (f_X1_isPair a0 a1 m0).bind fun z2 => (isO m0 a0 0).bind fun u3 => (f_X1_whyAhead a0 z2 a2 m0).bind fun z4 => if z4 ≤ 0 then ((isO m0 a0 0).bind fun u5 => bn2 (f_X1_bestEvery a0 a1 a2 m0) fun z6 m7 => (isO m7 a0 0).bind fun u8 => bn2 (f_X1_well a0 z6 m7) fun z9 m10 => some (z9, m10)) else ((isO m0 a0 0).bind fun u11 => bn2 (f_X1_refused a0 z4 m0) fun z12 m13 => some (z12, m13))
set_option maxHeartbeats 4000000 in
theorem c_X1_everyFor {l : Launch} {G : fk_G} {b0 : Nat} {n : Nat} {a0 : Option Nat} {a1 : Int32} {a2 : Int32} {m0 : fk_M} {r : Int32} {mF : fk_M} (hf : f_X1_everyFor a0 a1 a2 m0 = some (r, mF)) : fk_Ct l G b0 yX1_everyFor cX1_everyFor 4 (some .int) 8 221 [tR a0, tI a1, tI a2] n m0 (some (tI r)) n mF 0 0 := by
  refine fk_enter n_X1_everyFor.1 rfl ?_
  intro E X0 Y
  have X : fk_X E l G b0 "FigureKnee" "everyFor" cX1_everyFor 4 8 221 0 0 := X0
  show fk_W E 4 n m0 0 0 0 [(0, tR a0), (1, tI a1), (2, tI a2)] []
  unfold f_X1_everyFor at hf
  refine fk_aload_n X 0 dX1_everyFor_0 rfl ?_
  refine fk_aload_n X 0 dX1_everyFor_1 rfl ?_
  refine fk_iload_n X 1 dX1_everyFor_2 rfl ?_
  obtain ⟨u1, hq, hf⟩ := bI hf
  obtain ⟨z2, hv, hf⟩ := bI hf
  refine fk_callV0I (ci := 0) (rest := [tR a0]) X hq rfl (c_X1_isPair hv) n_X1_isPair q1017 q1019 qs26 q122 q1020 rfl dX1_everyFor_3 rfl rfl rfl rfl rfl (Nat.le_refl _) (Nat.le_refl _) ?_
  refine fk_iload_n X 2 dX1_everyFor_6 rfl ?_
  obtain ⟨u3, hq, hf⟩ := bI hf
  obtain ⟨z4, hv, hf⟩ := bI hf
  refine fk_callV0I (ci := 0) (rest := []) X hq rfl (c_X1_whyAhead hv) n_X1_whyAhead q1035 q1037 qs29 q122 q1038 rfl dX1_everyFor_7 rfl rfl rfl rfl rfl (Nat.le_refl _) (Nat.le_refl _) ?_
  refine fk_istore_n X [(3, tI z4), (0, tR a0), (1, tI a1), (2, tI a2)] dX1_everyFor_10 rfl rfl ?_
  refine fk_iload_n X 0 dX1_everyFor_11 rfl ?_
  refine fk_if_le' X 23 dX1_everyFor_12 rfl hf (fun hf => ?_) (fun hf => ?_)
  · refine fk_aload_n X 1 dX1_everyFor_23 rfl ?_
    refine fk_aload_n X 1 dX1_everyFor_24 rfl ?_
    refine fk_iload_n X 2 dX1_everyFor_25 rfl ?_
    refine fk_iload_n X 3 dX1_everyFor_26 rfl ?_
    obtain ⟨u5, hq, hf⟩ := bI hf
    obtain ⟨z6, m7, hv, hf⟩ := bn2_eq hf
    refine fk_callV0I (ci := 0) (rest := [tR a0]) X hq rfl (c_X1_bestEvery hv) n_X1_bestEvery q1173 q1175 qs39 q122 q1176 rfl dX1_everyFor_27 rfl rfl rfl rfl rfl (Nat.le_refl _) (Nat.le_refl _) ?_
    obtain ⟨u8, hq, hf⟩ := bI hf
    obtain ⟨z9, m10, hv, hf⟩ := bn2_eq hf
    refine fk_callV0I (ci := 0) (rest := []) X hq rfl (c_X1_well hv) n_X1_well q1001 q1003 qs25 q122 q1004 rfl dX1_everyFor_30 rfl rfl rfl rfl rfl (Nat.le_refl _) (Nat.le_refl _) ?_
    cases hf
    exact fk_ireturn X Y dX1_everyFor_33 rfl
  · refine fk_aload_n X 1 dX1_everyFor_15 rfl ?_
    refine fk_iload_n X 0 dX1_everyFor_16 rfl ?_
    obtain ⟨u11, hq, hf⟩ := bI hf
    obtain ⟨z12, m13, hv, hf⟩ := bn2_eq hf
    refine fk_callV0I (ci := 0) (rest := []) X hq rfl (c_X1_refused hv) n_X1_refused q264 q266 qs0 q122 q267 rfl dX1_everyFor_17 rfl rfl rfl rfl rfl (Nat.le_refl _) (Nat.le_refl _) ?_
    refine fk_goto X 33 dX1_everyFor_20 rfl ?_
    cases hf
    exact fk_ireturn X Y dX1_everyFor_33 rfl
/-! FigureKnee everySays (II)I -/
theorem n_X1_everySays : fk_N yX1_everySays 2 := ⟨by decide +kernel, by decide +kernel, by decide +kernel, by decide +kernel⟩
def f_X1_everySays (a0 : Option Nat) (a1 : Int32) (a2 : Int32) (m0 : fk_M) : Option (Int32 × fk_M) :=
  (isO m0 a0 0).bind fun u1 => (f_X1_isPair a0 a1 m0).bind fun z2 => (isO m0 a0 0).bind fun u3 => (f_X1_whyAhead a0 z2 a2 m0).bind fun z4 => if z4 ≤ 0 then ((isO m0 a0 0).bind fun u5 => bn2 (f_X1_bestEvery a0 a1 a2 m0) fun z6 m7 => (gI m7 a0 0 12).bind fun z8 => (isO m7 a0 0).bind fun u9 => bn2 (f_X1_well a0 z8 m7) fun z10 m11 => some (z10, m11)) else ((isO m0 a0 0).bind fun u12 => bn2 (f_X1_refused a0 z4 m0) fun z13 m14 => some (z13, m14))
set_option maxHeartbeats 4000000 in
theorem c_X1_everySays {l : Launch} {G : fk_G} {b0 : Nat} {n : Nat} {a0 : Option Nat} {a1 : Int32} {a2 : Int32} {m0 : fk_M} {r : Int32} {mF : fk_M} (hf : f_X1_everySays a0 a1 a2 m0 = some (r, mF)) : fk_Ct l G b0 yX1_everySays cX1_everySays 4 (some .int) 8 221 [tR a0, tI a1, tI a2] n m0 (some (tI r)) n mF 0 0 := by
  refine fk_enter n_X1_everySays.1 rfl ?_
  intro E X0 Y
  have X : fk_X E l G b0 "FigureKnee" "everySays" cX1_everySays 4 8 221 0 0 := X0
  show fk_W E 4 n m0 0 0 0 [(0, tR a0), (1, tI a1), (2, tI a2)] []
  unfold f_X1_everySays at hf
  refine fk_aload_n X 0 dX1_everySays_0 rfl ?_
  refine fk_aload_n X 0 dX1_everySays_1 rfl ?_
  refine fk_iload_n X 1 dX1_everySays_2 rfl ?_
  obtain ⟨u1, hq, hf⟩ := bI hf
  obtain ⟨z2, hv, hf⟩ := bI hf
  refine fk_callV0I (ci := 0) (rest := [tR a0]) X hq rfl (c_X1_isPair hv) n_X1_isPair q1017 q1019 qs26 q122 q1020 rfl dX1_everySays_3 rfl rfl rfl rfl rfl (Nat.le_refl _) (Nat.le_refl _) ?_
  refine fk_iload_n X 2 dX1_everySays_6 rfl ?_
  obtain ⟨u3, hq, hf⟩ := bI hf
  obtain ⟨z4, hv, hf⟩ := bI hf
  refine fk_callV0I (ci := 0) (rest := []) X hq rfl (c_X1_whyAhead hv) n_X1_whyAhead q1035 q1037 qs29 q122 q1038 rfl dX1_everySays_7 rfl rfl rfl rfl rfl (Nat.le_refl _) (Nat.le_refl _) ?_
  refine fk_istore_n X [(3, tI z4), (0, tR a0), (1, tI a1), (2, tI a2)] dX1_everySays_10 rfl rfl ?_
  refine fk_iload_n X 0 dX1_everySays_11 rfl ?_
  refine fk_if_le' X 21 dX1_everySays_12 rfl hf (fun hf => ?_) (fun hf => ?_)
  · refine fk_aload_n X 1 dX1_everySays_21 rfl ?_
    refine fk_iload_n X 2 dX1_everySays_22 rfl ?_
    refine fk_iload_n X 3 dX1_everySays_23 rfl ?_
    obtain ⟨u5, hq, hf⟩ := bI hf
    obtain ⟨z6, m7, hv, hf⟩ := bn2_eq hf
    refine fk_callV0I (ci := 0) (rest := []) X hq rfl (c_X1_bestEvery hv) n_X1_bestEvery q1173 q1175 qs39 q122 q1176 rfl dX1_everySays_24 rfl rfl rfl rfl rfl (Nat.le_refl _) (Nat.le_refl _) ?_
    refine fk_pop X dX1_everySays_27 rfl ?_
    refine fk_aload_n X 1 dX1_everySays_28 rfl ?_
    refine fk_aload_n X 1 dX1_everySays_29 rfl ?_
    refine fk_getI' X fd_0_12 q202 dX1_everySays_30 hf (fun z8 hf => ?_)
    obtain ⟨u9, hq, hf⟩ := bI hf
    obtain ⟨z10, m11, hv, hf⟩ := bn2_eq hf
    refine fk_callV0I (ci := 0) (rest := []) X hq rfl (c_X1_well hv) n_X1_well q1001 q1003 qs25 q122 q1004 rfl dX1_everySays_33 rfl rfl rfl rfl rfl (Nat.le_refl _) (Nat.le_refl _) ?_
    cases hf
    exact fk_ireturn X Y dX1_everySays_36 rfl
  · refine fk_aload_n X 1 dX1_everySays_15 rfl ?_
    refine fk_iload_n X 0 dX1_everySays_16 rfl ?_
    obtain ⟨u12, hq, hf⟩ := bI hf
    obtain ⟨z13, m14, hv, hf⟩ := bn2_eq hf
    refine fk_callV0I (ci := 0) (rest := []) X hq rfl (c_X1_refused hv) n_X1_refused q264 q266 qs0 q122 q267 rfl dX1_everySays_17 rfl rfl rfl rfl rfl (Nat.le_refl _) (Nat.le_refl _) ?_
    cases hf
    exact fk_ireturn X Y dX1_everySays_20 rfl
/-! FigureKnee everyNever (I)I -/
theorem n_X1_everyNever : fk_N yX1_everyNever 1 := ⟨by decide +kernel, by decide +kernel, by decide +kernel, by decide +kernel⟩
def f_X1_everyNever_L44 (R16 : Int32 → fk_M → Option (Int32 × fk_M)) (x0 : Option Nat) (x1 : Int32) (x2 : Int32) (m0 : fk_M) : Nat → Int32 → Int32 → Option (Int32 × fk_M)
  | 0, _, _ => none
  | N + 1, x3, x4 =>
  if 60 < x4 then (if x3 = 0 then (R16 (x2 + 1) m0) else ((isO m0 x0 0).bind fun u1 => bn2 (f_X1_well x0 x2 m0) fun z2 m3 => some (z2, m3))) else ((gR m0 x0 0 9).bind fun z4 => (aI m0 z4 2 x4).bind fun z5 => (isO m0 x0 0).bind fun u6 => (f_X1_isMore x0 z5 m0).bind fun z7 => f_X1_everyNever_L44 R16 x0 x1 x2 m0 N (if z7 = 0 then x3 else 0) (x4 + 1))
set_option maxHeartbeats 4000000 in
theorem w_X1_everyNever_L44 {E : fk_E} {l : Launch} {G : fk_G} {b0 n : Nat} {r : Int32} {mF : fk_M} (X : fk_X E l G b0 "FigureKnee" "everyNever" cX1_everyNever 5 7 197 0 0) (Y : fk_Y E (some .int) (some (tI r)) n mF 0 0) (x0 : Option Nat) (x1 : Int32) (x2 : Int32) (m0 : fk_M) {R16 : Int32 → fk_M → Option (Int32 × fk_M)} (hR16 : ∀ (v2 : Int32) (m9 : fk_M), R16 v2 m9 = some (r, mF) → fk_W E 5 n m9 0 0 16 [(0, tR x0), (1, tI x1), (2, tI v2)] []) : ∀ (N : Nat) (x3 : Int32) (x4 : Int32), f_X1_everyNever_L44 R16 x0 x1 x2 m0 N x3 x4 = some (r, mF) → fk_W E 5 n m0 0 0 44 [(0, tR x0), (1, tI x1), (2, tI x2), (3, tI x3), (4, tI x4)] [] := by
  intro N
  induction N with
  | zero =>
    intro x3 x4 hf
    have hf : (none : Option (Int32 × fk_M)) = some _ := hf
    cases hf
  | succ N ih =>
    intro x3 x4 hf
    rw [f_X1_everyNever_L44] at hf
    refine fk_iload X 4 dX1_everyNever_44 rfl ?_
    refine fk_bipush (v := 60) X dX1_everyNever_46 rfl ?_
    refine fk_icmp_gt' X 73 dX1_everyNever_48 rfl hf (fun hf => ?_) (fun hf => ?_)
    · refine fk_iload_n X 3 dX1_everyNever_73 rfl ?_
      refine fk_if_eq' X 83 dX1_everyNever_74 rfl hf (fun hf => ?_) (fun hf => ?_)
      · refine fk_iinc X 2 [(2, tI (x2 + 1)), (0, tR x0), (1, tI x1), (3, tI x3), (4, tI x4)] dX1_everyNever_83 rfl rfl rfl rfl ?_
        refine fk_goto X 16 dX1_everyNever_86 rfl ?_
        exact fk_cut' (hR16 (x2 + 1) m0  hf) [1, 2, 0] rfl
      · refine fk_aload_n X 0 dX1_everyNever_77 rfl ?_
        refine fk_iload_n X 2 dX1_everyNever_78 rfl ?_
        obtain ⟨u1, hq, hf⟩ := bI hf
        obtain ⟨z2, m3, hv, hf⟩ := bn2_eq hf
        refine fk_callV0I (ci := 0) (rest := []) X hq rfl (c_X1_well hv) n_X1_well q1001 q1003 qs25 q122 q1004 rfl dX1_everyNever_79 rfl rfl rfl rfl rfl (Nat.le_refl _) (Nat.le_refl _) ?_
        cases hf
        exact fk_ireturn X Y dX1_everyNever_82 rfl
    · refine fk_aload_n X 0 dX1_everyNever_51 rfl ?_
      refine fk_aload_n X 0 dX1_everyNever_52 rfl ?_
      refine fk_getR' X fd_0_9 q199 dX1_everyNever_53 hf (fun z4 hf => ?_)
      refine fk_iload X 4 dX1_everyNever_56 rfl ?_
      refine fk_saload' X dX1_everyNever_58 hf (fun z5 hf => ?_)
      obtain ⟨u6, hq, hf⟩ := bI hf
      obtain ⟨z7, hv, hf⟩ := bI hf
      refine fk_callV0I (ci := 0) (rest := []) X hq rfl (c_X1_isMore hv) n_X1_isMore q1027 q1029 qs28 q122 q1030 rfl dX1_everyNever_59 rfl rfl rfl rfl rfl (Nat.le_refl _) (Nat.le_refl _) ?_
      have J1 : fk_W E 5 n m0 0 0 67 [(0, tR x0), (1, tI x1), (2, tI x2), (3, tI (if z7 = 0 then x3 else 0)), (4, tI x4)] [] := by
        refine fk_iinc X 4 [(4, tI (x4 + 1)), (0, tR x0), (1, tI x1), (2, tI x2), (3, tI (if z7 = 0 then x3 else 0))] dX1_everyNever_67 rfl rfl rfl rfl ?_
        refine fk_goto X 44 dX1_everyNever_70 rfl ?_
        exact fk_cut' (ih (if z7 = 0 then x3 else 0) (x4 + 1)  hf) [1, 2, 3, 4, 0] rfl
      refine fk_if_eq X 67 dX1_everyNever_62 rfl (fun hc2 => ?_) (fun hc2 => ?_)
      · simp only [if_pos hc2] at J1
        exact fk_cut' J1 [0, 1, 2, 3, 4] rfl
      · refine fk_iconst (v := 0) X dX1_everyNever_65 rfl ?_
        refine fk_istore_n X [(3, tI 0), (0, tR x0), (1, tI x1), (2, tI x2), (4, tI x4)] dX1_everyNever_66 rfl rfl ?_
        simp only [if_neg hc2] at J1
        exact fk_cut' J1 [1, 2, 3, 0, 4] rfl
def f_X1_everyNever_L16 (x0 : Option Nat) (x1 : Int32) : Nat → Int32 → fk_M → Option (Int32 × fk_M)
  | 0, _, _ => none
  | N + 1, x2, m0 =>
  if 9 < x2 then ((isO m0 x0 0).bind fun u1 => bn2 (f_X1_well x0 (-2) m0) fun z2 m3 => some (z2, m3)) else ((gR m0 x0 0 6).bind fun z4 => (gR m0 z4 13 2).bind fun z5 => (aI m0 z5 1 x1).bind fun z6 => (isO m0 x0 0).bind fun u7 => (f_X1_tells x0 x1 z6 x2 60 m0).bind fun m8 => f_X1_everyNever_L44 (f_X1_everyNever_L16 x0 x1 N) x0 x1 x2 m8 fk_fuel 1 1)
set_option maxHeartbeats 4000000 in
theorem w_X1_everyNever_L16 {E : fk_E} {l : Launch} {G : fk_G} {b0 n : Nat} {r : Int32} {mF : fk_M} (X : fk_X E l G b0 "FigureKnee" "everyNever" cX1_everyNever 5 7 197 0 0) (Y : fk_Y E (some .int) (some (tI r)) n mF 0 0) (x0 : Option Nat) (x1 : Int32) : ∀ (N : Nat) (x2 : Int32) (m0 : fk_M), f_X1_everyNever_L16 x0 x1 N x2 m0 = some (r, mF) → fk_W E 5 n m0 0 0 16 [(0, tR x0), (1, tI x1), (2, tI x2)] [] := by
  intro N
  induction N with
  | zero =>
    intro x2 m0 hf
    have hf : (none : Option (Int32 × fk_M)) = some _ := hf
    cases hf
  | succ N ih =>
    intro x2 m0 hf
    rw [f_X1_everyNever_L16] at hf
    refine fk_iload_n X 2 dX1_everyNever_16 rfl ?_
    refine fk_bipush (v := 9) X dX1_everyNever_17 rfl ?_
    refine fk_icmp_gt' X 89 dX1_everyNever_19 rfl hf (fun hf => ?_) (fun hf => ?_)
    · refine fk_aload_n X 0 dX1_everyNever_89 rfl ?_
      refine fk_bipush (v := (-2)) X dX1_everyNever_90 rfl ?_
      obtain ⟨u1, hq, hf⟩ := bI hf
      obtain ⟨z2, m3, hv, hf⟩ := bn2_eq hf
      refine fk_callV0I (ci := 0) (rest := []) X hq rfl (c_X1_well hv) n_X1_well q1001 q1003 qs25 q122 q1004 rfl dX1_everyNever_92 rfl rfl rfl rfl rfl (Nat.le_refl _) (Nat.le_refl _) ?_
      cases hf
      exact fk_ireturn X Y dX1_everyNever_95 rfl
    · refine fk_aload_n X 0 dX1_everyNever_22 rfl ?_
      refine fk_iload_n X 1 dX1_everyNever_23 rfl ?_
      refine fk_aload_n X 0 dX1_everyNever_24 rfl ?_
      refine fk_getR' X fd_0_6 q196 dX1_everyNever_25 hf (fun z4 hf => ?_)
      refine fk_getR' X fd_13_2 q968 dX1_everyNever_28 hf (fun z5 hf => ?_)
      refine fk_iload_n X 1 dX1_everyNever_31 rfl ?_
      refine fk_baload' X dX1_everyNever_32 hf (fun z6 hf => ?_)
      refine fk_iload_n X 2 dX1_everyNever_33 rfl ?_
      refine fk_bipush (v := 60) X dX1_everyNever_34 rfl ?_
      obtain ⟨u7, hq, hf⟩ := bI hf
      obtain ⟨m8, hv, hf⟩ := bI hf
      refine fk_callV0V (ci := 0) (rest := []) X hq rfl (c_X1_tells hv) n_X1_tells q1047 q1049 qs32 q122 q1050 rfl dX1_everyNever_36 rfl rfl rfl rfl rfl (Nat.le_refl _) (Nat.le_refl _) ?_
      refine fk_iconst (v := 1) X dX1_everyNever_39 rfl ?_
      refine fk_istore_n X [(3, tI 1), (0, tR x0), (1, tI x1), (2, tI x2)] dX1_everyNever_40 rfl rfl ?_
      refine fk_iconst (v := 1) X dX1_everyNever_41 rfl ?_
      refine fk_istore X [(4, tI 1), (3, tI 1), (0, tR x0), (1, tI x1), (2, tI x2)] dX1_everyNever_42 rfl rfl ?_
      exact fk_cut' (w_X1_everyNever_L44 X Y x0 x1 x2 m8 ih fk_fuel 1 1 hf) [2, 3, 4, 1, 0] rfl
def f_X1_everyNever (a0 : Option Nat) (a1 : Int32) (m0 : fk_M) : Option (Int32 × fk_M) :=
  (isO m0 a0 0).bind fun u1 => (f_X1_isPair a0 a1 m0).bind fun z2 => if z2 = 0 then ((isO m0 a0 0).bind fun u3 => bn2 (f_X1_refused a0 1 m0) fun z4 m5 => some (z4, m5)) else (f_X1_everyNever_L16 a0 a1 fk_fuel 0 m0)
set_option maxHeartbeats 4000000 in
theorem c_X1_everyNever {l : Launch} {G : fk_G} {b0 : Nat} {n : Nat} {a0 : Option Nat} {a1 : Int32} {m0 : fk_M} {r : Int32} {mF : fk_M} (hf : f_X1_everyNever a0 a1 m0 = some (r, mF)) : fk_Ct l G b0 yX1_everyNever cX1_everyNever 5 (some .int) 7 197 [tR a0, tI a1] n m0 (some (tI r)) n mF 0 0 := by
  refine fk_enter n_X1_everyNever.1 rfl ?_
  intro E X0 Y
  have X : fk_X E l G b0 "FigureKnee" "everyNever" cX1_everyNever 5 7 197 0 0 := X0
  show fk_W E 5 n m0 0 0 0 [(0, tR a0), (1, tI a1)] []
  unfold f_X1_everyNever at hf
  refine fk_aload_n X 0 dX1_everyNever_0 rfl ?_
  refine fk_iload_n X 1 dX1_everyNever_1 rfl ?_
  obtain ⟨u1, hq, hf⟩ := bI hf
  obtain ⟨z2, hv, hf⟩ := bI hf
  refine fk_callV0I (ci := 0) (rest := []) X hq rfl (c_X1_isPair hv) n_X1_isPair q1017 q1019 qs26 q122 q1020 rfl dX1_everyNever_2 rfl rfl rfl rfl rfl (Nat.le_refl _) (Nat.le_refl _) ?_
  refine fk_if_ne' X 14 dX1_everyNever_5 rfl hf (fun hf => ?_) (fun hf => ?_)
  · refine fk_iconst (v := 0) X dX1_everyNever_14 rfl ?_
    refine fk_istore_n X [(2, tI 0), (0, tR a0), (1, tI a1)] dX1_everyNever_15 rfl rfl ?_
    exact fk_cut' (w_X1_everyNever_L16 X Y a0 a1 fk_fuel 0 m0 hf) [1, 2, 0] rfl
  · refine fk_aload_n X 0 dX1_everyNever_8 rfl ?_
    refine fk_iconst (v := 1) X dX1_everyNever_9 rfl ?_
    obtain ⟨u3, hq, hf⟩ := bI hf
    obtain ⟨z4, m5, hv, hf⟩ := bn2_eq hf
    refine fk_callV0I (ci := 0) (rest := []) X hq rfl (c_X1_refused hv) n_X1_refused q264 q266 qs0 q122 q267 rfl dX1_everyNever_10 rfl rfl rfl rfl rfl (Nat.le_refl _) (Nat.le_refl _) ?_
    cases hf
    exact fk_ireturn X Y dX1_everyNever_13 rfl
/-! FigureKnee stepFor (II)I -/
theorem n_X1_stepFor : fk_N yX1_stepFor 2 := ⟨by decide +kernel, by decide +kernel, by decide +kernel, by decide +kernel⟩
def f_X1_stepFor_L24 (x0 : Option Nat) (x1 : Int32) (x2 : Int32) : Nat → Int32 → fk_M → Option (Int32 × fk_M)
  | 0, _, _ => none
  | N + 1, x4, m0 =>
  if 20 < x4 then ((isO m0 x0 0).bind fun u1 => bn2 (f_X1_well x0 (-2) m0) fun z2 m3 => some (z2, m3)) else ((isO m0 x0 0).bind fun u4 => (f_X1_at x0 x1 m0).bind fun z5 => (gI m0 z5 6 4).bind fun z6 => (isO m0 x0 0).bind fun u7 => (f_X1_tells x0 x1 x4 z6 x2 m0).bind fun m8 => (gR m8 x0 0 9).bind fun z9 => (aI m8 z9 2 x2).bind fun z10 => (isO m8 x0 0).bind fun u11 => (f_X1_isMore x0 z10 m8).bind fun z12 => if z12 = 0 then (f_X1_stepFor_L24 x0 x1 x2 N (x4 + 1) m8) else ((isO m8 x0 0).bind fun u13 => bn2 (f_X1_well x0 x4 m8) fun z14 m15 => some (z14, m15)))
set_option maxHeartbeats 4000000 in
theorem w_X1_stepFor_L24 {E : fk_E} {l : Launch} {G : fk_G} {b0 n : Nat} {r : Int32} {mF : fk_M} (X : fk_X E l G b0 "FigureKnee" "stepFor" cX1_stepFor 5 7 197 0 0) (Y : fk_Y E (some .int) (some (tI r)) n mF 0 0) (x0 : Option Nat) (x1 : Int32) (x2 : Int32) : ∀ (N : Nat) (x4 : Int32) (m0 : fk_M), f_X1_stepFor_L24 x0 x1 x2 N x4 m0 = some (r, mF) → fk_W E 5 n m0 0 0 24 [(0, tR x0), (1, tI x1), (2, tI x2), (4, tI x4)] [] := by
  intro N
  induction N with
  | zero =>
    intro x4 m0 hf
    have hf : (none : Option (Int32 × fk_M)) = some _ := hf
    cases hf
  | succ N ih =>
    intro x4 m0 hf
    rw [f_X1_stepFor_L24] at hf
    refine fk_iload X 3 dX1_stepFor_24 rfl ?_
    refine fk_bipush (v := 20) X dX1_stepFor_26 rfl ?_
    refine fk_icmp_gt' X 73 dX1_stepFor_28 rfl hf (fun hf => ?_) (fun hf => ?_)
    · refine fk_aload_n X 0 dX1_stepFor_73 rfl ?_
      refine fk_bipush (v := (-2)) X dX1_stepFor_74 rfl ?_
      obtain ⟨u1, hq, hf⟩ := bI hf
      obtain ⟨z2, m3, hv, hf⟩ := bn2_eq hf
      refine fk_callV0I (ci := 0) (rest := []) X hq rfl (c_X1_well hv) n_X1_well q1001 q1003 qs25 q122 q1004 rfl dX1_stepFor_76 rfl rfl rfl rfl rfl (Nat.le_refl _) (Nat.le_refl _) ?_
      cases hf
      exact fk_ireturn X Y dX1_stepFor_79 rfl
    · refine fk_aload_n X 0 dX1_stepFor_31 rfl ?_
      refine fk_iload_n X 1 dX1_stepFor_32 rfl ?_
      refine fk_iload X 3 dX1_stepFor_33 rfl ?_
      refine fk_aload_n X 0 dX1_stepFor_35 rfl ?_
      refine fk_iload_n X 1 dX1_stepFor_36 rfl ?_
      obtain ⟨u4, hq, hf⟩ := bI hf
      obtain ⟨z5, hv, hf⟩ := bI hf
      refine fk_callV0R (ci := 0) (rest := [tI x4, tI x1, tR x0]) X hq rfl (c_X1_at hv) n_X1_at q1021 q1023 qs27 q122 q1024 rfl dX1_stepFor_37 rfl rfl rfl rfl rfl (Nat.le_refl _) (Nat.le_refl _) ?_
      refine fk_getI' X fd_6_4 q753 dX1_stepFor_40 hf (fun z6 hf => ?_)
      refine fk_iload_n X 2 dX1_stepFor_43 rfl ?_
      obtain ⟨u7, hq, hf⟩ := bI hf
      obtain ⟨m8, hv, hf⟩ := bI hf
      refine fk_callV0V (ci := 0) (rest := []) X hq rfl (c_X1_tells hv) n_X1_tells q1047 q1049 qs32 q122 q1050 rfl dX1_stepFor_44 rfl rfl rfl rfl rfl (Nat.le_refl _) (Nat.le_refl _) ?_
      refine fk_aload_n X 0 dX1_stepFor_47 rfl ?_
      refine fk_aload_n X 0 dX1_stepFor_48 rfl ?_
      refine fk_getR' X fd_0_9 q199 dX1_stepFor_49 hf (fun z9 hf => ?_)
      refine fk_iload_n X 2 dX1_stepFor_52 rfl ?_
      refine fk_saload' X dX1_stepFor_53 hf (fun z10 hf => ?_)
      obtain ⟨u11, hq, hf⟩ := bI hf
      obtain ⟨z12, hv, hf⟩ := bI hf
      refine fk_callV0I (ci := 0) (rest := []) X hq rfl (c_X1_isMore hv) n_X1_isMore q1027 q1029 qs28 q122 q1030 rfl dX1_stepFor_54 rfl rfl rfl rfl rfl (Nat.le_refl _) (Nat.le_refl _) ?_
      refine fk_if_eq' X 67 dX1_stepFor_57 rfl hf (fun hf => ?_) (fun hf => ?_)
      · refine fk_iinc X 3 [(4, tI (x4 + 1)), (0, tR x0), (1, tI x1), (2, tI x2)] dX1_stepFor_67 rfl rfl rfl rfl ?_
        refine fk_goto X 24 dX1_stepFor_70 rfl ?_
        exact fk_cut' (ih (x4 + 1) m8  hf) [1, 2, 3, 0] rfl
      · refine fk_aload_n X 0 dX1_stepFor_60 rfl ?_
        refine fk_iload X 3 dX1_stepFor_61 rfl ?_
        obtain ⟨u13, hq, hf⟩ := bI hf
        obtain ⟨z14, m15, hv, hf⟩ := bn2_eq hf
        refine fk_callV0I (ci := 0) (rest := []) X hq rfl (c_X1_well hv) n_X1_well q1001 q1003 qs25 q122 q1004 rfl dX1_stepFor_63 rfl rfl rfl rfl rfl (Nat.le_refl _) (Nat.le_refl _) ?_
        cases hf
        exact fk_ireturn X Y dX1_stepFor_66 rfl
def f_X1_stepFor (a0 : Option Nat) (a1 : Int32) (a2 : Int32) (m0 : fk_M) : Option (Int32 × fk_M) :=
  (isO m0 a0 0).bind fun u1 => (f_X1_isPair a0 a1 m0).bind fun z2 => (isO m0 a0 0).bind fun u3 => (f_X1_whyAhead a0 z2 a2 m0).bind fun z4 => if z4 ≤ 0 then (f_X1_stepFor_L24 a0 a1 a2 fk_fuel 0 m0) else ((isO m0 a0 0).bind fun u5 => bn2 (f_X1_refused a0 z4 m0) fun z6 m7 => some (z6, m7))
set_option maxHeartbeats 4000000 in
theorem c_X1_stepFor {l : Launch} {G : fk_G} {b0 : Nat} {n : Nat} {a0 : Option Nat} {a1 : Int32} {a2 : Int32} {m0 : fk_M} {r : Int32} {mF : fk_M} (hf : f_X1_stepFor a0 a1 a2 m0 = some (r, mF)) : fk_Ct l G b0 yX1_stepFor cX1_stepFor 5 (some .int) 7 197 [tR a0, tI a1, tI a2] n m0 (some (tI r)) n mF 0 0 := by
  refine fk_enter n_X1_stepFor.1 rfl ?_
  intro E X0 Y
  have X : fk_X E l G b0 "FigureKnee" "stepFor" cX1_stepFor 5 7 197 0 0 := X0
  show fk_W E 5 n m0 0 0 0 [(0, tR a0), (1, tI a1), (2, tI a2)] []
  unfold f_X1_stepFor at hf
  refine fk_aload_n X 0 dX1_stepFor_0 rfl ?_
  refine fk_aload_n X 0 dX1_stepFor_1 rfl ?_
  refine fk_iload_n X 1 dX1_stepFor_2 rfl ?_
  obtain ⟨u1, hq, hf⟩ := bI hf
  obtain ⟨z2, hv, hf⟩ := bI hf
  refine fk_callV0I (ci := 0) (rest := [tR a0]) X hq rfl (c_X1_isPair hv) n_X1_isPair q1017 q1019 qs26 q122 q1020 rfl dX1_stepFor_3 rfl rfl rfl rfl rfl (Nat.le_refl _) (Nat.le_refl _) ?_
  refine fk_iload_n X 2 dX1_stepFor_6 rfl ?_
  obtain ⟨u3, hq, hf⟩ := bI hf
  obtain ⟨z4, hv, hf⟩ := bI hf
  refine fk_callV0I (ci := 0) (rest := []) X hq rfl (c_X1_whyAhead hv) n_X1_whyAhead q1035 q1037 qs29 q122 q1038 rfl dX1_stepFor_7 rfl rfl rfl rfl rfl (Nat.le_refl _) (Nat.le_refl _) ?_
  refine fk_istore_n X [(3, tI z4), (0, tR a0), (1, tI a1), (2, tI a2)] dX1_stepFor_10 rfl rfl ?_
  refine fk_iload_n X 0 dX1_stepFor_11 rfl ?_
  refine fk_if_le' X 21 dX1_stepFor_12 rfl hf (fun hf => ?_) (fun hf => ?_)
  · refine fk_iconst (v := 0) X dX1_stepFor_21 rfl ?_
    refine fk_istore X [(4, tI 0), (3, tI z4), (0, tR a0), (1, tI a1), (2, tI a2)] dX1_stepFor_22 rfl rfl ?_
    exact fk_cut' (w_X1_stepFor_L24 X Y a0 a1 a2 fk_fuel 0 m0 hf) [2, 3, 4, 0] rfl
  · refine fk_aload_n X 1 dX1_stepFor_15 rfl ?_
    refine fk_iload_n X 0 dX1_stepFor_16 rfl ?_
    obtain ⟨u5, hq, hf⟩ := bI hf
    obtain ⟨z6, m7, hv, hf⟩ := bn2_eq hf
    refine fk_callV0I (ci := 0) (rest := []) X hq rfl (c_X1_refused hv) n_X1_refused q264 q266 qs0 q122 q267 rfl dX1_stepFor_17 rfl rfl rfl rfl rfl (Nat.le_refl _) (Nat.le_refl _) ?_
    cases hf
    exact fk_ireturn X Y dX1_stepFor_20 rfl
/-! FigureKnee has (II)Z -/
theorem n_X1_has : fk_N yX1_has 2 := ⟨by decide +kernel, by decide +kernel, by decide +kernel, by decide +kernel⟩
def f_X1_has (a0 : Int32) (a1 : Int32) (m : fk_M) : Option Int32 :=
  some (if ((i_shr a0 a1) &&& 1) = 1 then (1 : Int32) else 0)
set_option maxHeartbeats 4000000 in
theorem c_X1_has {l : Launch} {G : fk_G} {b0 : Nat} {n : Nat} {a0 : Int32} {a1 : Int32} {m : fk_M} {r : Int32} (hf : f_X1_has a0 a1 m = some r) : fk_Ct l G b0 yX1_has cX1_has 2 (some .boolean) 1 60 [tI a0, tI a1] n m (some (tI r)) n m 0 0 := by
  refine fk_enter n_X1_has.1 rfl ?_
  intro E X0 Y
  have X : fk_X E l G b0 "FigureKnee" "has" cX1_has 2 1 60 0 0 := X0
  show fk_W E 2 n m 0 0 0 [(0, tI a0), (1, tI a1)] []
  unfold f_X1_has at hf
  refine fk_iload_n X 0 dX1_has_0 rfl ?_
  refine fk_iload_n X 1 dX1_has_1 rfl ?_
  refine fk_ishr X dX1_has_2 ?_
  refine fk_iconst (v := 1) X dX1_has_3 rfl ?_
  refine fk_iand X dX1_has_4 ?_
  refine fk_iconst (v := 1) X dX1_has_5 rfl ?_
  have J1 : fk_W E 2 n m 0 0 14 [] [tI (if ((i_shr a0 a1) &&& 1) = 1 then (1 : Int32) else 0)] := by
    cases hf
    exact fk_ireturn X Y dX1_has_14 (by (repeat' split) <;> decide +kernel)
  refine fk_icmp_ne X 13 dX1_has_6 rfl (fun hc2 => ?_) (fun hc2 => ?_)
  · refine fk_iconst (v := 0) X dX1_has_13 rfl ?_
    simp only [if_neg hc2] at J1
    exact fk_cut' J1 [] rfl
  · refine fk_iconst (v := 1) X dX1_has_9 rfl ?_
    refine fk_goto X 14 dX1_has_10 rfl ?_
    simp only [if_pos hc2] at J1
    exact fk_cut' J1 [] rfl
/-! FigureKnee stepBy (II)I -/
theorem n_X1_stepBy : fk_N yX1_stepBy 2 := ⟨by decide +kernel, by decide +kernel, by decide +kernel, by decide +kernel⟩
def f_X1_stepBy_J43 (R2 : Int32 → Option Int32) (x0 : Option Nat) (x1 : Int32) (x2 : Int32) (x3 : Int32) (m : fk_M) : Option Int32 :=
  R2 (x3 + 1)
set_option maxHeartbeats 4000000 in
theorem w_X1_stepBy_J43 {E : fk_E} {l : Launch} {G : fk_G} {b0 n : Nat} {m : fk_M} {r : Int32} (X : fk_X E l G b0 "FigureKnee" "stepBy" cX1_stepBy 4 5 145 0 0) (Y : fk_Y E (some .int) (some (tI r)) n m 0 0) (x0 : Option Nat) (x1 : Int32) (x2 : Int32) (x3 : Int32)  {R2 : Int32 → Option Int32} (hR2 : ∀ (v3 : Int32), R2 v3 = some r → fk_W E 4 n m 0 0 2 [(0, tR x0), (1, tI x1), (2, tI x2), (3, tI v3)] []) (hf : f_X1_stepBy_J43 R2 x0 x1 x2 x3 m = some r) : fk_W E 4 n m 0 0 43 [(0, tR x0), (1, tI x1), (2, tI x2), (3, tI x3)] [] := by
  unfold f_X1_stepBy_J43 at hf
  refine fk_iinc X 3 [(3, tI (x3 + 1)), (0, tR x0), (1, tI x1), (2, tI x2)] dX1_stepBy_43 rfl rfl rfl rfl ?_
  refine fk_goto X 2 dX1_stepBy_46 rfl ?_
  exact fk_cut' (hR2 (x3 + 1)  hf) [1, 2, 3, 0] rfl
def f_X1_stepBy_L2 (x0 : Option Nat) (x1 : Int32) (x2 : Int32) (m : fk_M) : Nat → Int32 → Option Int32
  | 0, _ => none
  | N + 1, x3 =>
  (gR m x0 0 5).bind fun z1 => (gI m z1 4 3).bind fun z2 => if z2 ≤ x3 then ((isO m x0 0).bind fun u3 => (f_X1_at x0 x1 m).bind fun z4 => (gI m z4 6 3).bind fun z5 => some z5) else ((gR m x0 0 5).bind fun z6 => (gR m z6 4 7).bind fun z7 => (aI m z7 0 x3).bind fun z8 => if z8 = x1 then ((f_X1_has x2 x3 m).bind fun z9 => if z9 = 0 then (f_X1_stepBy_J43 (f_X1_stepBy_L2 x0 x1 x2 m N) x0 x1 x2 x3 m) else ((isO m x0 0).bind fun u10 => (f_X1_at x0 x1 m).bind fun z11 => (gI m z11 6 5).bind fun z12 => some z12)) else (f_X1_stepBy_J43 (f_X1_stepBy_L2 x0 x1 x2 m N) x0 x1 x2 x3 m))
set_option maxHeartbeats 4000000 in
theorem w_X1_stepBy_L2 {E : fk_E} {l : Launch} {G : fk_G} {b0 n : Nat} {m : fk_M} {r : Int32} (X : fk_X E l G b0 "FigureKnee" "stepBy" cX1_stepBy 4 5 145 0 0) (Y : fk_Y E (some .int) (some (tI r)) n m 0 0) (x0 : Option Nat) (x1 : Int32) (x2 : Int32) : ∀ (N : Nat) (x3 : Int32), f_X1_stepBy_L2 x0 x1 x2 m N x3 = some r → fk_W E 4 n m 0 0 2 [(0, tR x0), (1, tI x1), (2, tI x2), (3, tI x3)] [] := by
  intro N
  induction N with
  | zero =>
    intro x3 hf
    have hf : (none : Option Int32) = some _ := hf
    cases hf
  | succ N ih =>
    intro x3 hf
    rw [f_X1_stepBy_L2] at hf
    refine fk_iload_n X 3 dX1_stepBy_2 rfl ?_
    refine fk_aload_n X 0 dX1_stepBy_3 rfl ?_
    refine fk_getR' X fd_0_5 q195 dX1_stepBy_4 hf (fun z1 hf => ?_)
    refine fk_getI' X fd_4_3 q306 dX1_stepBy_7 hf (fun z2 hf => ?_)
    refine fk_icmp_ge' X 49 dX1_stepBy_10 rfl hf (fun hf => ?_) (fun hf => ?_)
    · refine fk_aload_n X 0 dX1_stepBy_49 rfl ?_
      refine fk_iload_n X 1 dX1_stepBy_50 rfl ?_
      obtain ⟨u3, hq, hf⟩ := bI hf
      obtain ⟨z4, hv, hf⟩ := bI hf
      refine fk_callV0R (ci := 0) (rest := []) X hq rfl (c_X1_at hv) n_X1_at q1021 q1023 qs27 q122 q1024 rfl dX1_stepBy_51 rfl rfl rfl rfl rfl (Nat.le_refl _) (Nat.le_refl _) ?_
      refine fk_getI' X fd_6_3 q751 dX1_stepBy_54 hf (fun z5 hf => ?_)
      cases hf
      exact fk_ireturn X Y dX1_stepBy_57 rfl
    · refine fk_aload_n X 0 dX1_stepBy_13 rfl ?_
      refine fk_getR' X fd_0_5 q195 dX1_stepBy_14 hf (fun z6 hf => ?_)
      refine fk_getR' X fd_4_7 q320 dX1_stepBy_17 hf (fun z7 hf => ?_)
      refine fk_iload_n X 3 dX1_stepBy_20 rfl ?_
      refine fk_iaload' X dX1_stepBy_21 hf (fun z8 hf => ?_)
      refine fk_iload_n X 1 dX1_stepBy_22 rfl ?_
      refine fk_icmp_ne' X 43 dX1_stepBy_23 rfl hf (fun hf => ?_) (fun hf => ?_)
      · exact fk_cut' (w_X1_stepBy_J43 X Y x0 x1 x2 x3 ih hf) [0, 1, 2, 3] rfl
      · refine fk_iload_n X 2 dX1_stepBy_26 rfl ?_
        refine fk_iload_n X 3 dX1_stepBy_27 rfl ?_
        obtain ⟨z9, hv, hf⟩ := bI hf
        refine fk_callS0I (rest := []) X (c_X1_has hv) n_X1_has q1210 q1211 q122 q1212 dX1_stepBy_28 rfl rfl rfl rfl rfl (Nat.le_refl _) (Nat.le_refl _) ?_
        refine fk_if_eq' X 43 dX1_stepBy_31 rfl hf (fun hf => ?_) (fun hf => ?_)
        · exact fk_cut' (w_X1_stepBy_J43 X Y x0 x1 x2 x3 ih hf) [0, 1, 2, 3] rfl
        · refine fk_aload_n X 0 dX1_stepBy_34 rfl ?_
          refine fk_iload_n X 1 dX1_stepBy_35 rfl ?_
          obtain ⟨u10, hq, hf⟩ := bI hf
          obtain ⟨z11, hv, hf⟩ := bI hf
          refine fk_callV0R (ci := 0) (rest := []) X hq rfl (c_X1_at hv) n_X1_at q1021 q1023 qs27 q122 q1024 rfl dX1_stepBy_36 rfl rfl rfl rfl rfl (Nat.le_refl _) (Nat.le_refl _) ?_
          refine fk_getI' X fd_6_5 q755 dX1_stepBy_39 hf (fun z12 hf => ?_)
          cases hf
          exact fk_ireturn X Y dX1_stepBy_42 rfl
def f_X1_stepBy (a0 : Option Nat) (a1 : Int32) (a2 : Int32) (m : fk_M) : Option Int32 :=
  f_X1_stepBy_L2 a0 a1 a2 m fk_fuel 0
set_option maxHeartbeats 4000000 in
theorem c_X1_stepBy {l : Launch} {G : fk_G} {b0 : Nat} {n : Nat} {a0 : Option Nat} {a1 : Int32} {a2 : Int32} {m : fk_M} {r : Int32} (hf : f_X1_stepBy a0 a1 a2 m = some r) : fk_Ct l G b0 yX1_stepBy cX1_stepBy 4 (some .int) 5 145 [tR a0, tI a1, tI a2] n m (some (tI r)) n m 0 0 := by
  refine fk_enter n_X1_stepBy.1 rfl ?_
  intro E X0 Y
  have X : fk_X E l G b0 "FigureKnee" "stepBy" cX1_stepBy 4 5 145 0 0 := X0
  show fk_W E 4 n m 0 0 0 [(0, tR a0), (1, tI a1), (2, tI a2)] []
  unfold f_X1_stepBy at hf
  refine fk_iconst (v := 0) X dX1_stepBy_0 rfl ?_
  refine fk_istore_n X [(3, tI 0), (0, tR a0), (1, tI a1), (2, tI a2)] dX1_stepBy_1 rfl rfl ?_
  exact fk_cut' (w_X1_stepBy_L2 X Y a0 a1 a2 fk_fuel 0 hf) [1, 2, 3, 0] rfl
/-! FigureKnee saidAt (III)I -/
theorem n_X1_saidAt : fk_N yX1_saidAt 3 := ⟨by decide +kernel, by decide +kernel, by decide +kernel, by decide +kernel⟩
def f_X1_saidAt_L13 (x0 : Option Nat) (x1 : Int32) (x2 : Int32) (x3 : Int32) (m : fk_M) : Nat → Int32 → Int32 → Option Int32
  | 0, _, _ => none
  | N + 1, x4, x5 =>
  if x2 < x5 then (some x4) else ((isO m x0 0).bind fun u1 => (f_X1_stepBy x0 x1 x3 m).bind fun z2 => (isO m x0 0).bind fun u3 => (f_X1_at x0 x1 m).bind fun z4 => (gI m z4 6 4).bind fun z5 => (isO m x0 0).bind fun u6 => (f_X1_then x0 x1 x4 z2 z5 x5 0 m).bind fun z7 => f_X1_saidAt_L13 x0 x1 x2 x3 m N z7 (x5 + 1))
set_option maxHeartbeats 4000000 in
theorem w_X1_saidAt_L13 {E : fk_E} {l : Launch} {G : fk_G} {b0 n : Nat} {m : fk_M} {r : Int32} (X : fk_X E l G b0 "FigureKnee" "saidAt" cX1_saidAt 6 6 172 0 0) (Y : fk_Y E (some .int) (some (tI r)) n m 0 0) (x0 : Option Nat) (x1 : Int32) (x2 : Int32) (x3 : Int32) : ∀ (N : Nat) (x4 : Int32) (x5 : Int32), f_X1_saidAt_L13 x0 x1 x2 x3 m N x4 x5 = some r → fk_W E 6 n m 0 0 13 [(0, tR x0), (1, tI x1), (2, tI x2), (3, tI x3), (4, tI x4), (5, tI x5)] [] := by
  intro N
  induction N with
  | zero =>
    intro x4 x5 hf
    have hf : (none : Option Int32) = some _ := hf
    cases hf
  | succ N ih =>
    intro x4 x5 hf
    rw [f_X1_saidAt_L13] at hf
    refine fk_iload X 5 dX1_saidAt_13 rfl ?_
    refine fk_iload_n X 2 dX1_saidAt_15 rfl ?_
    refine fk_icmp_gt' X 51 dX1_saidAt_16 rfl hf (fun hf => ?_) (fun hf => ?_)
    · refine fk_iload X 4 dX1_saidAt_51 rfl ?_
      cases hf
      exact fk_ireturn X Y dX1_saidAt_53 rfl
    · refine fk_aload_n X 0 dX1_saidAt_19 rfl ?_
      refine fk_iload_n X 1 dX1_saidAt_20 rfl ?_
      refine fk_iload X 4 dX1_saidAt_21 rfl ?_
      refine fk_aload_n X 0 dX1_saidAt_23 rfl ?_
      refine fk_iload_n X 1 dX1_saidAt_24 rfl ?_
      refine fk_iload_n X 3 dX1_saidAt_25 rfl ?_
      obtain ⟨u1, hq, hf⟩ := bI hf
      obtain ⟨z2, hv, hf⟩ := bI hf
      refine fk_callV0I (ci := 0) (rest := [tI x4, tI x1, tR x0]) X hq rfl (c_X1_stepBy hv) n_X1_stepBy q1206 q1208 qs43 q122 q1209 rfl dX1_saidAt_26 rfl rfl rfl rfl rfl (Nat.le_refl _) (Nat.le_refl _) ?_
      refine fk_aload_n X 0 dX1_saidAt_29 rfl ?_
      refine fk_iload_n X 1 dX1_saidAt_30 rfl ?_
      obtain ⟨u3, hq, hf⟩ := bI hf
      obtain ⟨z4, hv, hf⟩ := bI hf
      refine fk_callV0R (ci := 0) (rest := [tI z2, tI x4, tI x1, tR x0]) X hq rfl (c_X1_at hv) n_X1_at q1021 q1023 qs27 q122 q1024 rfl dX1_saidAt_31 rfl rfl rfl rfl rfl (Nat.le_refl _) (Nat.le_refl _) ?_
      refine fk_getI' X fd_6_4 q753 dX1_saidAt_34 hf (fun z5 hf => ?_)
      refine fk_iload X 5 dX1_saidAt_37 rfl ?_
      refine fk_iconst (v := 0) X dX1_saidAt_39 rfl ?_
      obtain ⟨u6, hq, hf⟩ := bI hf
      obtain ⟨z7, hv, hf⟩ := bI hf
      refine fk_callV0I (ci := 0) (rest := []) X hq rfl (c_X1_then hv) n_X1_then q1051 q1053 qs33 q122 q1054 rfl dX1_saidAt_40 rfl rfl rfl rfl rfl (Nat.le_refl _) (Nat.le_refl _) ?_
      refine fk_istore X [(4, tI z7), (0, tR x0), (1, tI x1), (2, tI x2), (3, tI x3), (5, tI x5)] dX1_saidAt_43 rfl rfl ?_
      refine fk_iinc X 5 [(5, tI (x5 + 1)), (4, tI z7), (0, tR x0), (1, tI x1), (2, tI x2), (3, tI x3)] dX1_saidAt_45 rfl rfl rfl rfl ?_
      refine fk_goto X 13 dX1_saidAt_48 rfl ?_
      exact fk_cut' (ih z7 (x5 + 1)  hf) [2, 3, 4, 5, 1, 0] rfl
def f_X1_saidAt (a0 : Option Nat) (a1 : Int32) (a2 : Int32) (a3 : Int32) (m : fk_M) : Option Int32 :=
  (isO m a0 0).bind fun u1 => (f_X1_at a0 a1 m).bind fun z2 => (gI m z2 6 2).bind fun z3 => f_X1_saidAt_L13 a0 a1 a2 a3 m fk_fuel z3 1
set_option maxHeartbeats 4000000 in
theorem c_X1_saidAt {l : Launch} {G : fk_G} {b0 : Nat} {n : Nat} {a0 : Option Nat} {a1 : Int32} {a2 : Int32} {a3 : Int32} {m : fk_M} {r : Int32} (hf : f_X1_saidAt a0 a1 a2 a3 m = some r) : fk_Ct l G b0 yX1_saidAt cX1_saidAt 6 (some .int) 6 172 [tR a0, tI a1, tI a2, tI a3] n m (some (tI r)) n m 0 0 := by
  refine fk_enter n_X1_saidAt.1 rfl ?_
  intro E X0 Y
  have X : fk_X E l G b0 "FigureKnee" "saidAt" cX1_saidAt 6 6 172 0 0 := X0
  show fk_W E 6 n m 0 0 0 [(0, tR a0), (1, tI a1), (2, tI a2), (3, tI a3)] []
  unfold f_X1_saidAt at hf
  refine fk_aload_n X 0 dX1_saidAt_0 rfl ?_
  refine fk_iload_n X 1 dX1_saidAt_1 rfl ?_
  obtain ⟨u1, hq, hf⟩ := bI hf
  obtain ⟨z2, hv, hf⟩ := bI hf
  refine fk_callV0R (ci := 0) (rest := []) X hq rfl (c_X1_at hv) n_X1_at q1021 q1023 qs27 q122 q1024 rfl dX1_saidAt_2 rfl rfl rfl rfl rfl (Nat.le_refl _) (Nat.le_refl _) ?_
  refine fk_getI' X fd_6_2 q748 dX1_saidAt_5 hf (fun z3 hf => ?_)
  refine fk_istore X [(4, tI z3), (0, tR a0), (1, tI a1), (2, tI a2), (3, tI a3)] dX1_saidAt_8 rfl rfl ?_
  refine fk_iconst (v := 1) X dX1_saidAt_10 rfl ?_
  refine fk_istore X [(5, tI 1), (4, tI z3), (0, tR a0), (1, tI a1), (2, tI a2), (3, tI a3)] dX1_saidAt_11 rfl rfl ?_
  exact fk_cut' (w_X1_saidAt_L13 X Y a0 a1 a2 a3 fk_fuel z3 1 hf) [2, 3, 4, 5, 1, 0] rfl
/-! FigureKnee wrongHeard (I)I -/
theorem n_X1_wrongHeard : fk_N yX1_wrongHeard 1 := ⟨by decide +kernel, by decide +kernel, by decide +kernel, by decide +kernel⟩
def f_X1_wrongHeard_L2 (x0 : Option Nat) (x1 : Int32) (m : fk_M) : Nat → Int32 → Option Int32
  | 0, _ => none
  | N + 1, x2 =>
  (gR m x0 0 5).bind fun z1 => (gR m z1 4 6).bind fun z2 => (isO m z2 14).bind fun u3 => (f_J2_size z2 m).bind fun z4 => if z4 ≤ x2 then (some (-2)) else ((gR m x0 0 5).bind fun z5 => (gR m z5 4 6).bind fun z6 => (isO m z6 14).bind fun u7 => (f_J2_get z6 x2 m).bind fun z8 => (cst m z8 12).bind fun _ => (gI m z8 12 0).bind fun z9 => (gI m z8 12 1).bind fun z10 => (isO m x0 0).bind fun u11 => (f_X1_saidAt x0 z9 z10 x1 m).bind fun z12 => (gI m z8 12 2).bind fun z13 => if z12 = z13 then (f_X1_wrongHeard_L2 x0 x1 m N (x2 + 1)) else (some x2))
set_option maxHeartbeats 4000000 in
theorem w_X1_wrongHeard_L2 {E : fk_E} {l : Launch} {G : fk_G} {b0 n : Nat} {m : fk_M} {r : Int32} (X : fk_X E l G b0 "FigureKnee" "wrongHeard" cX1_wrongHeard 4 7 197 0 0) (Y : fk_Y E (some .int) (some (tI r)) n m 0 0) (x0 : Option Nat) (x1 : Int32) : ∀ (N : Nat) (x2 : Int32), f_X1_wrongHeard_L2 x0 x1 m N x2 = some r → fk_W E 4 n m 0 0 2 [(0, tR x0), (1, tI x1), (2, tI x2)] [] := by
  intro N
  induction N with
  | zero =>
    intro x2 hf
    have hf : (none : Option Int32) = some _ := hf
    cases hf
  | succ N ih =>
    intro x2 hf
    rw [f_X1_wrongHeard_L2] at hf
    refine fk_iload_n X 2 dX1_wrongHeard_2 rfl ?_
    refine fk_aload_n X 0 dX1_wrongHeard_3 rfl ?_
    refine fk_getR' X fd_0_5 q195 dX1_wrongHeard_4 hf (fun z1 hf => ?_)
    refine fk_getR' X fd_4_6 q317 dX1_wrongHeard_7 hf (fun z2 hf => ?_)
    obtain ⟨u3, hq, hf⟩ := bI hf
    obtain ⟨z4, hv, hf⟩ := bI hf
    refine fk_callV0I (ci := 14) (rest := [tI x2]) X hq rfl (c_J2_size hv) n_J2_size q1000 q699 q700 q125 q701 rfl dX1_wrongHeard_10 rfl rfl rfl rfl rfl (Nat.le_refl _) (Nat.le_refl _) ?_
    refine fk_icmp_ge' X 59 dX1_wrongHeard_13 rfl hf (fun hf => ?_) (fun hf => ?_)
    · refine fk_bipush (v := (-2)) X dX1_wrongHeard_59 rfl ?_
      cases hf
      exact fk_ireturn X Y dX1_wrongHeard_61 rfl
    · refine fk_aload_n X 0 dX1_wrongHeard_16 rfl ?_
      refine fk_getR' X fd_0_5 q195 dX1_wrongHeard_17 hf (fun z5 hf => ?_)
      refine fk_getR' X fd_4_6 q317 dX1_wrongHeard_20 hf (fun z6 hf => ?_)
      refine fk_iload_n X 2 dX1_wrongHeard_23 rfl ?_
      obtain ⟨u7, hq, hf⟩ := bI hf
      obtain ⟨z8, hv, hf⟩ := bI hf
      refine fk_callV0R (ci := 14) (rest := []) X hq rfl (c_J2_get hv) n_J2_get q1025 q723 q724 q125 q725 rfl dX1_wrongHeard_24 rfl rfl rfl rfl rfl (Nat.le_refl _) (Nat.le_refl _) ?_
      refine fk_cast' (ci := 12) X rfl q1201 dX1_wrongHeard_27 hf (fun hf => ?_)
      refine fk_astore_n X [(3, tR z8), (0, tR x0), (1, tI x1), (2, tI x2)] dX1_wrongHeard_30 rfl rfl ?_
      refine fk_aload_n X 1 dX1_wrongHeard_31 rfl ?_
      refine fk_aload_n X 0 dX1_wrongHeard_32 rfl ?_
      refine fk_getI' X fd_12_0 q937 dX1_wrongHeard_33 hf (fun z9 hf => ?_)
      refine fk_aload_n X 0 dX1_wrongHeard_36 rfl ?_
      refine fk_getI' X fd_12_1 q940 dX1_wrongHeard_37 hf (fun z10 hf => ?_)
      refine fk_iload_n X 2 dX1_wrongHeard_40 rfl ?_
      obtain ⟨u11, hq, hf⟩ := bI hf
      obtain ⟨z12, hv, hf⟩ := bI hf
      refine fk_callV0I (ci := 0) (rest := []) X hq rfl (c_X1_saidAt hv) n_X1_saidAt q1202 q1204 qs42 q122 q1205 rfl dX1_wrongHeard_41 rfl rfl rfl rfl rfl (Nat.le_refl _) (Nat.le_refl _) ?_
      refine fk_aload_n X 0 dX1_wrongHeard_44 rfl ?_
      refine fk_getI' X fd_12_2 q942 dX1_wrongHeard_45 hf (fun z13 hf => ?_)
      refine fk_icmp_eq' X 53 dX1_wrongHeard_48 rfl hf (fun hf => ?_) (fun hf => ?_)
      · refine fk_iinc X 3 [(2, tI (x2 + 1)), (3, tR z8), (0, tR x0), (1, tI x1)] dX1_wrongHeard_53 rfl rfl rfl rfl ?_
        refine fk_goto X 2 dX1_wrongHeard_56 rfl ?_
        exact fk_cut' (ih (x2 + 1)  hf) [2, 3, 0] rfl
      · refine fk_iload_n X 3 dX1_wrongHeard_51 rfl ?_
        cases hf
        exact fk_ireturn X Y dX1_wrongHeard_52 rfl
def f_X1_wrongHeard (a0 : Option Nat) (a1 : Int32) (m : fk_M) : Option Int32 :=
  f_X1_wrongHeard_L2 a0 a1 m fk_fuel 0
set_option maxHeartbeats 4000000 in
theorem c_X1_wrongHeard {l : Launch} {G : fk_G} {b0 : Nat} {n : Nat} {a0 : Option Nat} {a1 : Int32} {m : fk_M} {r : Int32} (hf : f_X1_wrongHeard a0 a1 m = some r) : fk_Ct l G b0 yX1_wrongHeard cX1_wrongHeard 4 (some .int) 7 197 [tR a0, tI a1] n m (some (tI r)) n m 0 0 := by
  refine fk_enter n_X1_wrongHeard.1 rfl ?_
  intro E X0 Y
  have X : fk_X E l G b0 "FigureKnee" "wrongHeard" cX1_wrongHeard 4 7 197 0 0 := X0
  show fk_W E 4 n m 0 0 0 [(0, tR a0), (1, tI a1)] []
  unfold f_X1_wrongHeard at hf
  refine fk_iconst (v := 0) X dX1_wrongHeard_0 rfl ?_
  refine fk_istore_n X [(2, tI 0), (0, tR a0), (1, tI a1)] dX1_wrongHeard_1 rfl rfl ?_
  exact fk_cut' (w_X1_wrongHeard_L2 X Y a0 a1 fk_fuel 0 hf) [1, 2, 0] rfl
/-! FigureKnee fitting (I)I -/
theorem n_X1_fitting : fk_N yX1_fitting 1 := ⟨by decide +kernel, by decide +kernel, by decide +kernel, by decide +kernel⟩
def f_X1_fitting_J161 (R50 : Int32 → Int32 → fk_M → Option (Int32 × fk_M)) (x0 : Option Nat) (x1 : Int32) (x2 : Int32) (x3 : Int32) (m0 : fk_M) : Option (Int32 × fk_M) :=
  R50 x2 (x3 + 1) m0
set_option maxHeartbeats 4000000 in
theorem w_X1_fitting_J161 {E : fk_E} {l : Launch} {G : fk_G} {b0 n : Nat} {r : Int32} {mF : fk_M} (X : fk_X E l G b0 "FigureKnee" "fitting" cX1_fitting 5 8 220 0 0) (Y : fk_Y E (some .int) (some (tI r)) n mF 0 0) (x0 : Option Nat) (x1 : Int32) (x2 : Int32) (x3 : Int32)  (m0 : fk_M) {R50 : Int32 → Int32 → fk_M → Option (Int32 × fk_M)} (hR50 : ∀ (v2 : Int32) (v3 : Int32) (m9 : fk_M), R50 v2 v3 m9 = some (r, mF) → fk_W E 5 n m9 0 0 50 [(0, tR x0), (1, tI x1), (2, tI v2), (3, tI v3)] []) (hf : f_X1_fitting_J161 R50 x0 x1 x2 x3 m0 = some (r, mF)) : fk_W E 5 n m0 0 0 161 [(0, tR x0), (1, tI x1), (2, tI x2), (3, tI x3)] [] := by
  unfold f_X1_fitting_J161 at hf
  refine fk_iinc X 3 [(3, tI (x3 + 1)), (0, tR x0), (1, tI x1), (2, tI x2)] dX1_fitting_161 rfl rfl rfl rfl ?_
  refine fk_goto X 50 dX1_fitting_164 rfl ?_
  exact fk_cut' (hR50 x2 (x3 + 1) m0  hf) [1, 2, 3, 0] rfl
def f_X1_fitting_L119 (R50 : Int32 → Int32 → fk_M → Option (Int32 × fk_M)) (x0 : Option Nat) (x1 : Int32) (x2 : Int32) (x3 : Int32) : Nat → Int32 → fk_M → Option (Int32 × fk_M)
  | 0, _, _ => none
  | N + 1, x4, m0 =>
  (gR m0 x0 0 5).bind fun z1 => (gI m0 z1 4 3).bind fun z2 => if z2 ≤ x4 then (f_X1_fitting_J161 R50 x0 x1 x2 x3 m0) else ((gR m0 x0 0 16).bind fun z3 => (aI m0 z3 0 x4).bind fun z4 => (f_X1_has x3 x4 m0).bind fun z5 => (sI m0 z3 0 x4 (z4 + (if z5 = 0 then (0 : Int32) else 1))).bind fun m6 => f_X1_fitting_L119 R50 x0 x1 x2 x3 N (x4 + 1) m6)
set_option maxHeartbeats 4000000 in
theorem w_X1_fitting_L119 {E : fk_E} {l : Launch} {G : fk_G} {b0 n : Nat} {r : Int32} {mF : fk_M} (X : fk_X E l G b0 "FigureKnee" "fitting" cX1_fitting 5 8 220 0 0) (Y : fk_Y E (some .int) (some (tI r)) n mF 0 0) (x0 : Option Nat) (x1 : Int32) (x2 : Int32) (x3 : Int32) {R50 : Int32 → Int32 → fk_M → Option (Int32 × fk_M)} (hR50 : ∀ (v2 : Int32) (v3 : Int32) (m9 : fk_M), R50 v2 v3 m9 = some (r, mF) → fk_W E 5 n m9 0 0 50 [(0, tR x0), (1, tI x1), (2, tI v2), (3, tI v3)] []) : ∀ (N : Nat) (x4 : Int32) (m0 : fk_M), f_X1_fitting_L119 R50 x0 x1 x2 x3 N x4 m0 = some (r, mF) → fk_W E 5 n m0 0 0 119 [(0, tR x0), (1, tI x1), (2, tI x2), (3, tI x3), (4, tI x4)] [] := by
  intro N
  induction N with
  | zero =>
    intro x4 m0 hf
    have hf : (none : Option (Int32 × fk_M)) = some _ := hf
    cases hf
  | succ N ih =>
    intro x4 m0 hf
    rw [f_X1_fitting_L119] at hf
    refine fk_iload X 4 dX1_fitting_119 rfl ?_
    refine fk_aload_n X 0 dX1_fitting_121 rfl ?_
    refine fk_getR' X fd_0_5 q195 dX1_fitting_122 hf (fun z1 hf => ?_)
    refine fk_getI' X fd_4_3 q306 dX1_fitting_125 hf (fun z2 hf => ?_)
    refine fk_icmp_ge' X 161 dX1_fitting_128 rfl hf (fun hf => ?_) (fun hf => ?_)
    · exact fk_cut' (w_X1_fitting_J161 X Y x0 x1 x2 x3 m0 hR50 hf) [0, 1, 2, 3] rfl
    · refine fk_aload_n X 0 dX1_fitting_131 rfl ?_
      refine fk_getR' X fd_0_16 q206 dX1_fitting_132 hf (fun z3 hf => ?_)
      refine fk_iload X 4 dX1_fitting_135 rfl ?_
      refine fk_dup2 X dX1_fitting_137 rfl rfl ?_
      refine fk_iaload' X dX1_fitting_138 hf (fun z4 hf => ?_)
      refine fk_iload_n X 3 dX1_fitting_139 rfl ?_
      refine fk_iload X 4 dX1_fitting_140 rfl ?_
      obtain ⟨z5, hv, hf⟩ := bI hf
      refine fk_callS0I (rest := [tI z4, tI x4, tR z3]) X (c_X1_has hv) n_X1_has q1210 q1211 q122 q1212 dX1_fitting_142 rfl rfl rfl rfl rfl (Nat.le_refl _) (Nat.le_refl _) ?_
      have J1 : fk_W E 5 n m0 0 0 153 [(0, tR x0), (1, tI x1), (2, tI x2), (3, tI x3), (4, tI x4)] [tI (if z5 = 0 then (0 : Int32) else 1), tI z4, tI x4, tR z3] := by
        refine fk_iadd X dX1_fitting_153 ?_
        refine fk_iastore' X dX1_fitting_154 hf (fun m6 hf => ?_)
        refine fk_iinc X 4 [(4, tI (x4 + 1)), (0, tR x0), (1, tI x1), (2, tI x2), (3, tI x3)] dX1_fitting_155 rfl rfl rfl rfl ?_
        refine fk_goto X 119 dX1_fitting_158 rfl ?_
        exact fk_cut' (ih (x4 + 1) m6  hf) [1, 2, 3, 4, 0] rfl
      refine fk_if_eq X 152 dX1_fitting_145 rfl (fun hc2 => ?_) (fun hc2 => ?_)
      · refine fk_iconst (v := 0) X dX1_fitting_152 rfl ?_
        simp only [if_pos hc2] at J1
        exact fk_cut' J1 [0, 1, 2, 3, 4] rfl
      · refine fk_iconst (v := 1) X dX1_fitting_148 rfl ?_
        refine fk_goto X 153 dX1_fitting_149 rfl ?_
        simp only [if_neg hc2] at J1
        exact fk_cut' J1 [0, 1, 2, 3, 4] rfl
def f_X1_fitting_L50 (x0 : Option Nat) (x1 : Int32) : Nat → Int32 → Int32 → fk_M → Option (Int32 × fk_M)
  | 0, _, _, _ => none
  | N + 1, x2, x3, m0 =>
  (gR m0 x0 0 5).bind fun z1 => (gI m0 z1 4 3).bind fun z2 => if (i_shl 1 z2) ≤ x3 then ((gI m0 x0 0 13).bind fun z3 => if z3 = 0 then ((pV m0 x0 0 15 (tI 0)).bind fun m4 => some (x2, m4)) else (some (x2, m0))) else ((isO m0 x0 0).bind fun u5 => (f_X1_wrongHeard x0 x3 m0).bind fun z6 => if z6 = (-2) then ((gI m0 x0 0 13).bind fun z7 => (gI m0 x0 0 13).bind fun z8 => (pV m0 x0 0 13 (tI (z8 + 1))).bind fun m9 => (gI m9 x0 0 14).bind fun z10 => (pV m9 x0 0 14 (tI (z10 ||| x3))).bind fun m11 => (gI m11 x0 0 15).bind fun z12 => (pV m11 x0 0 15 (tI (z12 &&& x3))).bind fun m13 => f_X1_fitting_L119 (f_X1_fitting_L50 x0 x1 N) x0 x1 (if z7 = x1 then x3 else x2) x3 fk_fuel 0 m13) else (f_X1_fitting_J161 (f_X1_fitting_L50 x0 x1 N) x0 x1 x2 x3 m0))
set_option maxHeartbeats 4000000 in
theorem w_X1_fitting_L50 {E : fk_E} {l : Launch} {G : fk_G} {b0 n : Nat} {r : Int32} {mF : fk_M} (X : fk_X E l G b0 "FigureKnee" "fitting" cX1_fitting 5 8 220 0 0) (Y : fk_Y E (some .int) (some (tI r)) n mF 0 0) (x0 : Option Nat) (x1 : Int32) : ∀ (N : Nat) (x2 : Int32) (x3 : Int32) (m0 : fk_M), f_X1_fitting_L50 x0 x1 N x2 x3 m0 = some (r, mF) → fk_W E 5 n m0 0 0 50 [(0, tR x0), (1, tI x1), (2, tI x2), (3, tI x3)] [] := by
  intro N
  induction N with
  | zero =>
    intro x2 x3 m0 hf
    have hf : (none : Option (Int32 × fk_M)) = some _ := hf
    cases hf
  | succ N ih =>
    intro x2 x3 m0 hf
    rw [f_X1_fitting_L50] at hf
    refine fk_iload_n X 3 dX1_fitting_50 rfl ?_
    refine fk_iconst (v := 1) X dX1_fitting_51 rfl ?_
    refine fk_aload_n X 0 dX1_fitting_52 rfl ?_
    refine fk_getR' X fd_0_5 q195 dX1_fitting_53 hf (fun z1 hf => ?_)
    refine fk_getI' X fd_4_3 q306 dX1_fitting_56 hf (fun z2 hf => ?_)
    refine fk_ishl X dX1_fitting_59 ?_
    refine fk_icmp_ge' X 167 dX1_fitting_60 rfl hf (fun hf => ?_) (fun hf => ?_)
    · refine fk_aload_n X 0 dX1_fitting_167 rfl ?_
      refine fk_getI' X fd_0_13 q203 dX1_fitting_168 hf (fun z3 hf => ?_)
      refine fk_if_ne' X 179 dX1_fitting_171 rfl hf (fun hf => ?_) (fun hf => ?_)
      · refine fk_iload_n X 2 dX1_fitting_179 rfl ?_
        cases hf
        exact fk_ireturn X Y dX1_fitting_180 rfl
      · refine fk_aload_n X 0 dX1_fitting_174 rfl ?_
        refine fk_iconst (v := 0) X dX1_fitting_175 rfl ?_
        refine fk_putI' X fd_0_15 q205 dX1_fitting_176 (fit_I _) hf (fun m4 hf => ?_)
        refine fk_iload_n X 2 dX1_fitting_179 rfl ?_
        cases hf
        exact fk_ireturn X Y dX1_fitting_180 rfl
    · refine fk_aload_n X 0 dX1_fitting_63 rfl ?_
      refine fk_iload_n X 3 dX1_fitting_64 rfl ?_
      obtain ⟨u5, hq, hf⟩ := bI hf
      obtain ⟨z6, hv, hf⟩ := bI hf
      refine fk_callV0I (ci := 0) (rest := []) X hq rfl (c_X1_wrongHeard hv) n_X1_wrongHeard q1197 q1199 qs41 q122 q1200 rfl dX1_fitting_65 rfl rfl rfl rfl rfl (Nat.le_refl _) (Nat.le_refl _) ?_
      refine fk_bipush (v := (-2)) X dX1_fitting_68 rfl ?_
      refine fk_icmp_eq' X 76 dX1_fitting_70 rfl hf (fun hf => ?_) (fun hf => ?_)
      · refine fk_aload_n X 0 dX1_fitting_76 rfl ?_
        refine fk_getI' X fd_0_13 q203 dX1_fitting_77 hf (fun z7 hf => ?_)
        refine fk_iload_n X 1 dX1_fitting_80 rfl ?_
        have J1 : fk_W E 5 n m0 0 0 86 [(2, tI (if z7 = x1 then x3 else x2)), (0, tR x0), (1, tI x1), (3, tI x3)] [] := by
          refine fk_aload_n X 1 dX1_fitting_86 rfl ?_
          refine fk_dup X dX1_fitting_87 rfl ?_
          refine fk_getI' X fd_0_13 q203 dX1_fitting_88 hf (fun z8 hf => ?_)
          refine fk_iconst (v := 1) X dX1_fitting_91 rfl ?_
          refine fk_iadd X dX1_fitting_92 ?_
          refine fk_putI' X fd_0_13 q203 dX1_fitting_93 (fit_I _) hf (fun m9 hf => ?_)
          refine fk_aload_n X 1 dX1_fitting_96 rfl ?_
          refine fk_dup X dX1_fitting_97 rfl ?_
          refine fk_getI' X fd_0_14 q204 dX1_fitting_98 hf (fun z10 hf => ?_)
          refine fk_iload_n X 3 dX1_fitting_101 rfl ?_
          refine fk_ior X dX1_fitting_102 ?_
          refine fk_putI' X fd_0_14 q204 dX1_fitting_103 (fit_I _) hf (fun m11 hf => ?_)
          refine fk_aload_n X 1 dX1_fitting_106 rfl ?_
          refine fk_dup X dX1_fitting_107 rfl ?_
          refine fk_getI' X fd_0_15 q205 dX1_fitting_108 hf (fun z12 hf => ?_)
          refine fk_iload_n X 3 dX1_fitting_111 rfl ?_
          refine fk_iand X dX1_fitting_112 ?_
          refine fk_putI' X fd_0_15 q205 dX1_fitting_113 (fit_I _) hf (fun m13 hf => ?_)
          refine fk_iconst (v := 0) X dX1_fitting_116 rfl ?_
          refine fk_istore X [(4, tI 0), (2, tI (if z7 = x1 then x3 else x2)), (0, tR x0), (1, tI x1), (3, tI x3)] dX1_fitting_117 rfl rfl ?_
          exact fk_cut' (w_X1_fitting_L119 X Y x0 x1 (if z7 = x1 then x3 else x2) x3 ih fk_fuel 0 m13 hf) [2, 3, 1, 4, 0] rfl
        refine fk_icmp_ne X 86 dX1_fitting_81 rfl (fun hc2 => ?_) (fun hc2 => ?_)
        · simp only [if_neg hc2] at J1
          exact fk_cut' J1 [2, 0, 1, 3] rfl
        · refine fk_iload_n X 3 dX1_fitting_84 rfl ?_
          refine fk_istore_n X [(2, tI x3), (0, tR x0), (1, tI x1), (3, tI x3)] dX1_fitting_85 rfl rfl ?_
          simp only [if_pos hc2] at J1
          exact fk_cut' J1 [0, 1, 2, 3] rfl
      · refine fk_goto X 161 dX1_fitting_73 rfl ?_
        exact fk_cut' (w_X1_fitting_J161 X Y x0 x1 x2 x3 m0 ih hf) [0, 1, 2, 3] rfl
def f_X1_fitting_L30 (x0 : Option Nat) (x1 : Int32) (x2 : Int32) : Nat → Int32 → fk_M → Option (Int32 × fk_M)
  | 0, _, _ => none
  | N + 1, x3, m0 =>
  if 4 ≤ x3 then (f_X1_fitting_L50 x0 x1 fk_fuel x2 0 m0) else ((gR m0 x0 0 16).bind fun z1 => (sI m0 z1 0 x3 0).bind fun m2 => f_X1_fitting_L30 x0 x1 x2 N (x3 + 1) m2)
set_option maxHeartbeats 4000000 in
theorem w_X1_fitting_L30 {E : fk_E} {l : Launch} {G : fk_G} {b0 n : Nat} {r : Int32} {mF : fk_M} (X : fk_X E l G b0 "FigureKnee" "fitting" cX1_fitting 5 8 220 0 0) (Y : fk_Y E (some .int) (some (tI r)) n mF 0 0) (x0 : Option Nat) (x1 : Int32) (x2 : Int32) : ∀ (N : Nat) (x3 : Int32) (m0 : fk_M), f_X1_fitting_L30 x0 x1 x2 N x3 m0 = some (r, mF) → fk_W E 5 n m0 0 0 30 [(0, tR x0), (1, tI x1), (2, tI x2), (3, tI x3)] [] := by
  intro N
  induction N with
  | zero =>
    intro x3 m0 hf
    have hf : (none : Option (Int32 × fk_M)) = some _ := hf
    cases hf
  | succ N ih =>
    intro x3 m0 hf
    rw [f_X1_fitting_L30] at hf
    refine fk_iload_n X 3 dX1_fitting_30 rfl ?_
    refine fk_iconst (v := 4) X dX1_fitting_31 rfl ?_
    refine fk_icmp_ge' X 48 dX1_fitting_32 rfl hf (fun hf => ?_) (fun hf => ?_)
    · refine fk_iconst (v := 0) X dX1_fitting_48 rfl ?_
      refine fk_istore_n X [(3, tI 0), (0, tR x0), (1, tI x1), (2, tI x2)] dX1_fitting_49 rfl rfl ?_
      exact fk_cut' (w_X1_fitting_L50 X Y x0 x1 fk_fuel x2 0 m0 hf) [1, 2, 3, 0] rfl
    · refine fk_aload_n X 0 dX1_fitting_35 rfl ?_
      refine fk_getR' X fd_0_16 q206 dX1_fitting_36 hf (fun z1 hf => ?_)
      refine fk_iload_n X 3 dX1_fitting_39 rfl ?_
      refine fk_iconst (v := 0) X dX1_fitting_40 rfl ?_
      refine fk_iastore' X dX1_fitting_41 hf (fun m2 hf => ?_)
      refine fk_iinc X 3 [(3, tI (x3 + 1)), (0, tR x0), (1, tI x1), (2, tI x2)] dX1_fitting_42 rfl rfl rfl rfl ?_
      refine fk_goto X 30 dX1_fitting_45 rfl ?_
      exact fk_cut' (ih (x3 + 1) m2  hf) [1, 2, 3, 0] rfl
def f_X1_fitting (a0 : Option Nat) (a1 : Int32) (m0 : fk_M) : Option (Int32 × fk_M) :=
  (pV m0 a0 0 13 (tI 0)).bind fun m1 => (pV m1 a0 0 14 (tI 0)).bind fun m2 => (gR m2 a0 0 5).bind fun z3 => (gI m2 z3 4 3).bind fun z4 => (pV m2 a0 0 15 (tI ((i_shl 1 z4) - 1))).bind fun m5 => f_X1_fitting_L30 a0 a1 (-2) fk_fuel 0 m5
set_option maxHeartbeats 4000000 in
theorem c_X1_fitting {l : Launch} {G : fk_G} {b0 : Nat} {n : Nat} {a0 : Option Nat} {a1 : Int32} {m0 : fk_M} {r : Int32} {mF : fk_M} (hf : f_X1_fitting a0 a1 m0 = some (r, mF)) : fk_Ct l G b0 yX1_fitting cX1_fitting 5 (some .int) 8 220 [tR a0, tI a1] n m0 (some (tI r)) n mF 0 0 := by
  refine fk_enter n_X1_fitting.1 rfl ?_
  intro E X0 Y
  have X : fk_X E l G b0 "FigureKnee" "fitting" cX1_fitting 5 8 220 0 0 := X0
  show fk_W E 5 n m0 0 0 0 [(0, tR a0), (1, tI a1)] []
  unfold f_X1_fitting at hf
  refine fk_aload_n X 0 dX1_fitting_0 rfl ?_
  refine fk_iconst (v := 0) X dX1_fitting_1 rfl ?_
  refine fk_putI' X fd_0_13 q203 dX1_fitting_2 (fit_I _) hf (fun m1 hf => ?_)
  refine fk_aload_n X 0 dX1_fitting_5 rfl ?_
  refine fk_iconst (v := 0) X dX1_fitting_6 rfl ?_
  refine fk_putI' X fd_0_14 q204 dX1_fitting_7 (fit_I _) hf (fun m2 hf => ?_)
  refine fk_aload_n X 0 dX1_fitting_10 rfl ?_
  refine fk_iconst (v := 1) X dX1_fitting_11 rfl ?_
  refine fk_aload_n X 0 dX1_fitting_12 rfl ?_
  refine fk_getR' X fd_0_5 q195 dX1_fitting_13 hf (fun z3 hf => ?_)
  refine fk_getI' X fd_4_3 q306 dX1_fitting_16 hf (fun z4 hf => ?_)
  refine fk_ishl X dX1_fitting_19 ?_
  refine fk_iconst (v := 1) X dX1_fitting_20 rfl ?_
  refine fk_isub X dX1_fitting_21 ?_
  refine fk_putI' X fd_0_15 q205 dX1_fitting_22 (fit_I _) hf (fun m5 hf => ?_)
  refine fk_bipush (v := (-2)) X dX1_fitting_25 rfl ?_
  refine fk_istore_n X [(2, tI (-2)), (0, tR a0), (1, tI a1)] dX1_fitting_27 rfl rfl ?_
  refine fk_iconst (v := 0) X dX1_fitting_28 rfl ?_
  refine fk_istore_n X [(3, tI 0), (2, tI (-2)), (0, tR a0), (1, tI a1)] dX1_fitting_29 rfl rfl ?_
  exact fk_cut' (w_X1_fitting_L30 X Y a0 a1 (-2) fk_fuel 0 m5 hf) [2, 3, 1, 0] rfl
/-! FigureKnee fits ()I -/
theorem n_X1_fits : fk_N yX1_fits 0 := ⟨by decide +kernel, by decide +kernel, by decide +kernel, by decide +kernel⟩
def f_X1_fits (a0 : Option Nat) (m0 : fk_M) : Option (Int32 × fk_M) :=
  (gR m0 a0 0 5).bind fun z1 => if z1 = none then ((isO m0 a0 0).bind fun u2 => bn2 (f_X1_refused a0 1 m0) fun z3 m4 => some (z3, m4)) else ((isO m0 a0 0).bind fun u5 => bn2 (f_X1_fitting a0 (-1) m0) fun z6 m7 => (gI m7 a0 0 13).bind fun z8 => (isO m7 a0 0).bind fun u9 => bn2 (f_X1_well a0 z8 m7) fun z10 m11 => some (z10, m11))
set_option maxHeartbeats 4000000 in
theorem c_X1_fits {l : Launch} {G : fk_G} {b0 : Nat} {n : Nat} {a0 : Option Nat} {m0 : fk_M} {r : Int32} {mF : fk_M} (hf : f_X1_fits a0 m0 = some (r, mF)) : fk_Ct l G b0 yX1_fits cX1_fits 1 (some .int) 9 244 [tR a0] n m0 (some (tI r)) n mF 0 0 := by
  refine fk_enter n_X1_fits.1 rfl ?_
  intro E X0 Y
  have X : fk_X E l G b0 "FigureKnee" "fits" cX1_fits 1 9 244 0 0 := X0
  show fk_W E 1 n m0 0 0 0 [(0, tR a0)] []
  unfold f_X1_fits at hf
  refine fk_aload_n X 0 dX1_fits_0 rfl ?_
  refine fk_getR' X fd_0_5 q195 dX1_fits_1 hf (fun z1 hf => ?_)
  refine fk_ifnonnull' X 13 dX1_fits_4 rfl hf (fun hf => ?_) (fun hf => ?_)
  · refine fk_aload_n X 0 dX1_fits_13 rfl ?_
    refine fk_iconst (v := (-1)) X dX1_fits_14 rfl ?_
    obtain ⟨u5, hq, hf⟩ := bI hf
    obtain ⟨z6, m7, hv, hf⟩ := bn2_eq hf
    refine fk_callV0I (ci := 0) (rest := []) X hq rfl (c_X1_fitting hv) n_X1_fitting q1193 q1195 qs40 q122 q1196 rfl dX1_fits_15 rfl rfl rfl rfl rfl (Nat.le_refl _) (Nat.le_refl _) ?_
    refine fk_pop X dX1_fits_18 rfl ?_
    refine fk_aload_n X 0 dX1_fits_19 rfl ?_
    refine fk_aload_n X 0 dX1_fits_20 rfl ?_
    refine fk_getI' X fd_0_13 q203 dX1_fits_21 hf (fun z8 hf => ?_)
    obtain ⟨u9, hq, hf⟩ := bI hf
    obtain ⟨z10, m11, hv, hf⟩ := bn2_eq hf
    refine fk_callV0I (ci := 0) (rest := []) X hq rfl (c_X1_well hv) n_X1_well q1001 q1003 qs25 q122 q1004 rfl dX1_fits_24 rfl rfl rfl rfl rfl (Nat.le_refl _) (Nat.le_refl _) ?_
    cases hf
    exact fk_ireturn X Y dX1_fits_27 rfl
  · refine fk_aload_n X 0 dX1_fits_7 rfl ?_
    refine fk_iconst (v := 1) X dX1_fits_8 rfl ?_
    obtain ⟨u2, hq, hf⟩ := bI hf
    obtain ⟨z3, m4, hv, hf⟩ := bn2_eq hf
    refine fk_callV0I (ci := 0) (rest := []) X hq rfl (c_X1_refused hv) n_X1_refused q264 q266 qs0 q122 q267 rfl dX1_fits_9 rfl rfl rfl rfl rfl (Nat.le_refl _) (Nat.le_refl _) ?_
    cases hf
    exact fk_ireturn X Y dX1_fits_12 rfl
/-! FigureKnee fitAt (I)I -/
theorem n_X1_fitAt : fk_N yX1_fitAt 1 := ⟨by decide +kernel, by decide +kernel, by decide +kernel, by decide +kernel⟩
def f_X1_fitAt_J11 (x0 : Option Nat) (m0 : fk_M) : Option (Int32 × fk_M) :=
  (isO m0 x0 0).bind fun u1 => bn2 (f_X1_refused x0 1 m0) fun z2 m3 => some (z2, m3)
set_option maxHeartbeats 4000000 in
theorem w_X1_fitAt_J11 {E : fk_E} {l : Launch} {G : fk_G} {b0 n : Nat} {r : Int32} {mF : fk_M} (X : fk_X E l G b0 "FigureKnee" "fitAt" cX1_fitAt 3 9 244 0 0) (Y : fk_Y E (some .int) (some (tI r)) n mF 0 0) (x0 : Option Nat)  (m0 : fk_M) (hf : f_X1_fitAt_J11 x0 m0 = some (r, mF)) : fk_W E 3 n m0 0 0 11 [(0, tR x0)] [] := by
  unfold f_X1_fitAt_J11 at hf
  refine fk_aload_n X 0 dX1_fitAt_11 rfl ?_
  refine fk_iconst (v := 1) X dX1_fitAt_12 rfl ?_
  obtain ⟨u1, hq, hf⟩ := bI hf
  obtain ⟨z2, m3, hv, hf⟩ := bn2_eq hf
  refine fk_callV0I (ci := 0) (rest := []) X hq rfl (c_X1_refused hv) n_X1_refused q264 q266 qs0 q122 q267 rfl dX1_fitAt_13 rfl rfl rfl rfl rfl (Nat.le_refl _) (Nat.le_refl _) ?_
  cases hf
  exact fk_ireturn X Y dX1_fitAt_16 rfl
def f_X1_fitAt (a0 : Option Nat) (a1 : Int32) (m0 : fk_M) : Option (Int32 × fk_M) :=
  (gR m0 a0 0 5).bind fun z1 => if z1 = none then (f_X1_fitAt_J11 a0 m0) else (if 0 ≤ a1 then ((isO m0 a0 0).bind fun u2 => bn2 (f_X1_fitting a0 a1 m0) fun z3 m4 => if z3 = (-2) then ((isO m4 a0 0).bind fun u5 => bn2 (f_X1_refused a0 1 m4) fun z6 m7 => some (z6, m7)) else ((isO m4 a0 0).bind fun u8 => bn2 (f_X1_well a0 z3 m4) fun z9 m10 => some (z9, m10))) else (f_X1_fitAt_J11 a0 m0))
set_option maxHeartbeats 4000000 in
theorem c_X1_fitAt {l : Launch} {G : fk_G} {b0 : Nat} {n : Nat} {a0 : Option Nat} {a1 : Int32} {m0 : fk_M} {r : Int32} {mF : fk_M} (hf : f_X1_fitAt a0 a1 m0 = some (r, mF)) : fk_Ct l G b0 yX1_fitAt cX1_fitAt 3 (some .int) 9 244 [tR a0, tI a1] n m0 (some (tI r)) n mF 0 0 := by
  refine fk_enter n_X1_fitAt.1 rfl ?_
  intro E X0 Y
  have X : fk_X E l G b0 "FigureKnee" "fitAt" cX1_fitAt 3 9 244 0 0 := X0
  show fk_W E 3 n m0 0 0 0 [(0, tR a0), (1, tI a1)] []
  unfold f_X1_fitAt at hf
  refine fk_aload_n X 0 dX1_fitAt_0 rfl ?_
  refine fk_getR' X fd_0_5 q195 dX1_fitAt_1 hf (fun z1 hf => ?_)
  refine fk_ifnull' X 11 dX1_fitAt_4 rfl hf (fun hf => ?_) (fun hf => ?_)
  · exact fk_cut' (w_X1_fitAt_J11 X Y a0 m0 hf) [0] rfl
  · refine fk_iload_n X 1 dX1_fitAt_7 rfl ?_
    refine fk_if_ge' X 17 dX1_fitAt_8 rfl hf (fun hf => ?_) (fun hf => ?_)
    · refine fk_aload_n X 0 dX1_fitAt_17 rfl ?_
      refine fk_iload_n X 1 dX1_fitAt_18 rfl ?_
      obtain ⟨u2, hq, hf⟩ := bI hf
      obtain ⟨z3, m4, hv, hf⟩ := bn2_eq hf
      refine fk_callV0I (ci := 0) (rest := []) X hq rfl (c_X1_fitting hv) n_X1_fitting q1193 q1195 qs40 q122 q1196 rfl dX1_fitAt_19 rfl rfl rfl rfl rfl (Nat.le_refl _) (Nat.le_refl _) ?_
      refine fk_istore_n X [(2, tI z3), (0, tR a0), (1, tI a1)] dX1_fitAt_22 rfl rfl ?_
      refine fk_iload_n X 0 dX1_fitAt_23 rfl ?_
      refine fk_bipush (v := (-2)) X dX1_fitAt_24 rfl ?_
      refine fk_icmp_ne' X 37 dX1_fitAt_26 rfl hf (fun hf => ?_) (fun hf => ?_)
      · refine fk_aload_n X 1 dX1_fitAt_37 rfl ?_
        refine fk_iload_n X 0 dX1_fitAt_38 rfl ?_
        obtain ⟨u8, hq, hf⟩ := bI hf
        obtain ⟨z9, m10, hv, hf⟩ := bn2_eq hf
        refine fk_callV0I (ci := 0) (rest := []) X hq rfl (c_X1_well hv) n_X1_well q1001 q1003 qs25 q122 q1004 rfl dX1_fitAt_39 rfl rfl rfl rfl rfl (Nat.le_refl _) (Nat.le_refl _) ?_
        cases hf
        exact fk_ireturn X Y dX1_fitAt_42 rfl
      · refine fk_aload_n X 1 dX1_fitAt_29 rfl ?_
        refine fk_iconst (v := 1) X dX1_fitAt_30 rfl ?_
        obtain ⟨u5, hq, hf⟩ := bI hf
        obtain ⟨z6, m7, hv, hf⟩ := bn2_eq hf
        refine fk_callV0I (ci := 0) (rest := []) X hq rfl (c_X1_refused hv) n_X1_refused q264 q266 qs0 q122 q267 rfl dX1_fitAt_31 rfl rfl rfl rfl rfl (Nat.le_refl _) (Nat.le_refl _) ?_
        refine fk_goto X 42 dX1_fitAt_34 rfl ?_
        cases hf
        exact fk_ireturn X Y dX1_fitAt_42 rfl
    · exact fk_cut' (w_X1_fitAt_J11 X Y a0 m0 hf) [0] rfl
/-! FigureKnee could ()I -/
theorem n_X1_could : fk_N yX1_could 0 := ⟨by decide +kernel, by decide +kernel, by decide +kernel, by decide +kernel⟩
def f_X1_could (a0 : Option Nat) (m0 : fk_M) : Option (Int32 × fk_M) :=
  (gR m0 a0 0 5).bind fun z1 => if z1 = none then ((isO m0 a0 0).bind fun u2 => bn2 (f_X1_refused a0 1 m0) fun z3 m4 => some (z3, m4)) else ((isO m0 a0 0).bind fun u5 => bn2 (f_X1_fitting a0 (-1) m0) fun z6 m7 => (gI m7 a0 0 14).bind fun z8 => (isO m7 a0 0).bind fun u9 => bn2 (f_X1_well a0 z8 m7) fun z10 m11 => some (z10, m11))
set_option maxHeartbeats 4000000 in
theorem c_X1_could {l : Launch} {G : fk_G} {b0 : Nat} {n : Nat} {a0 : Option Nat} {m0 : fk_M} {r : Int32} {mF : fk_M} (hf : f_X1_could a0 m0 = some (r, mF)) : fk_Ct l G b0 yX1_could cX1_could 1 (some .int) 9 244 [tR a0] n m0 (some (tI r)) n mF 0 0 := by
  refine fk_enter n_X1_could.1 rfl ?_
  intro E X0 Y
  have X : fk_X E l G b0 "FigureKnee" "could" cX1_could 1 9 244 0 0 := X0
  show fk_W E 1 n m0 0 0 0 [(0, tR a0)] []
  unfold f_X1_could at hf
  refine fk_aload_n X 0 dX1_could_0 rfl ?_
  refine fk_getR' X fd_0_5 q195 dX1_could_1 hf (fun z1 hf => ?_)
  refine fk_ifnonnull' X 13 dX1_could_4 rfl hf (fun hf => ?_) (fun hf => ?_)
  · refine fk_aload_n X 0 dX1_could_13 rfl ?_
    refine fk_iconst (v := (-1)) X dX1_could_14 rfl ?_
    obtain ⟨u5, hq, hf⟩ := bI hf
    obtain ⟨z6, m7, hv, hf⟩ := bn2_eq hf
    refine fk_callV0I (ci := 0) (rest := []) X hq rfl (c_X1_fitting hv) n_X1_fitting q1193 q1195 qs40 q122 q1196 rfl dX1_could_15 rfl rfl rfl rfl rfl (Nat.le_refl _) (Nat.le_refl _) ?_
    refine fk_pop X dX1_could_18 rfl ?_
    refine fk_aload_n X 0 dX1_could_19 rfl ?_
    refine fk_aload_n X 0 dX1_could_20 rfl ?_
    refine fk_getI' X fd_0_14 q204 dX1_could_21 hf (fun z8 hf => ?_)
    obtain ⟨u9, hq, hf⟩ := bI hf
    obtain ⟨z10, m11, hv, hf⟩ := bn2_eq hf
    refine fk_callV0I (ci := 0) (rest := []) X hq rfl (c_X1_well hv) n_X1_well q1001 q1003 qs25 q122 q1004 rfl dX1_could_24 rfl rfl rfl rfl rfl (Nat.le_refl _) (Nat.le_refl _) ?_
    cases hf
    exact fk_ireturn X Y dX1_could_27 rfl
  · refine fk_aload_n X 0 dX1_could_7 rfl ?_
    refine fk_iconst (v := 1) X dX1_could_8 rfl ?_
    obtain ⟨u2, hq, hf⟩ := bI hf
    obtain ⟨z3, m4, hv, hf⟩ := bn2_eq hf
    refine fk_callV0I (ci := 0) (rest := []) X hq rfl (c_X1_refused hv) n_X1_refused q264 q266 qs0 q122 q267 rfl dX1_could_9 rfl rfl rfl rfl rfl (Nat.le_refl _) (Nat.le_refl _) ?_
    cases hf
    exact fk_ireturn X Y dX1_could_12 rfl
/-! FigureKnee surely ()I -/
theorem n_X1_surely : fk_N yX1_surely 0 := ⟨by decide +kernel, by decide +kernel, by decide +kernel, by decide +kernel⟩
def f_X1_surely (a0 : Option Nat) (m0 : fk_M) : Option (Int32 × fk_M) :=
  (gR m0 a0 0 5).bind fun z1 => if z1 = none then ((isO m0 a0 0).bind fun u2 => bn2 (f_X1_refused a0 1 m0) fun z3 m4 => some (z3, m4)) else ((isO m0 a0 0).bind fun u5 => bn2 (f_X1_fitting a0 (-1) m0) fun z6 m7 => (gI m7 a0 0 15).bind fun z8 => (isO m7 a0 0).bind fun u9 => bn2 (f_X1_well a0 z8 m7) fun z10 m11 => some (z10, m11))
set_option maxHeartbeats 4000000 in
theorem c_X1_surely {l : Launch} {G : fk_G} {b0 : Nat} {n : Nat} {a0 : Option Nat} {m0 : fk_M} {r : Int32} {mF : fk_M} (hf : f_X1_surely a0 m0 = some (r, mF)) : fk_Ct l G b0 yX1_surely cX1_surely 1 (some .int) 9 244 [tR a0] n m0 (some (tI r)) n mF 0 0 := by
  refine fk_enter n_X1_surely.1 rfl ?_
  intro E X0 Y
  have X : fk_X E l G b0 "FigureKnee" "surely" cX1_surely 1 9 244 0 0 := X0
  show fk_W E 1 n m0 0 0 0 [(0, tR a0)] []
  unfold f_X1_surely at hf
  refine fk_aload_n X 0 dX1_surely_0 rfl ?_
  refine fk_getR' X fd_0_5 q195 dX1_surely_1 hf (fun z1 hf => ?_)
  refine fk_ifnonnull' X 13 dX1_surely_4 rfl hf (fun hf => ?_) (fun hf => ?_)
  · refine fk_aload_n X 0 dX1_surely_13 rfl ?_
    refine fk_iconst (v := (-1)) X dX1_surely_14 rfl ?_
    obtain ⟨u5, hq, hf⟩ := bI hf
    obtain ⟨z6, m7, hv, hf⟩ := bn2_eq hf
    refine fk_callV0I (ci := 0) (rest := []) X hq rfl (c_X1_fitting hv) n_X1_fitting q1193 q1195 qs40 q122 q1196 rfl dX1_surely_15 rfl rfl rfl rfl rfl (Nat.le_refl _) (Nat.le_refl _) ?_
    refine fk_pop X dX1_surely_18 rfl ?_
    refine fk_aload_n X 0 dX1_surely_19 rfl ?_
    refine fk_aload_n X 0 dX1_surely_20 rfl ?_
    refine fk_getI' X fd_0_15 q205 dX1_surely_21 hf (fun z8 hf => ?_)
    obtain ⟨u9, hq, hf⟩ := bI hf
    obtain ⟨z10, m11, hv, hf⟩ := bn2_eq hf
    refine fk_callV0I (ci := 0) (rest := []) X hq rfl (c_X1_well hv) n_X1_well q1001 q1003 qs25 q122 q1004 rfl dX1_surely_24 rfl rfl rfl rfl rfl (Nat.le_refl _) (Nat.le_refl _) ?_
    cases hf
    exact fk_ireturn X Y dX1_surely_27 rfl
  · refine fk_aload_n X 0 dX1_surely_7 rfl ?_
    refine fk_iconst (v := 1) X dX1_surely_8 rfl ?_
    obtain ⟨u2, hq, hf⟩ := bI hf
    obtain ⟨z3, m4, hv, hf⟩ := bn2_eq hf
    refine fk_callV0I (ci := 0) (rest := []) X hq rfl (c_X1_refused hv) n_X1_refused q264 q266 qs0 q122 q267 rfl dX1_surely_9 rfl rfl rfl rfl rfl (Nat.le_refl _) (Nat.le_refl _) ?_
    cases hf
    exact fk_ireturn X Y dX1_surely_12 rfl
/-! FigureKnee asks ()I -/
theorem n_X1_asks : fk_N yX1_asks 0 := ⟨by decide +kernel, by decide +kernel, by decide +kernel, by decide +kernel⟩
def f_X1_asks_J80 (R17 : Int32 → Int32 → fk_M → Option (Int32 × fk_M)) (x0 : Option Nat) (x1 : Int32) (x2 : Int32) (m0 : fk_M) : Option (Int32 × fk_M) :=
  R17 x1 (x2 + 1) m0
set_option maxHeartbeats 4000000 in
theorem w_X1_asks_J80 {E : fk_E} {l : Launch} {G : fk_G} {b0 n : Nat} {r : Int32} {mF : fk_M} (X : fk_X E l G b0 "FigureKnee" "asks" cX1_asks 4 9 244 0 0) (Y : fk_Y E (some .int) (some (tI r)) n mF 0 0) (x0 : Option Nat) (x1 : Int32) (x2 : Int32)  (m0 : fk_M) {R17 : Int32 → Int32 → fk_M → Option (Int32 × fk_M)} (hR17 : ∀ (v1 : Int32) (v2 : Int32) (m9 : fk_M), R17 v1 v2 m9 = some (r, mF) → fk_W E 4 n m9 0 0 17 [(0, tR x0), (1, tI v1), (2, tI v2)] []) (hf : f_X1_asks_J80 R17 x0 x1 x2 m0 = some (r, mF)) : fk_W E 4 n m0 0 0 80 [(0, tR x0), (1, tI x1), (2, tI x2)] [] := by
  unfold f_X1_asks_J80 at hf
  refine fk_iinc X 2 [(2, tI (x2 + 1)), (0, tR x0), (1, tI x1)] dX1_asks_80 rfl rfl rfl rfl ?_
  refine fk_goto X 17 dX1_asks_83 rfl ?_
  exact fk_cut' (hR17 x1 (x2 + 1) m0  hf) [1, 2, 0] rfl
def f_X1_asks_J73 (R17 : Int32 → Int32 → fk_M → Option (Int32 × fk_M)) (x0 : Option Nat) (x2 : Int32) (x3 : Int32) (m0 : fk_M) : Option (Int32 × fk_M) :=
  (pV m0 x0 0 17 (tI x3)).bind fun m1 => f_X1_asks_J80 R17 x0 x2 x2 m1
set_option maxHeartbeats 4000000 in
theorem w_X1_asks_J73 {E : fk_E} {l : Launch} {G : fk_G} {b0 n : Nat} {r : Int32} {mF : fk_M} (X : fk_X E l G b0 "FigureKnee" "asks" cX1_asks 4 9 244 0 0) (Y : fk_Y E (some .int) (some (tI r)) n mF 0 0) (x0 : Option Nat) (x2 : Int32) (x3 : Int32)  (m0 : fk_M) {R17 : Int32 → Int32 → fk_M → Option (Int32 × fk_M)} (hR17 : ∀ (v1 : Int32) (v2 : Int32) (m9 : fk_M), R17 v1 v2 m9 = some (r, mF) → fk_W E 4 n m9 0 0 17 [(0, tR x0), (1, tI v1), (2, tI v2)] []) (hf : f_X1_asks_J73 R17 x0 x2 x3 m0 = some (r, mF)) : fk_W E 4 n m0 0 0 73 [(0, tR x0), (2, tI x2), (3, tI x3)] [] := by
  unfold f_X1_asks_J73 at hf
  refine fk_iload_n X 1 dX1_asks_73 rfl ?_
  refine fk_istore_n X [(1, tI x2), (0, tR x0), (2, tI x2), (3, tI x3)] dX1_asks_74 rfl rfl ?_
  refine fk_aload_n X 1 dX1_asks_75 rfl ?_
  refine fk_iload_n X 3 dX1_asks_76 rfl ?_
  refine fk_putI' X fd_0_17 q207 dX1_asks_77 (fit_I _) hf (fun m1 hf => ?_)
  exact fk_cut' (w_X1_asks_J80 X Y x0 x2 x2 m1 hR17 hf) [1, 0, 2] rfl
def f_X1_asks_L17 (x0 : Option Nat) : Nat → Int32 → Int32 → fk_M → Option (Int32 × fk_M)
  | 0, _, _, _ => none
  | N + 1, x1, x2, m0 =>
  (gR m0 x0 0 5).bind fun z1 => (gI m0 z1 4 3).bind fun z2 => if z2 ≤ x2 then (some (x1, m0)) else ((gI m0 x0 0 13).bind fun z3 => if z3 ≤ 0 then (some (x1, m0)) else ((gR m0 x0 0 16).bind fun z4 => (aI m0 z4 0 x2).bind fun z5 => (gI m0 x0 0 13).bind fun z6 => (gR m0 x0 0 16).bind fun z7 => (aI m0 z7 0 x2).bind fun z8 => if x1 = (-2) then (f_X1_asks_J73 (f_X1_asks_L17 x0 N) x0 x2 (i_max z5 (z6 - z8)) m0) else ((gI m0 x0 0 17).bind fun z9 => if (i_max z5 (z6 - z8)) < z9 then (f_X1_asks_J73 (f_X1_asks_L17 x0 N) x0 x2 (i_max z5 (z6 - z8)) m0) else (f_X1_asks_J80 (f_X1_asks_L17 x0 N) x0 x1 x2 m0))))
set_option maxHeartbeats 4000000 in
theorem w_X1_asks_L17 {E : fk_E} {l : Launch} {G : fk_G} {b0 n : Nat} {r : Int32} {mF : fk_M} (X : fk_X E l G b0 "FigureKnee" "asks" cX1_asks 4 9 244 0 0) (Y : fk_Y E (some .int) (some (tI r)) n mF 0 0) (x0 : Option Nat) : ∀ (N : Nat) (x1 : Int32) (x2 : Int32) (m0 : fk_M), f_X1_asks_L17 x0 N x1 x2 m0 = some (r, mF) → fk_W E 4 n m0 0 0 17 [(0, tR x0), (1, tI x1), (2, tI x2)] [] := by
  intro N
  induction N with
  | zero =>
    intro x1 x2 m0 hf
    have hf : (none : Option (Int32 × fk_M)) = some _ := hf
    cases hf
  | succ N ih =>
    intro x1 x2 m0 hf
    rw [f_X1_asks_L17] at hf
    refine fk_iload_n X 2 dX1_asks_17 rfl ?_
    refine fk_aload_n X 0 dX1_asks_18 rfl ?_
    refine fk_getR' X fd_0_5 q195 dX1_asks_19 hf (fun z1 hf => ?_)
    refine fk_getI' X fd_4_3 q306 dX1_asks_22 hf (fun z2 hf => ?_)
    refine fk_icmp_ge' X 86 dX1_asks_25 rfl hf (fun hf => ?_) (fun hf => ?_)
    · refine fk_iload_n X 1 dX1_asks_86 rfl ?_
      cases hf
      exact fk_ireturn X Y dX1_asks_87 rfl
    · refine fk_aload_n X 0 dX1_asks_28 rfl ?_
      refine fk_getI' X fd_0_13 q203 dX1_asks_29 hf (fun z3 hf => ?_)
      refine fk_if_le' X 86 dX1_asks_32 rfl hf (fun hf => ?_) (fun hf => ?_)
      · refine fk_iload_n X 1 dX1_asks_86 rfl ?_
        cases hf
        exact fk_ireturn X Y dX1_asks_87 rfl
      · refine fk_aload_n X 0 dX1_asks_35 rfl ?_
        refine fk_getR' X fd_0_16 q206 dX1_asks_36 hf (fun z4 hf => ?_)
        refine fk_iload_n X 2 dX1_asks_39 rfl ?_
        refine fk_iaload' X dX1_asks_40 hf (fun z5 hf => ?_)
        refine fk_aload_n X 0 dX1_asks_41 rfl ?_
        refine fk_getI' X fd_0_13 q203 dX1_asks_42 hf (fun z6 hf => ?_)
        refine fk_aload_n X 0 dX1_asks_45 rfl ?_
        refine fk_getR' X fd_0_16 q206 dX1_asks_46 hf (fun z7 hf => ?_)
        refine fk_iload_n X 2 dX1_asks_49 rfl ?_
        refine fk_iaload' X dX1_asks_50 hf (fun z8 hf => ?_)
        refine fk_isub X dX1_asks_51 ?_
        refine fk_mmax X q1103 q421 q136 q422 dX1_asks_52 (by omega) (Nat.le_trans (Nat.le_of_ble_eq_true (rfl : Nat.ble (_ + 13) 40 = true)) (by omega)) (Nat.le_refl _) (Nat.le_refl _) ?_
        refine fk_istore_n X [(3, tI (i_max z5 (z6 - z8))), (0, tR x0), (1, tI x1), (2, tI x2)] dX1_asks_55 rfl rfl ?_
        refine fk_iload_n X 2 dX1_asks_56 rfl ?_
        refine fk_bipush (v := (-2)) X dX1_asks_57 rfl ?_
        refine fk_icmp_eq' X 73 dX1_asks_59 rfl hf (fun hf => ?_) (fun hf => ?_)
        · exact fk_cut' (w_X1_asks_J73 X Y x0 x2 (i_max z5 (z6 - z8)) m0 ih hf) [1, 3, 0] rfl
        · refine fk_iload_n X 0 dX1_asks_62 rfl ?_
          refine fk_aload_n X 1 dX1_asks_63 rfl ?_
          refine fk_getI' X fd_0_17 q207 dX1_asks_64 hf (fun z9 hf => ?_)
          refine fk_icmp_lt' X 73 dX1_asks_67 rfl hf (fun hf => ?_) (fun hf => ?_)
          · exact fk_cut' (w_X1_asks_J73 X Y x0 x2 (i_max z5 (z6 - z8)) m0 ih hf) [1, 3, 0] rfl
          · refine fk_goto X 80 dX1_asks_70 rfl ?_
            exact fk_cut' (w_X1_asks_J80 X Y x0 x1 x2 m0 ih hf) [1, 2, 3] rfl
def f_X1_asks (a0 : Option Nat) (m0 : fk_M) : Option (Int32 × fk_M) :=
  (isO m0 a0 0).bind fun u1 => bn2 (f_X1_fitting a0 (-1) m0) fun z2 m3 => (pV m3 a0 0 17 (tI (-2))).bind fun m4 => f_X1_asks_L17 a0 fk_fuel (-2) 0 m4
set_option maxHeartbeats 4000000 in
theorem c_X1_asks {l : Launch} {G : fk_G} {b0 : Nat} {n : Nat} {a0 : Option Nat} {m0 : fk_M} {r : Int32} {mF : fk_M} (hf : f_X1_asks a0 m0 = some (r, mF)) : fk_Ct l G b0 yX1_asks cX1_asks 4 (some .int) 9 244 [tR a0] n m0 (some (tI r)) n mF 0 0 := by
  refine fk_enter n_X1_asks.1 rfl ?_
  intro E X0 Y
  have X : fk_X E l G b0 "FigureKnee" "asks" cX1_asks 4 9 244 0 0 := X0
  show fk_W E 4 n m0 0 0 0 [(0, tR a0)] []
  unfold f_X1_asks at hf
  refine fk_aload_n X 0 dX1_asks_0 rfl ?_
  refine fk_iconst (v := (-1)) X dX1_asks_1 rfl ?_
  obtain ⟨u1, hq, hf⟩ := bI hf
  obtain ⟨z2, m3, hv, hf⟩ := bn2_eq hf
  refine fk_callV0I (ci := 0) (rest := []) X hq rfl (c_X1_fitting hv) n_X1_fitting q1193 q1195 qs40 q122 q1196 rfl dX1_asks_2 rfl rfl rfl rfl rfl (Nat.le_refl _) (Nat.le_refl _) ?_
  refine fk_pop X dX1_asks_5 rfl ?_
  refine fk_bipush (v := (-2)) X dX1_asks_6 rfl ?_
  refine fk_istore_n X [(1, tI (-2)), (0, tR a0)] dX1_asks_8 rfl rfl ?_
  refine fk_aload_n X 1 dX1_asks_9 rfl ?_
  refine fk_bipush (v := (-2)) X dX1_asks_10 rfl ?_
  refine fk_putI' X fd_0_17 q207 dX1_asks_12 (fit_I _) hf (fun m4 hf => ?_)
  refine fk_iconst (v := 0) X dX1_asks_15 rfl ?_
  refine fk_istore_n X [(2, tI 0), (1, tI (-2)), (0, tR a0)] dX1_asks_16 rfl rfl ?_
  exact fk_cut' (w_X1_asks_L17 X Y a0 fk_fuel (-2) 0 m4 hf) [2, 1, 0] rfl
/-! FigureKnee ask ()I -/
theorem n_X1_ask : fk_N yX1_ask 0 := ⟨by decide +kernel, by decide +kernel, by decide +kernel, by decide +kernel⟩
def f_X1_ask (a0 : Option Nat) (m0 : fk_M) : Option (Int32 × fk_M) :=
  (gR m0 a0 0 5).bind fun z1 => if z1 = none then ((isO m0 a0 0).bind fun u2 => bn2 (f_X1_refused a0 1 m0) fun z3 m4 => some (z3, m4)) else ((isO m0 a0 0).bind fun u5 => bn2 (f_X1_asks a0 m0) fun z6 m7 => (isO m7 a0 0).bind fun u8 => bn2 (f_X1_well a0 z6 m7) fun z9 m10 => some (z9, m10))
set_option maxHeartbeats 4000000 in
theorem c_X1_ask {l : Launch} {G : fk_G} {b0 : Nat} {n : Nat} {a0 : Option Nat} {m0 : fk_M} {r : Int32} {mF : fk_M} (hf : f_X1_ask a0 m0 = some (r, mF)) : fk_Ct l G b0 yX1_ask cX1_ask 1 (some .int) 10 267 [tR a0] n m0 (some (tI r)) n mF 0 0 := by
  refine fk_enter n_X1_ask.1 rfl ?_
  intro E X0 Y
  have X : fk_X E l G b0 "FigureKnee" "ask" cX1_ask 1 10 267 0 0 := X0
  show fk_W E 1 n m0 0 0 0 [(0, tR a0)] []
  unfold f_X1_ask at hf
  refine fk_aload_n X 0 dX1_ask_0 rfl ?_
  refine fk_getR' X fd_0_5 q195 dX1_ask_1 hf (fun z1 hf => ?_)
  refine fk_ifnonnull' X 15 dX1_ask_4 rfl hf (fun hf => ?_) (fun hf => ?_)
  · refine fk_aload_n X 0 dX1_ask_15 rfl ?_
    refine fk_aload_n X 0 dX1_ask_16 rfl ?_
    obtain ⟨u5, hq, hf⟩ := bI hf
    obtain ⟨z6, m7, hv, hf⟩ := bn2_eq hf
    refine fk_callV0I (ci := 0) (rest := [tR a0]) X hq rfl (c_X1_asks hv) n_X1_asks q1229 q1231 qs44 q122 q1232 rfl dX1_ask_17 rfl rfl rfl rfl rfl (Nat.le_refl _) (Nat.le_refl _) ?_
    obtain ⟨u8, hq, hf⟩ := bI hf
    obtain ⟨z9, m10, hv, hf⟩ := bn2_eq hf
    refine fk_callV0I (ci := 0) (rest := []) X hq rfl (c_X1_well hv) n_X1_well q1001 q1003 qs25 q122 q1004 rfl dX1_ask_20 rfl rfl rfl rfl rfl (Nat.le_refl _) (Nat.le_refl _) ?_
    cases hf
    exact fk_ireturn X Y dX1_ask_23 rfl
  · refine fk_aload_n X 0 dX1_ask_7 rfl ?_
    refine fk_iconst (v := 1) X dX1_ask_8 rfl ?_
    obtain ⟨u2, hq, hf⟩ := bI hf
    obtain ⟨z3, m4, hv, hf⟩ := bn2_eq hf
    refine fk_callV0I (ci := 0) (rest := []) X hq rfl (c_X1_refused hv) n_X1_refused q264 q266 qs0 q122 q267 rfl dX1_ask_9 rfl rfl rfl rfl rfl (Nat.le_refl _) (Nat.le_refl _) ?_
    refine fk_goto X 23 dX1_ask_12 rfl ?_
    cases hf
    exact fk_ireturn X Y dX1_ask_23 rfl
/-! FigureKnee askLeaves ()I -/
theorem n_X1_askLeaves : fk_N yX1_askLeaves 0 := ⟨by decide +kernel, by decide +kernel, by decide +kernel, by decide +kernel⟩
def f_X1_askLeaves (a0 : Option Nat) (m0 : fk_M) : Option (Int32 × fk_M) :=
  (gR m0 a0 0 5).bind fun z1 => if z1 = none then ((isO m0 a0 0).bind fun u2 => bn2 (f_X1_refused a0 1 m0) fun z3 m4 => some (z3, m4)) else ((isO m0 a0 0).bind fun u5 => bn2 (f_X1_asks a0 m0) fun z6 m7 => (gI m7 a0 0 17).bind fun z8 => (isO m7 a0 0).bind fun u9 => bn2 (f_X1_well a0 z8 m7) fun z10 m11 => some (z10, m11))
set_option maxHeartbeats 4000000 in
theorem c_X1_askLeaves {l : Launch} {G : fk_G} {b0 : Nat} {n : Nat} {a0 : Option Nat} {m0 : fk_M} {r : Int32} {mF : fk_M} (hf : f_X1_askLeaves a0 m0 = some (r, mF)) : fk_Ct l G b0 yX1_askLeaves cX1_askLeaves 1 (some .int) 10 267 [tR a0] n m0 (some (tI r)) n mF 0 0 := by
  refine fk_enter n_X1_askLeaves.1 rfl ?_
  intro E X0 Y
  have X : fk_X E l G b0 "FigureKnee" "askLeaves" cX1_askLeaves 1 10 267 0 0 := X0
  show fk_W E 1 n m0 0 0 0 [(0, tR a0)] []
  unfold f_X1_askLeaves at hf
  refine fk_aload_n X 0 dX1_askLeaves_0 rfl ?_
  refine fk_getR' X fd_0_5 q195 dX1_askLeaves_1 hf (fun z1 hf => ?_)
  refine fk_ifnonnull' X 13 dX1_askLeaves_4 rfl hf (fun hf => ?_) (fun hf => ?_)
  · refine fk_aload_n X 0 dX1_askLeaves_13 rfl ?_
    obtain ⟨u5, hq, hf⟩ := bI hf
    obtain ⟨z6, m7, hv, hf⟩ := bn2_eq hf
    refine fk_callV0I (ci := 0) (rest := []) X hq rfl (c_X1_asks hv) n_X1_asks q1229 q1231 qs44 q122 q1232 rfl dX1_askLeaves_14 rfl rfl rfl rfl rfl (Nat.le_refl _) (Nat.le_refl _) ?_
    refine fk_pop X dX1_askLeaves_17 rfl ?_
    refine fk_aload_n X 0 dX1_askLeaves_18 rfl ?_
    refine fk_aload_n X 0 dX1_askLeaves_19 rfl ?_
    refine fk_getI' X fd_0_17 q207 dX1_askLeaves_20 hf (fun z8 hf => ?_)
    obtain ⟨u9, hq, hf⟩ := bI hf
    obtain ⟨z10, m11, hv, hf⟩ := bn2_eq hf
    refine fk_callV0I (ci := 0) (rest := []) X hq rfl (c_X1_well hv) n_X1_well q1001 q1003 qs25 q122 q1004 rfl dX1_askLeaves_23 rfl rfl rfl rfl rfl (Nat.le_refl _) (Nat.le_refl _) ?_
    cases hf
    exact fk_ireturn X Y dX1_askLeaves_26 rfl
  · refine fk_aload_n X 0 dX1_askLeaves_7 rfl ?_
    refine fk_iconst (v := 1) X dX1_askLeaves_8 rfl ?_
    obtain ⟨u2, hq, hf⟩ := bI hf
    obtain ⟨z3, m4, hv, hf⟩ := bn2_eq hf
    refine fk_callV0I (ci := 0) (rest := []) X hq rfl (c_X1_refused hv) n_X1_refused q264 q266 qs0 q122 q267 rfl dX1_askLeaves_9 rfl rfl rfl rfl rfl (Nat.le_refl _) (Nat.le_refl _) ?_
    cases hf
    exact fk_ireturn X Y dX1_askLeaves_12 rfl
/-! FigureKnee judge ()I -/
theorem n_X1_judge : fk_N yX1_judge 0 := ⟨by decide +kernel, by decide +kernel, by decide +kernel, by decide +kernel⟩
def f_X1_judge (a0 : Option Nat) (m0 : fk_M) : Option (Int32 × fk_M) :=
  (gR m0 a0 0 5).bind fun z1 => if z1 = none then ((isO m0 a0 0).bind fun u2 => bn2 (f_X1_refused a0 1 m0) fun z3 m4 => some (z3, m4)) else ((isO m0 a0 0).bind fun u5 => (f_X1_wrongHeard a0 0 m0).bind fun z6 => (isO m0 a0 0).bind fun u7 => bn2 (f_X1_well a0 z6 m0) fun z8 m9 => some (z8, m9))
set_option maxHeartbeats 4000000 in
theorem c_X1_judge {l : Launch} {G : fk_G} {b0 : Nat} {n : Nat} {a0 : Option Nat} {m0 : fk_M} {r : Int32} {mF : fk_M} (hf : f_X1_judge a0 m0 = some (r, mF)) : fk_Ct l G b0 yX1_judge cX1_judge 1 (some .int) 8 220 [tR a0] n m0 (some (tI r)) n mF 0 0 := by
  refine fk_enter n_X1_judge.1 rfl ?_
  intro E X0 Y
  have X : fk_X E l G b0 "FigureKnee" "judge" cX1_judge 1 8 220 0 0 := X0
  show fk_W E 1 n m0 0 0 0 [(0, tR a0)] []
  unfold f_X1_judge at hf
  refine fk_aload_n X 0 dX1_judge_0 rfl ?_
  refine fk_getR' X fd_0_5 q195 dX1_judge_1 hf (fun z1 hf => ?_)
  refine fk_ifnonnull' X 15 dX1_judge_4 rfl hf (fun hf => ?_) (fun hf => ?_)
  · refine fk_aload_n X 0 dX1_judge_15 rfl ?_
    refine fk_aload_n X 0 dX1_judge_16 rfl ?_
    refine fk_iconst (v := 0) X dX1_judge_17 rfl ?_
    obtain ⟨u5, hq, hf⟩ := bI hf
    obtain ⟨z6, hv, hf⟩ := bI hf
    refine fk_callV0I (ci := 0) (rest := [tR a0]) X hq rfl (c_X1_wrongHeard hv) n_X1_wrongHeard q1197 q1199 qs41 q122 q1200 rfl dX1_judge_18 rfl rfl rfl rfl rfl (Nat.le_refl _) (Nat.le_refl _) ?_
    obtain ⟨u7, hq, hf⟩ := bI hf
    obtain ⟨z8, m9, hv, hf⟩ := bn2_eq hf
    refine fk_callV0I (ci := 0) (rest := []) X hq rfl (c_X1_well hv) n_X1_well q1001 q1003 qs25 q122 q1004 rfl dX1_judge_21 rfl rfl rfl rfl rfl (Nat.le_refl _) (Nat.le_refl _) ?_
    cases hf
    exact fk_ireturn X Y dX1_judge_24 rfl
  · refine fk_aload_n X 0 dX1_judge_7 rfl ?_
    refine fk_iconst (v := 1) X dX1_judge_8 rfl ?_
    obtain ⟨u2, hq, hf⟩ := bI hf
    obtain ⟨z3, m4, hv, hf⟩ := bn2_eq hf
    refine fk_callV0I (ci := 0) (rest := []) X hq rfl (c_X1_refused hv) n_X1_refused q264 q266 qs0 q122 q267 rfl dX1_judge_9 rfl rfl rfl rfl rfl (Nat.le_refl _) (Nat.le_refl _) ?_
    refine fk_goto X 24 dX1_judge_12 rfl ?_
    cases hf
    exact fk_ireturn X Y dX1_judge_24 rfl
/-! FigureKnee third (I)I -/
theorem n_X1_third : fk_N yX1_third 1 := ⟨by decide +kernel, by decide +kernel, by decide +kernel, by decide +kernel⟩
def f_X1_third_J82 (R18 : Int32 → Int32 → Option (Int32 × fk_M)) (x0 : Option Nat) (x1 : Int32) (x3 : Int32) (y0 : Int32) (y1 : Int32) (m0 : fk_M) : Option (Int32 × fk_M) :=
  R18 (y1 + y0) (x3 + 1)
set_option maxHeartbeats 4000000 in
theorem w_X1_third_J82 {E : fk_E} {l : Launch} {G : fk_G} {b0 n : Nat} {r : Int32} {mF : fk_M} (X : fk_X E l G b0 "FigureKnee" "third" cX1_third 5 7 197 0 0) (Y : fk_Y E (some .int) (some (tI r)) n mF 0 0) (x0 : Option Nat) (x1 : Int32) (x3 : Int32) (y0 : Int32) (y1 : Int32) (m0 : fk_M) {R18 : Int32 → Int32 → Option (Int32 × fk_M)} (hR18 : ∀ (v2 : Int32) (v3 : Int32), R18 v2 v3 = some (r, mF) → fk_W E 5 n m0 0 0 18 [(0, tR x0), (1, tI x1), (2, tI v2), (3, tI v3)] []) (hf : f_X1_third_J82 R18 x0 x1 x3 y0 y1 m0 = some (r, mF)) : fk_W E 5 n m0 0 0 82 [(0, tR x0), (1, tI x1), (3, tI x3)] [tI y0, tI y1] := by
  unfold f_X1_third_J82 at hf
  refine fk_iadd X dX1_third_82 ?_
  refine fk_istore_n X [(2, tI (y1 + y0)), (0, tR x0), (1, tI x1), (3, tI x3)] dX1_third_83 rfl rfl ?_
  refine fk_iinc X 3 [(3, tI (x3 + 1)), (2, tI (y1 + y0)), (0, tR x0), (1, tI x1)] dX1_third_84 rfl rfl rfl rfl ?_
  refine fk_goto X 18 dX1_third_87 rfl ?_
  exact fk_cut' (hR18 (y1 + y0) (x3 + 1)  hf) [2, 3, 1, 0] rfl
def f_X1_third_L18 (x0 : Option Nat) (x1 : Int32) (m0 : fk_M) : Nat → Int32 → Int32 → Option (Int32 × fk_M)
  | 0, _, _ => none
  | N + 1, x2, x3 =>
  (gR m0 x0 0 5).bind fun z1 => (gR m0 z1 4 6).bind fun z2 => (isO m0 z2 14).bind fun u3 => (f_J2_size z2 m0).bind fun z4 => if z4 ≤ x3 then ((isO m0 x0 0).bind fun u5 => bn2 (f_X1_well x0 x2 m0) fun z6 m7 => some (z6, m7)) else ((gR m0 x0 0 5).bind fun z8 => (gR m0 z8 4 6).bind fun z9 => (isO m0 z9 14).bind fun u10 => (f_J2_get z9 x3 m0).bind fun z11 => (cst m0 z11 12).bind fun _ => (gI m0 z11 12 0).bind fun z12 => if z12 = x1 then ((gI m0 z11 12 2).bind fun z13 => (gI m0 z11 12 1).bind fun z14 => (isO m0 x0 0).bind fun u15 => (f_X1_saidAt x0 x1 z14 0 m0).bind fun z16 => f_X1_third_J82 (f_X1_third_L18 x0 x1 m0 N) x0 x1 x3 (i_abs (z13 - z16)) x2 m0) else (f_X1_third_J82 (f_X1_third_L18 x0 x1 m0 N) x0 x1 x3 0 x2 m0))
set_option maxHeartbeats 4000000 in
theorem w_X1_third_L18 {E : fk_E} {l : Launch} {G : fk_G} {b0 n : Nat} {r : Int32} {mF : fk_M} (X : fk_X E l G b0 "FigureKnee" "third" cX1_third 5 7 197 0 0) (Y : fk_Y E (some .int) (some (tI r)) n mF 0 0) (x0 : Option Nat) (x1 : Int32) (m0 : fk_M) : ∀ (N : Nat) (x2 : Int32) (x3 : Int32), f_X1_third_L18 x0 x1 m0 N x2 x3 = some (r, mF) → fk_W E 5 n m0 0 0 18 [(0, tR x0), (1, tI x1), (2, tI x2), (3, tI x3)] [] := by
  intro N
  induction N with
  | zero =>
    intro x2 x3 hf
    have hf : (none : Option (Int32 × fk_M)) = some _ := hf
    cases hf
  | succ N ih =>
    intro x2 x3 hf
    rw [f_X1_third_L18] at hf
    refine fk_iload_n X 3 dX1_third_18 rfl ?_
    refine fk_aload_n X 0 dX1_third_19 rfl ?_
    refine fk_getR' X fd_0_5 q195 dX1_third_20 hf (fun z1 hf => ?_)
    refine fk_getR' X fd_4_6 q317 dX1_third_23 hf (fun z2 hf => ?_)
    obtain ⟨u3, hq, hf⟩ := bI hf
    obtain ⟨z4, hv, hf⟩ := bI hf
    refine fk_callV0I (ci := 14) (rest := [tI x3]) X hq rfl (c_J2_size hv) n_J2_size q1000 q699 q700 q125 q701 rfl dX1_third_26 rfl rfl rfl rfl rfl (Nat.le_refl _) (Nat.le_refl _) ?_
    refine fk_icmp_ge' X 90 dX1_third_29 rfl hf (fun hf => ?_) (fun hf => ?_)
    · refine fk_aload_n X 0 dX1_third_90 rfl ?_
      refine fk_iload_n X 2 dX1_third_91 rfl ?_
      obtain ⟨u5, hq, hf⟩ := bI hf
      obtain ⟨z6, m7, hv, hf⟩ := bn2_eq hf
      refine fk_callV0I (ci := 0) (rest := []) X hq rfl (c_X1_well hv) n_X1_well q1001 q1003 qs25 q122 q1004 rfl dX1_third_92 rfl rfl rfl rfl rfl (Nat.le_refl _) (Nat.le_refl _) ?_
      cases hf
      exact fk_ireturn X Y dX1_third_95 rfl
    · refine fk_aload_n X 0 dX1_third_32 rfl ?_
      refine fk_getR' X fd_0_5 q195 dX1_third_33 hf (fun z8 hf => ?_)
      refine fk_getR' X fd_4_6 q317 dX1_third_36 hf (fun z9 hf => ?_)
      refine fk_iload_n X 3 dX1_third_39 rfl ?_
      obtain ⟨u10, hq, hf⟩ := bI hf
      obtain ⟨z11, hv, hf⟩ := bI hf
      refine fk_callV0R (ci := 14) (rest := []) X hq rfl (c_J2_get hv) n_J2_get q1025 q723 q724 q125 q725 rfl dX1_third_40 rfl rfl rfl rfl rfl (Nat.le_refl _) (Nat.le_refl _) ?_
      refine fk_cast' (ci := 12) X rfl q1201 dX1_third_43 hf (fun hf => ?_)
      refine fk_astore X [(4, tR z11), (0, tR x0), (1, tI x1), (2, tI x2), (3, tI x3)] dX1_third_46 rfl rfl ?_
      refine fk_iload_n X 3 dX1_third_48 rfl ?_
      refine fk_aload X 0 dX1_third_49 rfl ?_
      refine fk_getI' X fd_12_0 q937 dX1_third_51 hf (fun z12 hf => ?_)
      refine fk_iload_n X 2 dX1_third_54 rfl ?_
      refine fk_icmp_ne' X 81 dX1_third_55 rfl hf (fun hf => ?_) (fun hf => ?_)
      · refine fk_iconst (v := 0) X dX1_third_81 rfl ?_
        exact fk_cut' (w_X1_third_J82 X Y x0 x1 x3 0 x2 m0 ih hf) [1, 2, 4] rfl
      · refine fk_aload X 0 dX1_third_58 rfl ?_
        refine fk_getI' X fd_12_2 q942 dX1_third_60 hf (fun z13 hf => ?_)
        refine fk_aload_n X 1 dX1_third_63 rfl ?_
        refine fk_iload_n X 2 dX1_third_64 rfl ?_
        refine fk_aload X 0 dX1_third_65 rfl ?_
        refine fk_getI' X fd_12_1 q940 dX1_third_67 hf (fun z14 hf => ?_)
        refine fk_iconst (v := 0) X dX1_third_70 rfl ?_
        obtain ⟨u15, hq, hf⟩ := bI hf
        obtain ⟨z16, hv, hf⟩ := bI hf
        refine fk_callV0I (ci := 0) (rest := [tI z13, tI x2]) X hq rfl (c_X1_saidAt hv) n_X1_saidAt q1202 q1204 qs42 q122 q1205 rfl dX1_third_71 rfl rfl rfl rfl rfl (Nat.le_refl _) (Nat.le_refl _) ?_
        refine fk_isub X dX1_third_74 ?_
        refine fk_mabs X q1154 q1155 q136 q1156 dX1_third_75 (by omega) (Nat.le_trans (Nat.le_of_ble_eq_true (rfl : Nat.ble (_ + 13) 40 = true)) (by omega)) (Nat.le_refl _) (Nat.le_refl _) ?_
        refine fk_goto X 82 dX1_third_78 rfl ?_
        exact fk_cut' (w_X1_third_J82 X Y x0 x1 x3 (i_abs (z13 - z16)) x2 m0 ih hf) [1, 2, 4] rfl
def f_X1_third (a0 : Option Nat) (a1 : Int32) (m0 : fk_M) : Option (Int32 × fk_M) :=
  (isO m0 a0 0).bind fun u1 => (f_X1_isPair a0 a1 m0).bind fun z2 => if z2 = 0 then ((isO m0 a0 0).bind fun u3 => bn2 (f_X1_refused a0 1 m0) fun z4 m5 => some (z4, m5)) else (f_X1_third_L18 a0 a1 m0 fk_fuel 0 0)
set_option maxHeartbeats 4000000 in
theorem c_X1_third {l : Launch} {G : fk_G} {b0 : Nat} {n : Nat} {a0 : Option Nat} {a1 : Int32} {m0 : fk_M} {r : Int32} {mF : fk_M} (hf : f_X1_third a0 a1 m0 = some (r, mF)) : fk_Ct l G b0 yX1_third cX1_third 5 (some .int) 7 197 [tR a0, tI a1] n m0 (some (tI r)) n mF 0 0 := by
  refine fk_enter n_X1_third.1 rfl ?_
  intro E X0 Y
  have X : fk_X E l G b0 "FigureKnee" "third" cX1_third 5 7 197 0 0 := X0
  show fk_W E 5 n m0 0 0 0 [(0, tR a0), (1, tI a1)] []
  unfold f_X1_third at hf
  refine fk_aload_n X 0 dX1_third_0 rfl ?_
  refine fk_iload_n X 1 dX1_third_1 rfl ?_
  obtain ⟨u1, hq, hf⟩ := bI hf
  obtain ⟨z2, hv, hf⟩ := bI hf
  refine fk_callV0I (ci := 0) (rest := []) X hq rfl (c_X1_isPair hv) n_X1_isPair q1017 q1019 qs26 q122 q1020 rfl dX1_third_2 rfl rfl rfl rfl rfl (Nat.le_refl _) (Nat.le_refl _) ?_
  refine fk_if_ne' X 14 dX1_third_5 rfl hf (fun hf => ?_) (fun hf => ?_)
  · refine fk_iconst (v := 0) X dX1_third_14 rfl ?_
    refine fk_istore_n X [(2, tI 0), (0, tR a0), (1, tI a1)] dX1_third_15 rfl rfl ?_
    refine fk_iconst (v := 0) X dX1_third_16 rfl ?_
    refine fk_istore_n X [(3, tI 0), (2, tI 0), (0, tR a0), (1, tI a1)] dX1_third_17 rfl rfl ?_
    exact fk_cut' (w_X1_third_L18 X Y a0 a1 m0 fk_fuel 0 0 hf) [2, 3, 1, 0] rfl
  · refine fk_aload_n X 0 dX1_third_8 rfl ?_
    refine fk_iconst (v := 1) X dX1_third_9 rfl ?_
    obtain ⟨u3, hq, hf⟩ := bI hf
    obtain ⟨z4, m5, hv, hf⟩ := bn2_eq hf
    refine fk_callV0I (ci := 0) (rest := []) X hq rfl (c_X1_refused hv) n_X1_refused q264 q266 qs0 q122 q267 rfl dX1_third_10 rfl rfl rfl rfl rfl (Nat.le_refl _) (Nat.le_refl _) ?_
    cases hf
    exact fk_ireturn X Y dX1_third_13 rfl
/-! FigureKnee owed (II)I -/
theorem n_X1_owed : fk_N yX1_owed 2 := ⟨by decide +kernel, by decide +kernel, by decide +kernel, by decide +kernel⟩
def f_X1_owed (a0 : Option Nat) (a1 : Int32) (a2 : Int32) (m : fk_M) : Option Int32 :=
  (gR m a0 0 6).bind fun z1 => (gR m z1 13 3).bind fun z2 => (aI m z2 2 ((5 * a1) + a2)).bind fun z3 => some z3
set_option maxHeartbeats 4000000 in
theorem c_X1_owed {l : Launch} {G : fk_G} {b0 : Nat} {n : Nat} {a0 : Option Nat} {a1 : Int32} {a2 : Int32} {m : fk_M} {r : Int32} (hf : f_X1_owed a0 a1 a2 m = some r) : fk_Ct l G b0 yX1_owed cX1_owed 3 (some .int) 1 60 [tR a0, tI a1, tI a2] n m (some (tI r)) n m 0 0 := by
  refine fk_enter n_X1_owed.1 rfl ?_
  intro E X0 Y
  have X : fk_X E l G b0 "FigureKnee" "owed" cX1_owed 3 1 60 0 0 := X0
  show fk_W E 3 n m 0 0 0 [(0, tR a0), (1, tI a1), (2, tI a2)] []
  unfold f_X1_owed at hf
  refine fk_aload_n X 0 dX1_owed_0 rfl ?_
  refine fk_getR' X fd_0_6 q196 dX1_owed_1 hf (fun z1 hf => ?_)
  refine fk_getR' X fd_13_3 q970 dX1_owed_4 hf (fun z2 hf => ?_)
  refine fk_iconst (v := 5) X dX1_owed_7 rfl ?_
  refine fk_iload_n X 1 dX1_owed_8 rfl ?_
  refine fk_imul X dX1_owed_9 ?_
  refine fk_iload_n X 2 dX1_owed_10 rfl ?_
  refine fk_iadd X dX1_owed_11 ?_
  refine fk_saload' X dX1_owed_12 hf (fun z3 hf => ?_)
  cases hf
  exact fk_ireturn X Y dX1_owed_13 rfl
