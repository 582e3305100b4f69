set_option maxRecDepth 100000
/-! FigureKneeModel could ()I -/
theorem n_X2_could : fk_N yX2_could 0 := ⟨by decide +kernel, by decide +kernel, by decide +kernel, by decide +kernel⟩
def f_X2_could (a0 : Option Nat) (m0 : fk_M) : Option (Int32 × fk_M) :=
  (isO m0 a0 1).bind fun u1 => (f_X2_good a0 m0).bind fun m2 => (gI m2 a0 1 14).bind fun z3 => if z3 = 0 then ((isO m2 a0 1).bind fun u4 => bn2 (f_X2_no a0 1 m2) fun z5 m6 => some (z5, m6)) else ((isO m2 a0 1).bind fun u7 => bn2 (f_X2_seekSets a0 (-1) m2) fun z8 m9 => (gI m9 a0 1 32).bind fun z10 => some (z10, m9))
set_option maxHeartbeats 4000000 in
theorem c_X2_could {l : Launch} {G : fk_G} {b0 : Nat} {n : Nat} {a0 : Option Nat} {m0 : fk_M} {r : Int32} {mF : fk_M} (hf : f_X2_could a0 m0 = some (r, mF)) : fk_Ct l G b0 yX2_could cX2_could 1 (some .int) 7 203 [tR a0] n m0 (some (tI r)) n mF 0 0 := by
  refine fk_enter n_X2_could.1 rfl ?_
  intro E X0 Y
  have X : fk_X E l G b0 "FigureKneeModel" "could" cX2_could 1 7 203 0 0 := X0
  show fk_W E 1 n m0 0 0 0 [(0, tR a0)] []
  unfold f_X2_could at hf
  refine fk_aload_n X 0 dX2_could_0 rfl ?_
  obtain ⟨u1, hq, hf⟩ := bI hf
  obtain ⟨m2, hv, hf⟩ := bI hf
  refine fk_callV0V (ci := 1) (rest := []) X hq rfl (c_X2_good hv) n_X2_good q1665 q1667 qs63 q126 q1668 rfl dX2_could_1 rfl rfl rfl rfl rfl (Nat.le_refl _) (Nat.le_refl _) ?_
  refine fk_aload_n X 0 dX2_could_4 rfl ?_
  refine fk_getI' X fd_1_14 q1540 dX2_could_5 hf (fun z3 hf => ?_)
  refine fk_if_ne' X 17 dX2_could_8 rfl hf (fun hf => ?_) (fun hf => ?_)
  · refine fk_aload_n X 0 dX2_could_17 rfl ?_
    refine fk_iconst (v := (-1)) X dX2_could_18 rfl ?_
    obtain ⟨u7, hq, hf⟩ := bI hf
    obtain ⟨z8, m9, hv, hf⟩ := bn2_eq hf
    refine fk_callV0I (ci := 1) (rest := []) X hq rfl (c_X2_seekSets hv) n_X2_seekSets q1969 q1971 qs103 q126 q1972 rfl dX2_could_19 rfl rfl rfl rfl rfl (Nat.le_refl _) (Nat.le_refl _) ?_
    refine fk_pop X dX2_could_22 rfl ?_
    refine fk_aload_n X 0 dX2_could_23 rfl ?_
    refine fk_getI' X fd_1_32 q1558 dX2_could_24 hf (fun z10 hf => ?_)
    cases hf
    exact fk_ireturn X Y dX2_could_27 rfl
  · refine fk_aload_n X 0 dX2_could_11 rfl ?_
    refine fk_iconst (v := 1) X dX2_could_12 rfl ?_
    obtain ⟨u4, hq, hf⟩ := bI hf
    obtain ⟨z5, m6, hv, hf⟩ := bn2_eq hf
    refine fk_callV0I (ci := 1) (rest := []) X hq rfl (c_X2_no hv) n_X2_no q1672 q1674 qs64 q126 q1675 rfl dX2_could_13 rfl rfl rfl rfl rfl (Nat.le_refl _) (Nat.le_refl _) ?_
    cases hf
    exact fk_ireturn X Y dX2_could_16 rfl
/-! FigureKneeModel surely ()I -/
theorem n_X2_surely : fk_N yX2_surely 0 := ⟨by decide +kernel, by decide +kernel, by decide +kernel, by decide +kernel⟩
def f_X2_surely (a0 : Option Nat) (m0 : fk_M) : Option (Int32 × fk_M) :=
  (isO m0 a0 1).bind fun u1 => (f_X2_good a0 m0).bind fun m2 => (gI m2 a0 1 14).bind fun z3 => if z3 = 0 then ((isO m2 a0 1).bind fun u4 => bn2 (f_X2_no a0 1 m2) fun z5 m6 => some (z5, m6)) else ((isO m2 a0 1).bind fun u7 => bn2 (f_X2_seekSets a0 (-1) m2) fun z8 m9 => (gI m9 a0 1 33).bind fun z10 => some (z10, m9))
set_option maxHeartbeats 4000000 in
theorem c_X2_surely {l : Launch} {G : fk_G} {b0 : Nat} {n : Nat} {a0 : Option Nat} {m0 : fk_M} {r : Int32} {mF : fk_M} (hf : f_X2_surely a0 m0 = some (r, mF)) : fk_Ct l G b0 yX2_surely cX2_surely 1 (some .int) 7 203 [tR a0] n m0 (some (tI r)) n mF 0 0 := by
  refine fk_enter n_X2_surely.1 rfl ?_
  intro E X0 Y
  have X : fk_X E l G b0 "FigureKneeModel" "surely" cX2_surely 1 7 203 0 0 := X0
  show fk_W E 1 n m0 0 0 0 [(0, tR a0)] []
  unfold f_X2_surely at hf
  refine fk_aload_n X 0 dX2_surely_0 rfl ?_
  obtain ⟨u1, hq, hf⟩ := bI hf
  obtain ⟨m2, hv, hf⟩ := bI hf
  refine fk_callV0V (ci := 1) (rest := []) X hq rfl (c_X2_good hv) n_X2_good q1665 q1667 qs63 q126 q1668 rfl dX2_surely_1 rfl rfl rfl rfl rfl (Nat.le_refl _) (Nat.le_refl _) ?_
  refine fk_aload_n X 0 dX2_surely_4 rfl ?_
  refine fk_getI' X fd_1_14 q1540 dX2_surely_5 hf (fun z3 hf => ?_)
  refine fk_if_ne' X 17 dX2_surely_8 rfl hf (fun hf => ?_) (fun hf => ?_)
  · refine fk_aload_n X 0 dX2_surely_17 rfl ?_
    refine fk_iconst (v := (-1)) X dX2_surely_18 rfl ?_
    obtain ⟨u7, hq, hf⟩ := bI hf
    obtain ⟨z8, m9, hv, hf⟩ := bn2_eq hf
    refine fk_callV0I (ci := 1) (rest := []) X hq rfl (c_X2_seekSets hv) n_X2_seekSets q1969 q1971 qs103 q126 q1972 rfl dX2_surely_19 rfl rfl rfl rfl rfl (Nat.le_refl _) (Nat.le_refl _) ?_
    refine fk_pop X dX2_surely_22 rfl ?_
    refine fk_aload_n X 0 dX2_surely_23 rfl ?_
    refine fk_getI' X fd_1_33 q1559 dX2_surely_24 hf (fun z10 hf => ?_)
    cases hf
    exact fk_ireturn X Y dX2_surely_27 rfl
  · refine fk_aload_n X 0 dX2_surely_11 rfl ?_
    refine fk_iconst (v := 1) X dX2_surely_12 rfl ?_
    obtain ⟨u4, hq, hf⟩ := bI hf
    obtain ⟨z5, m6, hv, hf⟩ := bn2_eq hf
    refine fk_callV0I (ci := 1) (rest := []) X hq rfl (c_X2_no hv) n_X2_no q1672 q1674 qs64 q126 q1675 rfl dX2_surely_13 rfl rfl rfl rfl rfl (Nat.le_refl _) (Nat.le_refl _) ?_
    cases hf
    exact fk_ireturn X Y dX2_surely_16 rfl
/-! FigureKneeModel leavesOf (I)I -/
theorem n_X2_leavesOf : fk_N yX2_leavesOf 1 := ⟨by decide +kernel, by decide +kernel, by decide +kernel, by decide +kernel⟩
def f_X2_leavesOf (a0 : Option Nat) (a1 : Int32) (m : fk_M) : Option Int32 :=
  (gR m a0 1 30).bind fun z1 => (aI m z1 0 a1).bind fun z2 => (gI m a0 1 31).bind fun z3 => (gR m a0 1 30).bind fun z4 => (aI m z4 0 a1).bind fun z5 => if z2 ≤ (z3 - z5) then ((gI m a0 1 31).bind fun z6 => (gR m a0 1 30).bind fun z7 => (aI m z7 0 a1).bind fun z8 => some (z6 - z8)) else ((gR m a0 1 30).bind fun z9 => (aI m z9 0 a1).bind fun z10 => some z10)
set_option maxHeartbeats 4000000 in
theorem c_X2_leavesOf {l : Launch} {G : fk_G} {b0 : Nat} {n : Nat} {a0 : Option Nat} {a1 : Int32} {m : fk_M} {r : Int32} (hf : f_X2_leavesOf a0 a1 m = some r) : fk_Ct l G b0 yX2_leavesOf cX2_leavesOf 2 (some .int) 1 60 [tR a0, tI a1] n m (some (tI r)) n m 0 0 := by
  refine fk_enter n_X2_leavesOf.1 rfl ?_
  intro E X0 Y
  have X : fk_X E l G b0 "FigureKneeModel" "leavesOf" cX2_leavesOf 2 1 60 0 0 := X0
  show fk_W E 2 n m 0 0 0 [(0, tR a0), (1, tI a1)] []
  unfold f_X2_leavesOf at hf
  refine fk_aload_n X 0 dX2_leavesOf_0 rfl ?_
  refine fk_getR' X fd_1_30 q1556 dX2_leavesOf_1 hf (fun z1 hf => ?_)
  refine fk_iload_n X 1 dX2_leavesOf_4 rfl ?_
  refine fk_iaload' X dX2_leavesOf_5 hf (fun z2 hf => ?_)
  refine fk_aload_n X 0 dX2_leavesOf_6 rfl ?_
  refine fk_getI' X fd_1_31 q1557 dX2_leavesOf_7 hf (fun z3 hf => ?_)
  refine fk_aload_n X 0 dX2_leavesOf_10 rfl ?_
  refine fk_getR' X fd_1_30 q1556 dX2_leavesOf_11 hf (fun z4 hf => ?_)
  refine fk_iload_n X 1 dX2_leavesOf_14 rfl ?_
  refine fk_iaload' X dX2_leavesOf_15 hf (fun z5 hf => ?_)
  refine fk_isub X dX2_leavesOf_16 ?_
  refine fk_icmp_le' X 29 dX2_leavesOf_17 rfl hf (fun hf => ?_) (fun hf => ?_)
  · refine fk_aload_n X 0 dX2_leavesOf_29 rfl ?_
    refine fk_getI' X fd_1_31 q1557 dX2_leavesOf_30 hf (fun z6 hf => ?_)
    refine fk_aload_n X 0 dX2_leavesOf_33 rfl ?_
    refine fk_getR' X fd_1_30 q1556 dX2_leavesOf_34 hf (fun z7 hf => ?_)
    refine fk_iload_n X 1 dX2_leavesOf_37 rfl ?_
    refine fk_iaload' X dX2_leavesOf_38 hf (fun z8 hf => ?_)
    refine fk_isub X dX2_leavesOf_39 ?_
    cases hf
    exact fk_ireturn X Y dX2_leavesOf_40 rfl
  · refine fk_aload_n X 0 dX2_leavesOf_20 rfl ?_
    refine fk_getR' X fd_1_30 q1556 dX2_leavesOf_21 hf (fun z9 hf => ?_)
    refine fk_iload_n X 1 dX2_leavesOf_24 rfl ?_
    refine fk_iaload' X dX2_leavesOf_25 hf (fun z10 hf => ?_)
    refine fk_goto X 40 dX2_leavesOf_26 rfl ?_
    cases hf
    exact fk_ireturn X Y dX2_leavesOf_40 rfl
/-! FigureKneeModel askOf ()I -/
theorem n_X2_askOf : fk_N yX2_askOf 0 := ⟨by decide +kernel, by decide +kernel, by decide +kernel, by decide +kernel⟩
def f_X2_askOf_J47 (R11 : Int32 → Int32 → Option (Int32 × fk_M)) (x0 : Option Nat) (x1 : Int32) (x2 : Int32) (m0 : fk_M) : Option (Int32 × fk_M) :=
  R11 x1 (x2 + 1)
set_option maxHeartbeats 4000000 in
theorem w_X2_askOf_J47 {E : fk_E} {l : Launch} {G : fk_G} {b0 n : Nat} {r : Int32} {mF : fk_M} (X : fk_X E l G b0 "FigureKneeModel" "askOf" cX2_askOf 3 7 203 0 0) (Y : fk_Y E (some .int) (some (tI r)) n mF 0 0) (x0 : Option Nat) (x1 : Int32) (x2 : Int32)  (m0 : fk_M) {R11 : Int32 → Int32 → Option (Int32 × fk_M)} (hR11 : ∀ (v1 : Int32) (v2 : Int32), R11 v1 v2 = some (r, mF) → fk_W E 3 n m0 0 0 11 [(0, tR x0), (1, tI v1), (2, tI v2)] []) (hf : f_X2_askOf_J47 R11 x0 x1 x2 m0 = some (r, mF)) : fk_W E 3 n m0 0 0 47 [(0, tR x0), (1, tI x1), (2, tI x2)] [] := by
  unfold f_X2_askOf_J47 at hf
  refine fk_iinc X 2 [(2, tI (x2 + 1)), (0, tR x0), (1, tI x1)] dX2_askOf_47 rfl rfl rfl rfl ?_
  refine fk_goto X 11 dX2_askOf_50 rfl ?_
  exact fk_cut' (hR11 x1 (x2 + 1)  hf) [1, 2, 0] rfl
def f_X2_askOf_J45 (R11 : Int32 → Int32 → Option (Int32 × fk_M)) (x0 : Option Nat) (x2 : Int32) (m0 : fk_M) : Option (Int32 × fk_M) :=
  f_X2_askOf_J47 R11 x0 x2 x2 m0
set_option maxHeartbeats 4000000 in
theorem w_X2_askOf_J45 {E : fk_E} {l : Launch} {G : fk_G} {b0 n : Nat} {r : Int32} {mF : fk_M} (X : fk_X E l G b0 "FigureKneeModel" "askOf" cX2_askOf 3 7 203 0 0) (Y : fk_Y E (some .int) (some (tI r)) n mF 0 0) (x0 : Option Nat) (x2 : Int32)  (m0 : fk_M) {R11 : Int32 → Int32 → Option (Int32 × fk_M)} (hR11 : ∀ (v1 : Int32) (v2 : Int32), R11 v1 v2 = some (r, mF) → fk_W E 3 n m0 0 0 11 [(0, tR x0), (1, tI v1), (2, tI v2)] []) (hf : f_X2_askOf_J45 R11 x0 x2 m0 = some (r, mF)) : fk_W E 3 n m0 0 0 45 [(0, tR x0), (2, tI x2)] [] := by
  unfold f_X2_askOf_J45 at hf
  refine fk_iload_n X 1 dX2_askOf_45 rfl ?_
  refine fk_istore_n X [(1, tI x2), (0, tR x0), (2, tI x2)] dX2_askOf_46 rfl rfl ?_
  exact fk_cut' (w_X2_askOf_J47 X Y x0 x2 x2 m0 hR11 hf) [1, 0, 2] rfl
def f_X2_askOf_L11 (x0 : Option Nat) (m0 : fk_M) : Nat → Int32 → Int32 → Option (Int32 × fk_M)
  | 0, _, _ => none
  | N + 1, x1, x2 =>
  (gR m0 x0 1 15).bind fun z1 => (aI m0 z1 0 5).bind fun z2 => if z2 ≤ x2 then (some (x1, m0)) else ((gI m0 x0 1 31).bind fun z3 => if z3 ≤ 0 then (some (x1, m0)) else (if x1 < 0 then (f_X2_askOf_J45 (f_X2_askOf_L11 x0 m0 N) x0 x2 m0) else ((isO m0 x0 1).bind fun u4 => (f_X2_leavesOf x0 x2 m0).bind fun z5 => (isO m0 x0 1).bind fun u6 => (f_X2_leavesOf x0 x1 m0).bind fun z7 => f_X2_askOf_L11 x0 m0 N (if z7 ≤ z5 then x1 else x2) (x2 + 1))))
set_option maxHeartbeats 4000000 in
theorem w_X2_askOf_L11 {E : fk_E} {l : Launch} {G : fk_G} {b0 n : Nat} {r : Int32} {mF : fk_M} (X : fk_X E l G b0 "FigureKneeModel" "askOf" cX2_askOf 3 7 203 0 0) (Y : fk_Y E (some .int) (some (tI r)) n mF 0 0) (x0 : Option Nat) (m0 : fk_M) : ∀ (N : Nat) (x1 : Int32) (x2 : Int32), f_X2_askOf_L11 x0 m0 N x1 x2 = some (r, mF) → fk_W E 3 n m0 0 0 11 [(0, tR x0), (1, tI x1), (2, tI x2)] [] := by
  intro N
  induction N with
  | zero =>
    intro x1 x2 hf
    have hf : (none : Option (Int32 × fk_M)) = some _ := hf
    cases hf
  | succ N ih =>
    intro x1 x2 hf
    rw [f_X2_askOf_L11] at hf
    refine fk_iload_n X 2 dX2_askOf_11 rfl ?_
    refine fk_aload_n X 0 dX2_askOf_12 rfl ?_
    refine fk_getR' X fd_1_15 q1541 dX2_askOf_13 hf (fun z1 hf => ?_)
    refine fk_iconst (v := 5) X dX2_askOf_16 rfl ?_
    refine fk_iaload' X dX2_askOf_17 hf (fun z2 hf => ?_)
    refine fk_icmp_ge' X 53 dX2_askOf_18 rfl hf (fun hf => ?_) (fun hf => ?_)
    · refine fk_iload_n X 1 dX2_askOf_53 rfl ?_
      cases hf
      exact fk_ireturn X Y dX2_askOf_54 rfl
    · refine fk_aload_n X 0 dX2_askOf_21 rfl ?_
      refine fk_getI' X fd_1_31 q1557 dX2_askOf_22 hf (fun z3 hf => ?_)
      refine fk_if_le' X 53 dX2_askOf_25 rfl hf (fun hf => ?_) (fun hf => ?_)
      · refine fk_iload_n X 1 dX2_askOf_53 rfl ?_
        cases hf
        exact fk_ireturn X Y dX2_askOf_54 rfl
      · refine fk_iload_n X 1 dX2_askOf_28 rfl ?_
        refine fk_if_lt' X 45 dX2_askOf_29 rfl hf (fun hf => ?_) (fun hf => ?_)
        · exact fk_cut' (w_X2_askOf_J45 X Y x0 x2 m0 ih hf) [0, 2] rfl
        · refine fk_aload_n X 0 dX2_askOf_32 rfl ?_
          refine fk_iload_n X 2 dX2_askOf_33 rfl ?_
          obtain ⟨u4, hq, hf⟩ := bI hf
          obtain ⟨z5, hv, hf⟩ := bI hf
          refine fk_callV0I (ci := 1) (rest := []) X hq rfl (c_X2_leavesOf hv) n_X2_leavesOf q2008 q2010 qs108 q126 q2011 rfl dX2_askOf_34 rfl rfl rfl rfl rfl (Nat.le_refl _) (Nat.le_refl _) ?_
          refine fk_aload_n X 0 dX2_askOf_37 rfl ?_
          refine fk_iload_n X 1 dX2_askOf_38 rfl ?_
          obtain ⟨u6, hq, hf⟩ := bI hf
          obtain ⟨z7, hv, hf⟩ := bI hf
          refine fk_callV0I (ci := 1) (rest := [tI z5]) X hq rfl (c_X2_leavesOf hv) n_X2_leavesOf q2008 q2010 qs108 q126 q2011 rfl dX2_askOf_39 rfl rfl rfl rfl rfl (Nat.le_refl _) (Nat.le_refl _) ?_
          have J1 : fk_W E 3 n m0 0 0 47 [(0, tR x0), (1, tI (if z7 ≤ z5 then x1 else x2)), (2, tI x2)] [] := by
            refine fk_iinc X 2 [(2, tI (x2 + 1)), (0, tR x0), (1, tI (if z7 ≤ z5 then x1 else x2))] dX2_askOf_47 rfl rfl rfl rfl ?_
            refine fk_goto X 11 dX2_askOf_50 rfl ?_
            exact fk_cut' (ih (if z7 ≤ z5 then x1 else x2) (x2 + 1)  hf) [1, 2, 0] rfl
          refine fk_icmp_ge X 47 dX2_askOf_42 rfl (fun hc2 => ?_) (fun hc2 => ?_)
          · simp only [if_pos hc2] at J1
            exact fk_cut' J1 [0, 1, 2] rfl
          · refine fk_iload_n X 2 dX2_askOf_45 rfl ?_
            refine fk_istore_n X [(1, tI x2), (0, tR x0), (2, tI x2)] dX2_askOf_46 rfl rfl ?_
            simp only [if_neg hc2] at J1
            exact fk_cut' J1 [1, 0, 2] rfl
def f_X2_askOf (a0 : Option Nat) (m0 : fk_M) : Option (Int32 × fk_M) :=
  (isO m0 a0 1).bind fun u1 => bn2 (f_X2_seekSets a0 (-1) m0) fun z2 m3 => f_X2_askOf_L11 a0 m3 fk_fuel (-2) 0
set_option maxHeartbeats 4000000 in
theorem c_X2_askOf {l : Launch} {G : fk_G} {b0 : Nat} {n : Nat} {a0 : Option Nat} {m0 : fk_M} {r : Int32} {mF : fk_M} (hf : f_X2_askOf a0 m0 = some (r, mF)) : fk_Ct l G b0 yX2_askOf cX2_askOf 3 (some .int) 7 203 [tR a0] n m0 (some (tI r)) n mF 0 0 := by
  refine fk_enter n_X2_askOf.1 rfl ?_
  intro E X0 Y
  have X : fk_X E l G b0 "FigureKneeModel" "askOf" cX2_askOf 3 7 203 0 0 := X0
  show fk_W E 3 n m0 0 0 0 [(0, tR a0)] []
  unfold f_X2_askOf at hf
  refine fk_aload_n X 0 dX2_askOf_0 rfl ?_
  refine fk_iconst (v := (-1)) X dX2_askOf_1 rfl ?_
  obtain ⟨u1, hq, hf⟩ := bI hf
  obtain ⟨z2, m3, hv, hf⟩ := bn2_eq hf
  refine fk_callV0I (ci := 1) (rest := []) X hq rfl (c_X2_seekSets hv) n_X2_seekSets q1969 q1971 qs103 q126 q1972 rfl dX2_askOf_2 rfl rfl rfl rfl rfl (Nat.le_refl _) (Nat.le_refl _) ?_
  refine fk_pop X dX2_askOf_5 rfl ?_
  refine fk_bipush (v := (-2)) X dX2_askOf_6 rfl ?_
  refine fk_istore_n X [(1, tI (-2)), (0, tR a0)] dX2_askOf_8 rfl rfl ?_
  refine fk_iconst (v := 0) X dX2_askOf_9 rfl ?_
  refine fk_istore_n X [(2, tI 0), (1, tI (-2)), (0, tR a0)] dX2_askOf_10 rfl rfl ?_
  exact fk_cut' (w_X2_askOf_L11 X Y a0 m3 fk_fuel (-2) 0 hf) [2, 1, 0] rfl
/-! FigureKneeModel ask ()I -/
theorem n_X2_ask : fk_N yX2_ask 0 := ⟨by decide +kernel, by decide +kernel, by decide +kernel, by decide +kernel⟩
def f_X2_ask (a0 : Option Nat) (m0 : fk_M) : Option (Int32 × fk_M) :=
  (isO m0 a0 1).bind fun u1 => (f_X2_good a0 m0).bind fun m2 => (gI m2 a0 1 14).bind fun z3 => if z3 = 0 then ((isO m2 a0 1).bind fun u4 => bn2 (f_X2_no a0 1 m2) fun z5 m6 => some (z5, m6)) else ((isO m2 a0 1).bind fun u7 => bn2 (f_X2_askOf a0 m2) fun z8 m9 => some (z8, m9))
set_option maxHeartbeats 4000000 in
theorem c_X2_ask {l : Launch} {G : fk_G} {b0 : Nat} {n : Nat} {a0 : Option Nat} {m0 : fk_M} {r : Int32} {mF : fk_M} (hf : f_X2_ask a0 m0 = some (r, mF)) : fk_Ct l G b0 yX2_ask cX2_ask 1 (some .int) 8 225 [tR a0] n m0 (some (tI r)) n mF 0 0 := by
  refine fk_enter n_X2_ask.1 rfl ?_
  intro E X0 Y
  have X : fk_X E l G b0 "FigureKneeModel" "ask" cX2_ask 1 8 225 0 0 := X0
  show fk_W E 1 n m0 0 0 0 [(0, tR a0)] []
  unfold f_X2_ask at hf
  refine fk_aload_n X 0 dX2_ask_0 rfl ?_
  obtain ⟨u1, hq, hf⟩ := bI hf
  obtain ⟨m2, hv, hf⟩ := bI hf
  refine fk_callV0V (ci := 1) (rest := []) X hq rfl (c_X2_good hv) n_X2_good q1665 q1667 qs63 q126 q1668 rfl dX2_ask_1 rfl rfl rfl rfl rfl (Nat.le_refl _) (Nat.le_refl _) ?_
  refine fk_aload_n X 0 dX2_ask_4 rfl ?_
  refine fk_getI' X fd_1_14 q1540 dX2_ask_5 hf (fun z3 hf => ?_)
  refine fk_if_eq' X 18 dX2_ask_8 rfl hf (fun hf => ?_) (fun hf => ?_)
  · refine fk_aload_n X 0 dX2_ask_18 rfl ?_
    refine fk_iconst (v := 1) X dX2_ask_19 rfl ?_
    obtain ⟨u4, hq, hf⟩ := bI hf
    obtain ⟨z5, m6, hv, hf⟩ := bn2_eq hf
    refine fk_callV0I (ci := 1) (rest := []) X hq rfl (c_X2_no hv) n_X2_no q1672 q1674 qs64 q126 q1675 rfl dX2_ask_20 rfl rfl rfl rfl rfl (Nat.le_refl _) (Nat.le_refl _) ?_
    cases hf
    exact fk_ireturn X Y dX2_ask_23 rfl
  · refine fk_aload_n X 0 dX2_ask_11 rfl ?_
    obtain ⟨u7, hq, hf⟩ := bI hf
    obtain ⟨z8, m9, hv, hf⟩ := bn2_eq hf
    refine fk_callV0I (ci := 1) (rest := []) X hq rfl (c_X2_askOf hv) n_X2_askOf q2004 q2006 qs107 q126 q2007 rfl dX2_ask_12 rfl rfl rfl rfl rfl (Nat.le_refl _) (Nat.le_refl _) ?_
    refine fk_goto X 23 dX2_ask_15 rfl ?_
    cases hf
    exact fk_ireturn X Y dX2_ask_23 rfl
/-! FigureKneeModel askLeaves ()I -/
theorem n_X2_askLeaves : fk_N yX2_askLeaves 0 := ⟨by decide +kernel, by decide +kernel, by decide +kernel, by decide +kernel⟩
def f_X2_askLeaves (a0 : Option Nat) (m0 : fk_M) : Option (Int32 × fk_M) :=
  (isO m0 a0 1).bind fun u1 => (f_X2_good a0 m0).bind fun m2 => (gI m2 a0 1 14).bind fun z3 => if z3 = 0 then ((isO m2 a0 1).bind fun u4 => bn2 (f_X2_no a0 1 m2) fun z5 m6 => some (z5, m6)) else ((isO m2 a0 1).bind fun u7 => bn2 (f_X2_askOf a0 m2) fun z8 m9 => if 0 ≤ z8 then ((isO m9 a0 1).bind fun u10 => (f_X2_leavesOf a0 z8 m9).bind fun z11 => some (z11, m9)) else (some ((-2), m9)))
set_option maxHeartbeats 4000000 in
theorem c_X2_askLeaves {l : Launch} {G : fk_G} {b0 : Nat} {n : Nat} {a0 : Option Nat} {m0 : fk_M} {r : Int32} {mF : fk_M} (hf : f_X2_askLeaves a0 m0 = some (r, mF)) : fk_Ct l G b0 yX2_askLeaves cX2_askLeaves 2 (some .int) 8 225 [tR a0] n m0 (some (tI r)) n mF 0 0 := by
  refine fk_enter n_X2_askLeaves.1 rfl ?_
  intro E X0 Y
  have X : fk_X E l G b0 "FigureKneeModel" "askLeaves" cX2_askLeaves 2 8 225 0 0 := X0
  show fk_W E 2 n m0 0 0 0 [(0, tR a0)] []
  unfold f_X2_askLeaves at hf
  refine fk_aload_n X 0 dX2_askLeaves_0 rfl ?_
  obtain ⟨u1, hq, hf⟩ := bI hf
  obtain ⟨m2, hv, hf⟩ := bI hf
  refine fk_callV0V (ci := 1) (rest := []) X hq rfl (c_X2_good hv) n_X2_good q1665 q1667 qs63 q126 q1668 rfl dX2_askLeaves_1 rfl rfl rfl rfl rfl (Nat.le_refl _) (Nat.le_refl _) ?_
  refine fk_aload_n X 0 dX2_askLeaves_4 rfl ?_
  refine fk_getI' X fd_1_14 q1540 dX2_askLeaves_5 hf (fun z3 hf => ?_)
  refine fk_if_ne' X 17 dX2_askLeaves_8 rfl hf (fun hf => ?_) (fun hf => ?_)
  · refine fk_aload_n X 0 dX2_askLeaves_17 rfl ?_
    obtain ⟨u7, hq, hf⟩ := bI hf
    obtain ⟨z8, m9, hv, hf⟩ := bn2_eq hf
    refine fk_callV0I (ci := 1) (rest := []) X hq rfl (c_X2_askOf hv) n_X2_askOf q2004 q2006 qs107 q126 q2007 rfl dX2_askLeaves_18 rfl rfl rfl rfl rfl (Nat.le_refl _) (Nat.le_refl _) ?_
    refine fk_istore_n X [(1, tI z8), (0, tR a0)] dX2_askLeaves_21 rfl rfl ?_
    refine fk_iload_n X 0 dX2_askLeaves_22 rfl ?_
    refine fk_if_ge' X 31 dX2_askLeaves_23 rfl hf (fun hf => ?_) (fun hf => ?_)
    · refine fk_aload_n X 1 dX2_askLeaves_31 rfl ?_
      refine fk_iload_n X 0 dX2_askLeaves_32 rfl ?_
      obtain ⟨u10, hq, hf⟩ := bI hf
      obtain ⟨z11, hv, hf⟩ := bI hf
      refine fk_callV0I (ci := 1) (rest := []) X hq rfl (c_X2_leavesOf hv) n_X2_leavesOf q2008 q2010 qs108 q126 q2011 rfl dX2_askLeaves_33 rfl rfl rfl rfl rfl (Nat.le_refl _) (Nat.le_refl _) ?_
      cases hf
      exact fk_ireturn X Y dX2_askLeaves_36 rfl
    · refine fk_bipush (v := (-2)) X dX2_askLeaves_26 rfl ?_
      refine fk_goto X 36 dX2_askLeaves_28 rfl ?_
      cases hf
      exact fk_ireturn X Y dX2_askLeaves_36 rfl
  · refine fk_aload_n X 0 dX2_askLeaves_11 rfl ?_
    refine fk_iconst (v := 1) X dX2_askLeaves_12 rfl ?_
    obtain ⟨u4, hq, hf⟩ := bI hf
    obtain ⟨z5, m6, hv, hf⟩ := bn2_eq hf
    refine fk_callV0I (ci := 1) (rest := []) X hq rfl (c_X2_no hv) n_X2_no q1672 q1674 qs64 q126 q1675 rfl dX2_askLeaves_13 rfl rfl rfl rfl rfl (Nat.le_refl _) (Nat.le_refl _) ?_
    cases hf
    exact fk_ireturn X Y dX2_askLeaves_16 rfl
/-! FigureKneeModel judge ()I -/
theorem n_X2_judge : fk_N yX2_judge 0 := ⟨by decide +kernel, by decide +kernel, by decide +kernel, by decide +kernel⟩
def f_X2_judge (a0 : Option Nat) (m0 : fk_M) : Option (Int32 × fk_M) :=
  (isO m0 a0 1).bind fun u1 => (f_X2_good a0 m0).bind fun m2 => (gI m2 a0 1 14).bind fun z3 => if z3 = 0 then ((isO m2 a0 1).bind fun u4 => bn2 (f_X2_no a0 1 m2) fun z5 m6 => some (z5, m6)) else ((isO m2 a0 1).bind fun u7 => (f_X2_wrongBy a0 0 m2).bind fun z8 => some (z8, m2))
set_option maxHeartbeats 4000000 in
theorem c_X2_judge {l : Launch} {G : fk_G} {b0 : Nat} {n : Nat} {a0 : Option Nat} {m0 : fk_M} {r : Int32} {mF : fk_M} (hf : f_X2_judge a0 m0 = some (r, mF)) : fk_Ct l G b0 yX2_judge cX2_judge 1 (some .int) 6 179 [tR a0] n m0 (some (tI r)) n mF 0 0 := by
  refine fk_enter n_X2_judge.1 rfl ?_
  intro E X0 Y
  have X : fk_X E l G b0 "FigureKneeModel" "judge" cX2_judge 1 6 179 0 0 := X0
  show fk_W E 1 n m0 0 0 0 [(0, tR a0)] []
  unfold f_X2_judge at hf
  refine fk_aload_n X 0 dX2_judge_0 rfl ?_
  obtain ⟨u1, hq, hf⟩ := bI hf
  obtain ⟨m2, hv, hf⟩ := bI hf
  refine fk_callV0V (ci := 1) (rest := []) X hq rfl (c_X2_good hv) n_X2_good q1665 q1667 qs63 q126 q1668 rfl dX2_judge_1 rfl rfl rfl rfl rfl (Nat.le_refl _) (Nat.le_refl _) ?_
  refine fk_aload_n X 0 dX2_judge_4 rfl ?_
  refine fk_getI' X fd_1_14 q1540 dX2_judge_5 hf (fun z3 hf => ?_)
  refine fk_if_eq' X 19 dX2_judge_8 rfl hf (fun hf => ?_) (fun hf => ?_)
  · refine fk_aload_n X 0 dX2_judge_19 rfl ?_
    refine fk_iconst (v := 1) X dX2_judge_20 rfl ?_
    obtain ⟨u4, hq, hf⟩ := bI hf
    obtain ⟨z5, m6, hv, hf⟩ := bn2_eq hf
    refine fk_callV0I (ci := 1) (rest := []) X hq rfl (c_X2_no hv) n_X2_no q1672 q1674 qs64 q126 q1675 rfl dX2_judge_21 rfl rfl rfl rfl rfl (Nat.le_refl _) (Nat.le_refl _) ?_
    cases hf
    exact fk_ireturn X Y dX2_judge_24 rfl
  · refine fk_aload_n X 0 dX2_judge_11 rfl ?_
    refine fk_iconst (v := 0) X dX2_judge_12 rfl ?_
    obtain ⟨u7, hq, hf⟩ := bI hf
    obtain ⟨z8, hv, hf⟩ := bI hf
    refine fk_callV0I (ci := 1) (rest := []) X hq rfl (c_X2_wrongBy hv) n_X2_wrongBy q1973 q1975 qs104 q126 q1976 rfl dX2_judge_13 rfl rfl rfl rfl rfl (Nat.le_refl _) (Nat.le_refl _) ?_
    refine fk_goto X 24 dX2_judge_16 rfl ?_
    cases hf
    exact fk_ireturn X Y dX2_judge_24 rfl
/-! FigureKneeModel third (I)I -/
theorem n_X2_third : fk_N yX2_third 1 := ⟨by decide +kernel, by decide +kernel, by decide +kernel, by decide +kernel⟩
def f_X2_third_J102 (R22 : Int32 → Int32 → Option (Int32 × fk_M)) (x0 : Option Nat) (x1 : Int32) (x2 : Int32) (x3 : Int32) (m0 : fk_M) : Option (Int32 × fk_M) :=
  R22 x2 (x3 + 1)
set_option maxHeartbeats 4000000 in
theorem w_X2_third_J102 {E : fk_E} {l : Launch} {G : fk_G} {b0 n : Nat} {r : Int32} {mF : fk_M} (X : fk_X E l G b0 "FigureKneeModel" "third" cX2_third 5 5 157 0 0) (Y : fk_Y E (some .int) (some (tI r)) n mF 0 0) (x0 : Option Nat) (x1 : Int32) (x2 : Int32) (x3 : Int32)  (m0 : fk_M) {R22 : Int32 → Int32 → Option (Int32 × fk_M)} (hR22 : ∀ (v2 : Int32) (v3 : Int32), R22 v2 v3 = some (r, mF) → fk_W E 5 n m0 0 0 22 [(0, tR x0), (1, tI x1), (2, tI v2), (3, tI v3)] []) (hf : f_X2_third_J102 R22 x0 x1 x2 x3 m0 = some (r, mF)) : fk_W E 5 n m0 0 0 102 [(0, tR x0), (1, tI x1), (2, tI x2), (3, tI x3)] [] := by
  unfold f_X2_third_J102 at hf
  refine fk_iinc X 3 [(3, tI (x3 + 1)), (0, tR x0), (1, tI x1), (2, tI x2)] dX2_third_102 rfl rfl rfl rfl ?_
  refine fk_goto X 22 dX2_third_105 rfl ?_
  exact fk_cut' (hR22 x2 (x3 + 1)  hf) [1, 2, 3, 0] rfl
def f_X2_third_L22 (x0 : Option Nat) (x1 : Int32) (m0 : fk_M) : Nat → Int32 → Int32 → Option (Int32 × fk_M)
  | 0, _, _ => none
  | N + 1, x2, x3 =>
  (gR m0 x0 1 15).bind fun z1 => (aI m0 z1 0 6).bind fun z2 => if z2 ≤ x3 then (some (x2, m0)) else ((gR m0 x0 1 15).bind fun z3 => (aI m0 z3 0 (26 + (3 * x3))).bind fun z4 => if z4 = x1 then ((gR m0 x0 1 15).bind fun z5 => (aI m0 z5 0 ((26 + (3 * x3)) + 2)).bind fun z6 => (gR m0 x0 1 15).bind fun z7 => (aI m0 z7 0 ((26 + (3 * x3)) + 1)).bind fun z8 => (isO m0 x0 1).bind fun u9 => (f_X2_saidThen x0 x1 z8 0 m0).bind fun z10 => f_X2_third_J102 (f_X2_third_L22 x0 x1 m0 N) x0 x1 (x2 + (if 0 ≤ (z6 - z10) then (z6 - z10) else (-(z6 - z10)))) x3 m0) else (f_X2_third_J102 (f_X2_third_L22 x0 x1 m0 N) x0 x1 x2 x3 m0))
set_option maxHeartbeats 4000000 in
theorem w_X2_third_L22 {E : fk_E} {l : Launch} {G : fk_G} {b0 n : Nat} {r : Int32} {mF : fk_M} (X : fk_X E l G b0 "FigureKneeModel" "third" cX2_third 5 5 157 0 0) (Y : fk_Y E (some .int) (some (tI r)) n mF 0 0) (x0 : Option Nat) (x1 : Int32) (m0 : fk_M) : ∀ (N : Nat) (x2 : Int32) (x3 : Int32), f_X2_third_L22 x0 x1 m0 N x2 x3 = some (r, mF) → fk_W E 5 n m0 0 0 22 [(0, tR x0), (1, tI x1), (2, tI x2), (3, tI x3)] [] := by
  intro N
  induction N with
  | zero =>
    intro x2 x3 hf
    have hf : (none : Option (Int32 × fk_M)) = some _ := hf
    cases hf
  | succ N ih =>
    intro x2 x3 hf
    rw [f_X2_third_L22] at hf
    refine fk_iload_n X 3 dX2_third_22 rfl ?_
    refine fk_aload_n X 0 dX2_third_23 rfl ?_
    refine fk_getR' X fd_1_15 q1541 dX2_third_24 hf (fun z1 hf => ?_)
    refine fk_bipush (v := 6) X dX2_third_27 rfl ?_
    refine fk_iaload' X dX2_third_29 hf (fun z2 hf => ?_)
    refine fk_icmp_ge' X 108 dX2_third_30 rfl hf (fun hf => ?_) (fun hf => ?_)
    · refine fk_iload_n X 2 dX2_third_108 rfl ?_
      cases hf
      exact fk_ireturn X Y dX2_third_109 rfl
    · refine fk_aload_n X 0 dX2_third_33 rfl ?_
      refine fk_getR' X fd_1_15 q1541 dX2_third_34 hf (fun z3 hf => ?_)
      refine fk_bipush (v := 26) X dX2_third_37 rfl ?_
      refine fk_iconst (v := 3) X dX2_third_39 rfl ?_
      refine fk_iload_n X 3 dX2_third_40 rfl ?_
      refine fk_imul X dX2_third_41 ?_
      refine fk_iadd X dX2_third_42 ?_
      refine fk_iaload' X dX2_third_43 hf (fun z4 hf => ?_)
      refine fk_iload_n X 1 dX2_third_44 rfl ?_
      refine fk_icmp_eq' X 51 dX2_third_45 rfl hf (fun hf => ?_) (fun hf => ?_)
      · refine fk_aload_n X 0 dX2_third_51 rfl ?_
        refine fk_getR' X fd_1_15 q1541 dX2_third_52 hf (fun z5 hf => ?_)
        refine fk_bipush (v := 26) X dX2_third_55 rfl ?_
        refine fk_iconst (v := 3) X dX2_third_57 rfl ?_
        refine fk_iload_n X 3 dX2_third_58 rfl ?_
        refine fk_imul X dX2_third_59 ?_
        refine fk_iadd X dX2_third_60 ?_
        refine fk_iconst (v := 2) X dX2_third_61 rfl ?_
        refine fk_iadd X dX2_third_62 ?_
        refine fk_iaload' X dX2_third_63 hf (fun z6 hf => ?_)
        refine fk_aload_n X 0 dX2_third_64 rfl ?_
        refine fk_iload_n X 1 dX2_third_65 rfl ?_
        refine fk_aload_n X 0 dX2_third_66 rfl ?_
        refine fk_getR' X fd_1_15 q1541 dX2_third_67 hf (fun z7 hf => ?_)
        refine fk_bipush (v := 26) X dX2_third_70 rfl ?_
        refine fk_iconst (v := 3) X dX2_third_72 rfl ?_
        refine fk_iload_n X 3 dX2_third_73 rfl ?_
        refine fk_imul X dX2_third_74 ?_
        refine fk_iadd X dX2_third_75 ?_
        refine fk_iconst (v := 1) X dX2_third_76 rfl ?_
        refine fk_iadd X dX2_third_77 ?_
        refine fk_iaload' X dX2_third_78 hf (fun z8 hf => ?_)
        refine fk_iconst (v := 0) X dX2_third_79 rfl ?_
        obtain ⟨u9, hq, hf⟩ := bI hf
        obtain ⟨z10, hv, hf⟩ := bI hf
        refine fk_callV0I (ci := 1) (rest := [tI z6]) X hq rfl (c_X2_saidThen hv) n_X2_saidThen q1977 q1979 qs105 q126 q1980 rfl dX2_third_80 rfl rfl rfl rfl rfl (Nat.le_refl _) (Nat.le_refl _) ?_
        refine fk_isub X dX2_third_83 ?_
        refine fk_istore X [(4, tI (z6 - z10)), (0, tR x0), (1, tI x1), (2, tI x2), (3, tI x3)] dX2_third_84 rfl rfl ?_
        refine fk_iload_n X 3 dX2_third_86 rfl ?_
        refine fk_iload X 0 dX2_third_87 rfl ?_
        have J1 : fk_W E 5 n m0 0 0 100 [(0, tR x0), (1, tI x1), (3, tI x3)] [tI (if 0 ≤ (z6 - z10) then (z6 - z10) else (-(z6 - z10))), tI x2] := by
          refine fk_iadd X dX2_third_100 ?_
          refine fk_istore_n X [(2, tI (x2 + (if 0 ≤ (z6 - z10) then (z6 - z10) else (-(z6 - z10))))), (0, tR x0), (1, tI x1), (3, tI x3)] dX2_third_101 rfl rfl ?_
          exact fk_cut' (w_X2_third_J102 X Y x0 x1 (x2 + (if 0 ≤ (z6 - z10) then (z6 - z10) else (-(z6 - z10)))) x3 m0 ih hf) [1, 2, 0, 3] rfl
        refine fk_if_ge X 98 dX2_third_89 rfl (fun hc2 => ?_) (fun hc2 => ?_)
        · refine fk_iload X 0 dX2_third_98 rfl ?_
          simp only [if_pos hc2] at J1
          exact fk_cut' J1 [1, 2, 4] rfl
        · refine fk_iload X 0 dX2_third_92 rfl ?_
          refine fk_ineg X dX2_third_94 ?_
          refine fk_goto X 100 dX2_third_95 rfl ?_
          simp only [if_neg hc2] at J1
          exact fk_cut' J1 [1, 2, 4] rfl
      · refine fk_goto X 102 dX2_third_48 rfl ?_
        exact fk_cut' (w_X2_third_J102 X Y x0 x1 x2 x3 m0 ih hf) [0, 1, 2, 3] rfl
def f_X2_third (a0 : Option Nat) (a1 : Int32) (m0 : fk_M) : Option (Int32 × fk_M) :=
  (isO m0 a0 1).bind fun u1 => (f_X2_good a0 m0).bind fun m2 => (isO m2 a0 1).bind fun u3 => (f_X2_isPair a0 a1 m2).bind fun z4 => if z4 = 0 then ((isO m2 a0 1).bind fun u5 => bn2 (f_X2_no a0 1 m2) fun z6 m7 => some (z6, m7)) else (f_X2_third_L22 a0 a1 m2 fk_fuel 0 0)
set_option maxHeartbeats 4000000 in
theorem c_X2_third {l : Launch} {G : fk_G} {b0 : Nat} {n : Nat} {a0 : Option Nat} {a1 : Int32} {m0 : fk_M} {r : Int32} {mF : fk_M} (hf : f_X2_third a0 a1 m0 = some (r, mF)) : fk_Ct l G b0 yX2_third cX2_third 5 (some .int) 5 157 [tR a0, tI a1] n m0 (some (tI r)) n mF 0 0 := by
  refine fk_enter n_X2_third.1 rfl ?_
  intro E X0 Y
  have X : fk_X E l G b0 "FigureKneeModel" "third" cX2_third 5 5 157 0 0 := X0
  show fk_W E 5 n m0 0 0 0 [(0, tR a0), (1, tI a1)] []
  unfold f_X2_third at hf
  refine fk_aload_n X 0 dX2_third_0 rfl ?_
  obtain ⟨u1, hq, hf⟩ := bI hf
  obtain ⟨m2, hv, hf⟩ := bI hf
  refine fk_callV0V (ci := 1) (rest := []) X hq rfl (c_X2_good hv) n_X2_good q1665 q1667 qs63 q126 q1668 rfl dX2_third_1 rfl rfl rfl rfl rfl (Nat.le_refl _) (Nat.le_refl _) ?_
  refine fk_aload_n X 0 dX2_third_4 rfl ?_
  refine fk_iload_n X 1 dX2_third_5 rfl ?_
  obtain ⟨u3, hq, hf⟩ := bI hf
  obtain ⟨z4, hv, hf⟩ := bI hf
  refine fk_callV0I (ci := 1) (rest := []) X hq rfl (c_X2_isPair hv) n_X2_isPair q1820 q1822 qs87 q126 q1823 rfl dX2_third_6 rfl rfl rfl rfl rfl (Nat.le_refl _) (Nat.le_refl _) ?_
  refine fk_if_ne' X 18 dX2_third_9 rfl hf (fun hf => ?_) (fun hf => ?_)
  · refine fk_iconst (v := 0) X dX2_third_18 rfl ?_
    refine fk_istore_n X [(2, tI 0), (0, tR a0), (1, tI a1)] dX2_third_19 rfl rfl ?_
    refine fk_iconst (v := 0) X dX2_third_20 rfl ?_
    refine fk_istore_n X [(3, tI 0), (2, tI 0), (0, tR a0), (1, tI a1)] dX2_third_21 rfl rfl ?_
    exact fk_cut' (w_X2_third_L22 X Y a0 a1 m2 fk_fuel 0 0 hf) [2, 3, 1, 0] rfl
  · refine fk_aload_n X 0 dX2_third_12 rfl ?_
    refine fk_iconst (v := 1) X dX2_third_13 rfl ?_
    obtain ⟨u5, hq, hf⟩ := bI hf
    obtain ⟨z6, m7, hv, hf⟩ := bn2_eq hf
    refine fk_callV0I (ci := 1) (rest := []) X hq rfl (c_X2_no hv) n_X2_no q1672 q1674 qs64 q126 q1675 rfl dX2_third_14 rfl rfl rfl rfl rfl (Nat.le_refl _) (Nat.le_refl _) ?_
    cases hf
    exact fk_ireturn X Y dX2_third_17 rfl
/-! FigureKneeModel debtOf (II)I -/
theorem n_X2_debtOf : fk_N yX2_debtOf 2 := ⟨by decide +kernel, by decide +kernel, by decide +kernel, by decide +kernel⟩
def f_X2_debtOf (a0 : Option Nat) (a1 : Int32) (a2 : Int32) (m : fk_M) : Option Int32 :=
  (gR m a0 1 19).bind fun z1 => (aI m z1 0 ((10 + (5 * a1)) + a2)).bind fun z2 => some z2
set_option maxHeartbeats 4000000 in
theorem c_X2_debtOf {l : Launch} {G : fk_G} {b0 : Nat} {n : Nat} {a0 : Option Nat} {a1 : Int32} {a2 : Int32} {m : fk_M} {r : Int32} (hf : f_X2_debtOf a0 a1 a2 m = some r) : fk_Ct l G b0 yX2_debtOf cX2_debtOf 3 (some .int) 1 60 [tR a0, tI a1, tI a2] n m (some (tI r)) n m 0 0 := by
  refine fk_enter n_X2_debtOf.1 rfl ?_
  intro E X0 Y
  have X : fk_X E l G b0 "FigureKneeModel" "debtOf" cX2_debtOf 3 1 60 0 0 := X0
  show fk_W E 3 n m 0 0 0 [(0, tR a0), (1, tI a1), (2, tI a2)] []
  unfold f_X2_debtOf at hf
  refine fk_aload_n X 0 dX2_debtOf_0 rfl ?_
  refine fk_getR' X fd_1_19 q1545 dX2_debtOf_1 hf (fun z1 hf => ?_)
  refine fk_bipush (v := 10) X dX2_debtOf_4 rfl ?_
  refine fk_iconst (v := 5) X dX2_debtOf_6 rfl ?_
  refine fk_iload_n X 1 dX2_debtOf_7 rfl ?_
  refine fk_imul X dX2_debtOf_8 ?_
  refine fk_iadd X dX2_debtOf_9 ?_
  refine fk_iload_n X 2 dX2_debtOf_10 rfl ?_
  refine fk_iadd X dX2_debtOf_11 ?_
  refine fk_iaload' X dX2_debtOf_12 hf (fun z2 hf => ?_)
  cases hf
  exact fk_ireturn X Y dX2_debtOf_13 rfl
/-! FigureKneeModel owes (II)I -/
theorem n_X2_owes : fk_N yX2_owes 2 := ⟨by decide +kernel, by decide +kernel, by decide +kernel, by decide +kernel⟩
def f_X2_owes (a0 : Option Nat) (a1 : Int32) (a2 : Int32) (m0 : fk_M) : Option (Int32 × fk_M) :=
  (isO m0 a0 1).bind fun u1 => (f_X2_good a0 m0).bind fun m2 => (isO m2 a0 1).bind fun u3 => (f_X2_areTwo a0 a1 a2 m2).bind fun z4 => if z4 = 0 then ((isO m2 a0 1).bind fun u5 => bn2 (f_X2_no a0 1 m2) fun z6 m7 => some (z6, m7)) else ((isO m2 a0 1).bind fun u8 => (f_X2_debtOf a0 a1 a2 m2).bind fun z9 => some (z9, m2))
set_option maxHeartbeats 4000000 in
theorem c_X2_owes {l : Launch} {G : fk_G} {b0 : Nat} {n : Nat} {a0 : Option Nat} {a1 : Int32} {a2 : Int32} {m0 : fk_M} {r : Int32} {mF : fk_M} (hf : f_X2_owes a0 a1 a2 m0 = some (r, mF)) : fk_Ct l G b0 yX2_owes cX2_owes 3 (some .int) 4 125 [tR a0, tI a1, tI a2] n m0 (some (tI r)) n mF 0 0 := by
  refine fk_enter n_X2_owes.1 rfl ?_
  intro E X0 Y
  have X : fk_X E l G b0 "FigureKneeModel" "owes" cX2_owes 3 4 125 0 0 := X0
  show fk_W E 3 n m0 0 0 0 [(0, tR a0), (1, tI a1), (2, tI a2)] []
  unfold f_X2_owes at hf
  refine fk_aload_n X 0 dX2_owes_0 rfl ?_
  obtain ⟨u1, hq, hf⟩ := bI hf
  obtain ⟨m2, hv, hf⟩ := bI hf
  refine fk_callV0V (ci := 1) (rest := []) X hq rfl (c_X2_good hv) n_X2_good q1665 q1667 qs63 q126 q1668 rfl dX2_owes_1 rfl rfl rfl rfl rfl (Nat.le_refl _) (Nat.le_refl _) ?_
  refine fk_aload_n X 0 dX2_owes_4 rfl ?_
  refine fk_iload_n X 1 dX2_owes_5 rfl ?_
  refine fk_iload_n X 2 dX2_owes_6 rfl ?_
  obtain ⟨u3, hq, hf⟩ := bI hf
  obtain ⟨z4, hv, hf⟩ := bI hf
  refine fk_callV0I (ci := 1) (rest := []) X hq rfl (c_X2_areTwo hv) n_X2_areTwo q1913 q1915 qs99 q126 q1916 rfl dX2_owes_7 rfl rfl rfl rfl rfl (Nat.le_refl _) (Nat.le_refl _) ?_
  refine fk_if_eq' X 22 dX2_owes_10 rfl hf (fun hf => ?_) (fun hf => ?_)
  · refine fk_aload_n X 0 dX2_owes_22 rfl ?_
    refine fk_iconst (v := 1) X dX2_owes_23 rfl ?_
    obtain ⟨u5, hq, hf⟩ := bI hf
    obtain ⟨z6, m7, hv, hf⟩ := bn2_eq hf
    refine fk_callV0I (ci := 1) (rest := []) X hq rfl (c_X2_no hv) n_X2_no q1672 q1674 qs64 q126 q1675 rfl dX2_owes_24 rfl rfl rfl rfl rfl (Nat.le_refl _) (Nat.le_refl _) ?_
    cases hf
    exact fk_ireturn X Y dX2_owes_27 rfl
  · refine fk_aload_n X 0 dX2_owes_13 rfl ?_
    refine fk_iload_n X 1 dX2_owes_14 rfl ?_
    refine fk_iload_n X 2 dX2_owes_15 rfl ?_
    obtain ⟨u8, hq, hf⟩ := bI hf
    obtain ⟨z9, hv, hf⟩ := bI hf
    refine fk_callV0I (ci := 1) (rest := []) X hq rfl (c_X2_debtOf hv) n_X2_debtOf q2028 q2030 qs109 q126 q2031 rfl dX2_owes_16 rfl rfl rfl rfl rfl (Nat.le_refl _) (Nat.le_refl _) ?_
    refine fk_goto X 27 dX2_owes_19 rfl ?_
    cases hf
    exact fk_ireturn X Y dX2_owes_27 rfl
/-! FigureKneeModel netOf (I)I -/
theorem n_X2_netOf : fk_N yX2_netOf 1 := ⟨by decide +kernel, by decide +kernel, by decide +kernel, by decide +kernel⟩
def f_X2_netOf_L4 (x0 : Option Nat) (x1 : Int32) (m : fk_M) : Nat → Int32 → Int32 → Option Int32
  | 0, _, _ => none
  | N + 1, x2, x3 =>
  (gR m x0 1 15).bind fun z1 => (aI m z1 0 2).bind fun z2 => if z2 ≤ x3 then (some x2) else ((isO m x0 1).bind fun u3 => (f_X2_debtOf x0 x3 x1 m).bind fun z4 => (isO m x0 1).bind fun u5 => (f_X2_debtOf x0 x1 x3 m).bind fun z6 => f_X2_netOf_L4 x0 x1 m N (x2 + (z4 - z6)) (x3 + 1))
set_option maxHeartbeats 4000000 in
theorem w_X2_netOf_L4 {E : fk_E} {l : Launch} {G : fk_G} {b0 n : Nat} {m : fk_M} {r : Int32} (X : fk_X E l G b0 "FigureKneeModel" "netOf" cX2_netOf 4 2 82 0 0) (Y : fk_Y E (some .int) (some (tI r)) n m 0 0) (x0 : Option Nat) (x1 : Int32) : ∀ (N : Nat) (x2 : Int32) (x3 : Int32), f_X2_netOf_L4 x0 x1 m N x2 x3 = some r → fk_W E 4 n m 0 0 4 [(0, tR x0), (1, tI x1), (2, tI x2), (3, tI x3)] [] := by
  intro N
  induction N with
  | zero =>
    intro x2 x3 hf
    have hf : (none : Option Int32) = some _ := hf
    cases hf
  | succ N ih =>
    intro x2 x3 hf
    rw [f_X2_netOf_L4] at hf
    refine fk_iload_n X 3 dX2_netOf_4 rfl ?_
    refine fk_aload_n X 0 dX2_netOf_5 rfl ?_
    refine fk_getR' X fd_1_15 q1541 dX2_netOf_6 hf (fun z1 hf => ?_)
    refine fk_iconst (v := 2) X dX2_netOf_9 rfl ?_
    refine fk_iaload' X dX2_netOf_10 hf (fun z2 hf => ?_)
    refine fk_icmp_ge' X 36 dX2_netOf_11 rfl hf (fun hf => ?_) (fun hf => ?_)
    · refine fk_iload_n X 2 dX2_netOf_36 rfl ?_
      cases hf
      exact fk_ireturn X Y dX2_netOf_37 rfl
    · refine fk_iload_n X 2 dX2_netOf_14 rfl ?_
      refine fk_aload_n X 0 dX2_netOf_15 rfl ?_
      refine fk_iload_n X 3 dX2_netOf_16 rfl ?_
      refine fk_iload_n X 1 dX2_netOf_17 rfl ?_
      obtain ⟨u3, hq, hf⟩ := bI hf
      obtain ⟨z4, hv, hf⟩ := bI hf
      refine fk_callV0I (ci := 1) (rest := [tI x2]) X hq rfl (c_X2_debtOf hv) n_X2_debtOf q2028 q2030 qs109 q126 q2031 rfl dX2_netOf_18 rfl rfl rfl rfl rfl (Nat.le_refl _) (Nat.le_refl _) ?_
      refine fk_aload_n X 0 dX2_netOf_21 rfl ?_
      refine fk_iload_n X 1 dX2_netOf_22 rfl ?_
      refine fk_iload_n X 3 dX2_netOf_23 rfl ?_
      obtain ⟨u5, hq, hf⟩ := bI hf
      obtain ⟨z6, hv, hf⟩ := bI hf
      refine fk_callV0I (ci := 1) (rest := [tI z4, tI x2]) X hq rfl (c_X2_debtOf hv) n_X2_debtOf q2028 q2030 qs109 q126 q2031 rfl dX2_netOf_24 rfl rfl rfl rfl rfl (Nat.le_refl _) (Nat.le_refl _) ?_
      refine fk_isub X dX2_netOf_27 ?_
      refine fk_iadd X dX2_netOf_28 ?_
      refine fk_istore_n X [(2, tI (x2 + (z4 - z6))), (0, tR x0), (1, tI x1), (3, tI x3)] dX2_netOf_29 rfl rfl ?_
      refine fk_iinc X 3 [(3, tI (x3 + 1)), (2, tI (x2 + (z4 - z6))), (0, tR x0), (1, tI x1)] dX2_netOf_30 rfl rfl rfl rfl ?_
      refine fk_goto X 4 dX2_netOf_33 rfl ?_
      exact fk_cut' (ih (x2 + (z4 - z6)) (x3 + 1)  hf) [2, 3, 1, 0] rfl
def f_X2_netOf (a0 : Option Nat) (a1 : Int32) (m : fk_M) : Option Int32 :=
  f_X2_netOf_L4 a0 a1 m fk_fuel 0 0
set_option maxHeartbeats 4000000 in
theorem c_X2_netOf {l : Launch} {G : fk_G} {b0 : Nat} {n : Nat} {a0 : Option Nat} {a1 : Int32} {m : fk_M} {r : Int32} (hf : f_X2_netOf a0 a1 m = some r) : fk_Ct l G b0 yX2_netOf cX2_netOf 4 (some .int) 2 82 [tR a0, tI a1] n m (some (tI r)) n m 0 0 := by
  refine fk_enter n_X2_netOf.1 rfl ?_
  intro E X0 Y
  have X : fk_X E l G b0 "FigureKneeModel" "netOf" cX2_netOf 4 2 82 0 0 := X0
  show fk_W E 4 n m 0 0 0 [(0, tR a0), (1, tI a1)] []
  unfold f_X2_netOf at hf
  refine fk_iconst (v := 0) X dX2_netOf_0 rfl ?_
  refine fk_istore_n X [(2, tI 0), (0, tR a0), (1, tI a1)] dX2_netOf_1 rfl rfl ?_
  refine fk_iconst (v := 0) X dX2_netOf_2 rfl ?_
  refine fk_istore_n X [(3, tI 0), (2, tI 0), (0, tR a0), (1, tI a1)] dX2_netOf_3 rfl rfl ?_
  exact fk_cut' (w_X2_netOf_L4 X Y a0 a1 fk_fuel 0 0 hf) [2, 3, 1, 0] rfl
/-! FigureKneeModel net (I)I -/
theorem n_X2_net : fk_N yX2_net 1 := ⟨by decide +kernel, by decide +kernel, by decide +kernel, by decide +kernel⟩
def f_X2_net (a0 : Option Nat) (a1 : Int32) (m0 : fk_M) : Option (Int32 × fk_M) :=
  (isO m0 a0 1).bind fun u1 => (f_X2_good a0 m0).bind fun m2 => (isO m2 a0 1).bind fun u3 => (f_X2_isPair a0 a1 m2).bind fun z4 => if z4 = 0 then ((pV m2 a0 1 11 (tI 1)).bind fun m5 => some ((-1000000), m5)) else ((isO m2 a0 1).bind fun u6 => (f_X2_netOf a0 a1 m2).bind fun z7 => some (z7, m2))
set_option maxHeartbeats 4000000 in
theorem c_X2_net {l : Launch} {G : fk_G} {b0 : Nat} {n : Nat} {a0 : Option Nat} {a1 : Int32} {m0 : fk_M} {r : Int32} {mF : fk_M} (hf : f_X2_net a0 a1 m0 = some (r, mF)) : fk_Ct l G b0 yX2_net cX2_net 2 (some .int) 3 105 [tR a0, tI a1] n m0 (some (tI r)) n mF 0 0 := by
  refine fk_enter n_X2_net.1 rfl ?_
  intro E X0 Y
  have X : fk_X E l G b0 "FigureKneeModel" "net" cX2_net 2 3 105 0 0 := X0
  show fk_W E 2 n m0 0 0 0 [(0, tR a0), (1, tI a1)] []
  unfold f_X2_net at hf
  refine fk_aload_n X 0 dX2_net_0 rfl ?_
  obtain ⟨u1, hq, hf⟩ := bI hf
  obtain ⟨m2, hv, hf⟩ := bI hf
  refine fk_callV0V (ci := 1) (rest := []) X hq rfl (c_X2_good hv) n_X2_good q1665 q1667 qs63 q126 q1668 rfl dX2_net_1 rfl rfl rfl rfl rfl (Nat.le_refl _) (Nat.le_refl _) ?_
  refine fk_aload_n X 0 dX2_net_4 rfl ?_
  refine fk_iload_n X 1 dX2_net_5 rfl ?_
  obtain ⟨u3, hq, hf⟩ := bI hf
  obtain ⟨z4, hv, hf⟩ := bI hf
  refine fk_callV0I (ci := 1) (rest := []) X hq rfl (c_X2_isPair hv) n_X2_isPair q1820 q1822 qs87 q126 q1823 rfl dX2_net_6 rfl rfl rfl rfl rfl (Nat.le_refl _) (Nat.le_refl _) ?_
  refine fk_if_eq' X 18 dX2_net_9 rfl hf (fun hf => ?_) (fun hf => ?_)
  · refine fk_aload_n X 0 dX2_net_18 rfl ?_
    refine fk_iconst (v := 1) X dX2_net_19 rfl ?_
    refine fk_putI' X fd_1_11 q1537 dX2_net_20 (fit_I _) hf (fun m5 hf => ?_)
    refine fk_ldcw X q2040 dX2_net_23 ?_
    cases hf
    exact fk_ireturn X Y dX2_net_26 rfl
  · refine fk_aload_n X 0 dX2_net_12 rfl ?_
    refine fk_iload_n X 1 dX2_net_13 rfl ?_
    obtain ⟨u6, hq, hf⟩ := bI hf
    obtain ⟨z7, hv, hf⟩ := bI hf
    refine fk_callV0I (ci := 1) (rest := []) X hq rfl (c_X2_netOf hv) n_X2_netOf q2036 q2038 qs110 q126 q2039 rfl dX2_net_14 rfl rfl rfl rfl rfl (Nat.le_refl _) (Nat.le_refl _) ?_
    cases hf
    exact fk_ireturn X Y dX2_net_17 rfl
/-! FigureKneeModel due ()I -/
theorem n_X2_due : fk_N yX2_due 0 := ⟨by decide +kernel, by decide +kernel, by decide +kernel, by decide +kernel⟩
def f_X2_due_J49 (R21 : Int32 → Int32 → Option (Int32 × fk_M)) (x0 : Option Nat) (x2 : Int32) (y0 : Int32) (y1 : Int32) (m0 : fk_M) : Option (Int32 × fk_M) :=
  R21 (y1 + y0) (x2 + 1)
set_option maxHeartbeats 4000000 in
theorem w_X2_due_J49 {E : fk_E} {l : Launch} {G : fk_G} {b0 n : Nat} {r : Int32} {mF : fk_M} (X : fk_X E l G b0 "FigureKneeModel" "due" cX2_due 3 3 105 0 0) (Y : fk_Y E (some .int) (some (tI r)) n mF 0 0) (x0 : Option Nat) (x2 : Int32) (y0 : Int32) (y1 : Int32) (m0 : fk_M) {R21 : Int32 → Int32 → Option (Int32 × fk_M)} (hR21 : ∀ (v1 : Int32) (v2 : Int32), R21 v1 v2 = some (r, mF) → fk_W E 3 n m0 0 0 21 [(0, tR x0), (1, tI v1), (2, tI v2)] []) (hf : f_X2_due_J49 R21 x0 x2 y0 y1 m0 = some (r, mF)) : fk_W E 3 n m0 0 0 49 [(0, tR x0), (2, tI x2)] [tI y0, tI y1] := by
  unfold f_X2_due_J49 at hf
  refine fk_iadd X dX2_due_49 ?_
  refine fk_istore_n X [(1, tI (y1 + y0)), (0, tR x0), (2, tI x2)] dX2_due_50 rfl rfl ?_
  refine fk_iinc X 2 [(2, tI (x2 + 1)), (1, tI (y1 + y0)), (0, tR x0)] dX2_due_51 rfl rfl rfl rfl ?_
  refine fk_goto X 21 dX2_due_54 rfl ?_
  exact fk_cut' (hR21 (y1 + y0) (x2 + 1)  hf) [2, 1, 0] rfl
def f_X2_due_L21 (x0 : Option Nat) (m0 : fk_M) : Nat → Int32 → Int32 → Option (Int32 × fk_M)
  | 0, _, _ => none
  | N + 1, x1, x2 =>
  (gR m0 x0 1 15).bind fun z1 => (aI m0 z1 0 2).bind fun z2 => if z2 ≤ x2 then (some (x1, m0)) else ((isO m0 x0 1).bind fun u3 => (f_X2_netOf x0 x2 m0).bind fun z4 => if z4 ≤ 0 then (f_X2_due_J49 (f_X2_due_L21 x0 m0 N) x0 x2 0 x1 m0) else ((isO m0 x0 1).bind fun u5 => (f_X2_netOf x0 x2 m0).bind fun z6 => f_X2_due_J49 (f_X2_due_L21 x0 m0 N) x0 x2 z6 x1 m0))
set_option maxHeartbeats 4000000 in
theorem w_X2_due_L21 {E : fk_E} {l : Launch} {G : fk_G} {b0 n : Nat} {r : Int32} {mF : fk_M} (X : fk_X E l G b0 "FigureKneeModel" "due" cX2_due 3 3 105 0 0) (Y : fk_Y E (some .int) (some (tI r)) n mF 0 0) (x0 : Option Nat) (m0 : fk_M) : ∀ (N : Nat) (x1 : Int32) (x2 : Int32), f_X2_due_L21 x0 m0 N x1 x2 = some (r, mF) → fk_W E 3 n m0 0 0 21 [(0, tR x0), (1, tI x1), (2, tI x2)] [] := by
  intro N
  induction N with
  | zero =>
    intro x1 x2 hf
    have hf : (none : Option (Int32 × fk_M)) = some _ := hf
    cases hf
  | succ N ih =>
    intro x1 x2 hf
    rw [f_X2_due_L21] at hf
    refine fk_iload_n X 2 dX2_due_21 rfl ?_
    refine fk_aload_n X 0 dX2_due_22 rfl ?_
    refine fk_getR' X fd_1_15 q1541 dX2_due_23 hf (fun z1 hf => ?_)
    refine fk_iconst (v := 2) X dX2_due_26 rfl ?_
    refine fk_iaload' X dX2_due_27 hf (fun z2 hf => ?_)
    refine fk_icmp_ge' X 57 dX2_due_28 rfl hf (fun hf => ?_) (fun hf => ?_)
    · refine fk_iload_n X 1 dX2_due_57 rfl ?_
      cases hf
      exact fk_ireturn X Y dX2_due_58 rfl
    · refine fk_iload_n X 1 dX2_due_31 rfl ?_
      refine fk_aload_n X 0 dX2_due_32 rfl ?_
      refine fk_iload_n X 2 dX2_due_33 rfl ?_
      obtain ⟨u3, hq, hf⟩ := bI hf
      obtain ⟨z4, hv, hf⟩ := bI hf
      refine fk_callV0I (ci := 1) (rest := [tI x1]) X hq rfl (c_X2_netOf hv) n_X2_netOf q2036 q2038 qs110 q126 q2039 rfl dX2_due_34 rfl rfl rfl rfl rfl (Nat.le_refl _) (Nat.le_refl _) ?_
      refine fk_if_le' X 48 dX2_due_37 rfl hf (fun hf => ?_) (fun hf => ?_)
      · refine fk_iconst (v := 0) X dX2_due_48 rfl ?_
        exact fk_cut' (w_X2_due_J49 X Y x0 x2 0 x1 m0 ih hf) [0, 2] rfl
      · refine fk_aload_n X 0 dX2_due_40 rfl ?_
        refine fk_iload_n X 2 dX2_due_41 rfl ?_
        obtain ⟨u5, hq, hf⟩ := bI hf
        obtain ⟨z6, hv, hf⟩ := bI hf
        refine fk_callV0I (ci := 1) (rest := [tI x1]) X hq rfl (c_X2_netOf hv) n_X2_netOf q2036 q2038 qs110 q126 q2039 rfl dX2_due_42 rfl rfl rfl rfl rfl (Nat.le_refl _) (Nat.le_refl _) ?_
        refine fk_goto X 49 dX2_due_45 rfl ?_
        exact fk_cut' (w_X2_due_J49 X Y x0 x2 z6 x1 m0 ih hf) [0, 2] rfl
def f_X2_due (a0 : Option Nat) (m0 : fk_M) : Option (Int32 × fk_M) :=
  (isO m0 a0 1).bind fun u1 => (f_X2_good a0 m0).bind fun m2 => (gI m2 a0 1 14).bind fun z3 => if z3 = 0 then ((isO m2 a0 1).bind fun u4 => bn2 (f_X2_no a0 1 m2) fun z5 m6 => some (z5, m6)) else (f_X2_due_L21 a0 m2 fk_fuel 0 0)
set_option maxHeartbeats 4000000 in
theorem c_X2_due {l : Launch} {G : fk_G} {b0 : Nat} {n : Nat} {a0 : Option Nat} {m0 : fk_M} {r : Int32} {mF : fk_M} (hf : f_X2_due a0 m0 = some (r, mF)) : fk_Ct l G b0 yX2_due cX2_due 3 (some .int) 3 105 [tR a0] n m0 (some (tI r)) n mF 0 0 := by
  refine fk_enter n_X2_due.1 rfl ?_
  intro E X0 Y
  have X : fk_X E l G b0 "FigureKneeModel" "due" cX2_due 3 3 105 0 0 := X0
  show fk_W E 3 n m0 0 0 0 [(0, tR a0)] []
  unfold f_X2_due at hf
  refine fk_aload_n X 0 dX2_due_0 rfl ?_
  obtain ⟨u1, hq, hf⟩ := bI hf
  obtain ⟨m2, hv, hf⟩ := bI hf
  refine fk_callV0V (ci := 1) (rest := []) X hq rfl (c_X2_good hv) n_X2_good q1665 q1667 qs63 q126 q1668 rfl dX2_due_1 rfl rfl rfl rfl rfl (Nat.le_refl _) (Nat.le_refl _) ?_
  refine fk_aload_n X 0 dX2_due_4 rfl ?_
  refine fk_getI' X fd_1_14 q1540 dX2_due_5 hf (fun z3 hf => ?_)
  refine fk_if_ne' X 17 dX2_due_8 rfl hf (fun hf => ?_) (fun hf => ?_)
  · refine fk_iconst (v := 0) X dX2_due_17 rfl ?_
    refine fk_istore_n X [(1, tI 0), (0, tR a0)] dX2_due_18 rfl rfl ?_
    refine fk_iconst (v := 0) X dX2_due_19 rfl ?_
    refine fk_istore_n X [(2, tI 0), (1, tI 0), (0, tR a0)] dX2_due_20 rfl rfl ?_
    exact fk_cut' (w_X2_due_L21 X Y a0 m2 fk_fuel 0 0 hf) [2, 1, 0] rfl
  · refine fk_aload_n X 0 dX2_due_11 rfl ?_
    refine fk_iconst (v := 1) X dX2_due_12 rfl ?_
    obtain ⟨u4, hq, hf⟩ := bI hf
    obtain ⟨z5, m6, hv, hf⟩ := bn2_eq hf
    refine fk_callV0I (ci := 1) (rest := []) X hq rfl (c_X2_no hv) n_X2_no q1672 q1674 qs64 q126 q1675 rfl dX2_due_13 rfl rfl rfl rfl rfl (Nat.le_refl _) (Nat.le_refl _) ?_
    cases hf
    exact fk_ireturn X Y dX2_due_16 rfl
/-! FigureKneeModel creditor ()I -/
theorem n_X2_creditor : fk_N yX2_creditor 0 := ⟨by decide +kernel, by decide +kernel, by decide +kernel, by decide +kernel⟩
def f_X2_creditor_L21 (x0 : Option Nat) (m0 : fk_M) : Nat → Int32 → Int32 → Option (Int32 × fk_M)
  | 0, _, _ => none
  | N + 1, x1, x2 =>
  (gR m0 x0 1 15).bind fun z1 => (aI m0 z1 0 2).bind fun z2 => if z2 ≤ x2 then (some (x1, m0)) else ((isO m0 x0 1).bind fun u3 => (f_X2_netOf x0 x2 m0).bind fun z4 => (isO m0 x0 1).bind fun u5 => (f_X2_netOf x0 x1 m0).bind fun z6 => f_X2_creditor_L21 x0 m0 N (if z4 ≤ z6 then x1 else x2) (x2 + 1))
set_option maxHeartbeats 4000000 in
theorem w_X2_creditor_L21 {E : fk_E} {l : Launch} {G : fk_G} {b0 n : Nat} {r : Int32} {mF : fk_M} (X : fk_X E l G b0 "FigureKneeModel" "creditor" cX2_creditor 3 3 105 0 0) (Y : fk_Y E (some .int) (some (tI r)) n mF 0 0) (x0 : Option Nat) (m0 : fk_M) : ∀ (N : Nat) (x1 : Int32) (x2 : Int32), f_X2_creditor_L21 x0 m0 N x1 x2 = some (r, mF) → fk_W E 3 n m0 0 0 21 [(0, tR x0), (1, tI x1), (2, tI x2)] [] := by
  intro N
  induction N with
  | zero =>
    intro x1 x2 hf
    have hf : (none : Option (Int32 × fk_M)) = some _ := hf
    cases hf
  | succ N ih =>
    intro x1 x2 hf
    rw [f_X2_creditor_L21] at hf
    refine fk_iload_n X 2 dX2_creditor_21 rfl ?_
    refine fk_aload_n X 0 dX2_creditor_22 rfl ?_
    refine fk_getR' X fd_1_15 q1541 dX2_creditor_23 hf (fun z1 hf => ?_)
    refine fk_iconst (v := 2) X dX2_creditor_26 rfl ?_
    refine fk_iaload' X dX2_creditor_27 hf (fun z2 hf => ?_)
    refine fk_icmp_ge' X 52 dX2_creditor_28 rfl hf (fun hf => ?_) (fun hf => ?_)
    · refine fk_iload_n X 1 dX2_creditor_52 rfl ?_
      cases hf
      exact fk_ireturn X Y dX2_creditor_53 rfl
    · refine fk_aload_n X 0 dX2_creditor_31 rfl ?_
      refine fk_iload_n X 2 dX2_creditor_32 rfl ?_
      obtain ⟨u3, hq, hf⟩ := bI hf
      obtain ⟨z4, hv, hf⟩ := bI hf
      refine fk_callV0I (ci := 1) (rest := []) X hq rfl (c_X2_netOf hv) n_X2_netOf q2036 q2038 qs110 q126 q2039 rfl dX2_creditor_33 rfl rfl rfl rfl rfl (Nat.le_refl _) (Nat.le_refl _) ?_
      refine fk_aload_n X 0 dX2_creditor_36 rfl ?_
      refine fk_iload_n X 1 dX2_creditor_37 rfl ?_
      obtain ⟨u5, hq, hf⟩ := bI hf
      obtain ⟨z6, hv, hf⟩ := bI hf
      refine fk_callV0I (ci := 1) (rest := [tI z4]) X hq rfl (c_X2_netOf hv) n_X2_netOf q2036 q2038 qs110 q126 q2039 rfl dX2_creditor_38 rfl rfl rfl rfl rfl (Nat.le_refl _) (Nat.le_refl _) ?_
      have J1 : fk_W E 3 n m0 0 0 46 [(0, tR x0), (1, tI (if z4 ≤ z6 then x1 else x2)), (2, tI x2)] [] := by
        refine fk_iinc X 2 [(2, tI (x2 + 1)), (0, tR x0), (1, tI (if z4 ≤ z6 then x1 else x2))] dX2_creditor_46 rfl rfl rfl rfl ?_
        refine fk_goto X 21 dX2_creditor_49 rfl ?_
        exact fk_cut' (ih (if z4 ≤ z6 then x1 else x2) (x2 + 1)  hf) [1, 2, 0] rfl
      refine fk_icmp_le X 46 dX2_creditor_41 rfl (fun hc2 => ?_) (fun hc2 => ?_)
      · simp only [if_pos hc2] at J1
        exact fk_cut' J1 [0, 1, 2] rfl
      · refine fk_iload_n X 2 dX2_creditor_44 rfl ?_
        refine fk_istore_n X [(1, tI x2), (0, tR x0), (2, tI x2)] dX2_creditor_45 rfl rfl ?_
        simp only [if_neg hc2] at J1
        exact fk_cut' J1 [1, 0, 2] rfl
def f_X2_creditor (a0 : Option Nat) (m0 : fk_M) : Option (Int32 × fk_M) :=
  (isO m0 a0 1).bind fun u1 => (f_X2_good a0 m0).bind fun m2 => (gI m2 a0 1 14).bind fun z3 => if z3 = 0 then ((isO m2 a0 1).bind fun u4 => bn2 (f_X2_no a0 1 m2) fun z5 m6 => some (z5, m6)) else (f_X2_creditor_L21 a0 m2 fk_fuel 0 1)
set_option maxHeartbeats 4000000 in
theorem c_X2_creditor {l : Launch} {G : fk_G} {b0 : Nat} {n : Nat} {a0 : Option Nat} {m0 : fk_M} {r : Int32} {mF : fk_M} (hf : f_X2_creditor a0 m0 = some (r, mF)) : fk_Ct l G b0 yX2_creditor cX2_creditor 3 (some .int) 3 105 [tR a0] n m0 (some (tI r)) n mF 0 0 := by
  refine fk_enter n_X2_creditor.1 rfl ?_
  intro E X0 Y
  have X : fk_X E l G b0 "FigureKneeModel" "creditor" cX2_creditor 3 3 105 0 0 := X0
  show fk_W E 3 n m0 0 0 0 [(0, tR a0)] []
  unfold f_X2_creditor at hf
  refine fk_aload_n X 0 dX2_creditor_0 rfl ?_
  obtain ⟨u1, hq, hf⟩ := bI hf
  obtain ⟨m2, hv, hf⟩ := bI hf
  refine fk_callV0V (ci := 1) (rest := []) X hq rfl (c_X2_good hv) n_X2_good q1665 q1667 qs63 q126 q1668 rfl dX2_creditor_1 rfl rfl rfl rfl rfl (Nat.le_refl _) (Nat.le_refl _) ?_
  refine fk_aload_n X 0 dX2_creditor_4 rfl ?_
  refine fk_getI' X fd_1_14 q1540 dX2_creditor_5 hf (fun z3 hf => ?_)
  refine fk_if_ne' X 17 dX2_creditor_8 rfl hf (fun hf => ?_) (fun hf => ?_)
  · refine fk_iconst (v := 0) X dX2_creditor_17 rfl ?_
    refine fk_istore_n X [(1, tI 0), (0, tR a0)] dX2_creditor_18 rfl rfl ?_
    refine fk_iconst (v := 1) X dX2_creditor_19 rfl ?_
    refine fk_istore_n X [(2, tI 1), (1, tI 0), (0, tR a0)] dX2_creditor_20 rfl rfl ?_
    exact fk_cut' (w_X2_creditor_L21 X Y a0 m2 fk_fuel 0 1 hf) [2, 1, 0] rfl
  · refine fk_aload_n X 0 dX2_creditor_11 rfl ?_
    refine fk_iconst (v := 1) X dX2_creditor_12 rfl ?_
    obtain ⟨u4, hq, hf⟩ := bI hf
    obtain ⟨z5, m6, hv, hf⟩ := bn2_eq hf
    refine fk_callV0I (ci := 1) (rest := []) X hq rfl (c_X2_no hv) n_X2_no q1672 q1674 qs64 q126 q1675 rfl dX2_creditor_13 rfl rfl rfl rfl rfl (Nat.le_refl _) (Nat.le_refl _) ?_
    cases hf
    exact fk_ireturn X Y dX2_creditor_16 rfl
/-! FigureKneeModel ones (I)I -/
theorem n_X2_ones : fk_N yX2_ones 1 := ⟨by decide +kernel, by decide +kernel, by decide +kernel, by decide +kernel⟩
def f_X2_ones_L4 (x0 : Int32) (m : fk_M) : Nat → Int32 → Int32 → Option Int32
  | 0, _, _ => none
  | N + 1, x1, x2 =>
  if 8 ≤ x2 then (some x1) else (f_X2_ones_L4 x0 m N (x1 + ((i_shr x0 x2) &&& 1)) (x2 + 1))
set_option maxHeartbeats 4000000 in
theorem w_X2_ones_L4 {E : fk_E} {l : Launch} {G : fk_G} {b0 n : Nat} {m : fk_M} {r : Int32} (X : fk_X E l G b0 "FigureKneeModel" "ones" cX2_ones 3 1 60 0 0) (Y : fk_Y E (some .int) (some (tI r)) n m 0 0) (x0 : Int32) : ∀ (N : Nat) (x1 : Int32) (x2 : Int32), f_X2_ones_L4 x0 m N x1 x2 = some r → fk_W E 3 n m 0 0 4 [(0, tI x0), (1, tI x1), (2, tI x2)] [] := by
  intro N
  induction N with
  | zero =>
    intro x1 x2 hf
    have hf : (none : Option Int32) = some _ := hf
    cases hf
  | succ N ih =>
    intro x1 x2 hf
    rw [f_X2_ones_L4] at hf
    refine fk_iload_n X 2 dX2_ones_4 rfl ?_
    refine fk_bipush (v := 8) X dX2_ones_5 rfl ?_
    refine fk_icmp_ge' X 24 dX2_ones_7 rfl hf (fun hf => ?_) (fun hf => ?_)
    · refine fk_iload_n X 1 dX2_ones_24 rfl ?_
      cases hf
      exact fk_ireturn X Y dX2_ones_25 rfl
    · refine fk_iload_n X 1 dX2_ones_10 rfl ?_
      refine fk_iload_n X 0 dX2_ones_11 rfl ?_
      refine fk_iload_n X 2 dX2_ones_12 rfl ?_
      refine fk_ishr X dX2_ones_13 ?_
      refine fk_iconst (v := 1) X dX2_ones_14 rfl ?_
      refine fk_iand X dX2_ones_15 ?_
      refine fk_iadd X dX2_ones_16 ?_
      refine fk_istore_n X [(1, tI (x1 + ((i_shr x0 x2) &&& 1))), (0, tI x0), (2, tI x2)] dX2_ones_17 rfl rfl ?_
      refine fk_iinc X 2 [(2, tI (x2 + 1)), (1, tI (x1 + ((i_shr x0 x2) &&& 1))), (0, tI x0)] dX2_ones_18 rfl rfl rfl rfl ?_
      refine fk_goto X 4 dX2_ones_21 rfl ?_
      exact fk_cut' (ih (x1 + ((i_shr x0 x2) &&& 1)) (x2 + 1)  hf) [2, 1, 0] rfl
def f_X2_ones (a0 : Int32) (m : fk_M) : Option Int32 :=
  f_X2_ones_L4 a0 m fk_fuel 0 0
set_option maxHeartbeats 4000000 in
theorem c_X2_ones {l : Launch} {G : fk_G} {b0 : Nat} {n : Nat} {a0 : Int32} {m : fk_M} {r : Int32} (hf : f_X2_ones a0 m = some r) : fk_Ct l G b0 yX2_ones cX2_ones 3 (some .int) 1 60 [tI a0] n m (some (tI r)) n m 0 0 := by
  refine fk_enter n_X2_ones.1 rfl ?_
  intro E X0 Y
  have X : fk_X E l G b0 "FigureKneeModel" "ones" cX2_ones 3 1 60 0 0 := X0
  show fk_W E 3 n m 0 0 0 [(0, tI a0)] []
  unfold f_X2_ones at hf
  refine fk_iconst (v := 0) X dX2_ones_0 rfl ?_
  refine fk_istore_n X [(1, tI 0), (0, tI a0)] dX2_ones_1 rfl rfl ?_
  refine fk_iconst (v := 0) X dX2_ones_2 rfl ?_
  refine fk_istore_n X [(2, tI 0), (1, tI 0), (0, tI a0)] dX2_ones_3 rfl rfl ?_
  exact fk_cut' (w_X2_ones_L4 X Y a0 fk_fuel 0 0 hf) [2, 1, 0] rfl
/-! FigureKneeModel netsOf (I)I -/
theorem n_X2_netsOf : fk_N yX2_netsOf 1 := ⟨by decide +kernel, by decide +kernel, by decide +kernel, by decide +kernel⟩
def f_X2_netsOf_J32 (R4 : Int32 → Int32 → Option Int32) (x0 : Option Nat) (x1 : Int32) (x3 : Int32) (y0 : Int32) (y1 : Int32) (m : fk_M) : Option Int32 :=
  R4 (y1 + y0) (x3 + 1)
set_option maxHeartbeats 4000000 in
theorem w_X2_netsOf_J32 {E : fk_E} {l : Launch} {G : fk_G} {b0 n : Nat} {m : fk_M} {r : Int32} (X : fk_X E l G b0 "FigureKneeModel" "netsOf" cX2_netsOf 4 3 105 0 0) (Y : fk_Y E (some .int) (some (tI r)) n m 0 0) (x0 : Option Nat) (x1 : Int32) (x3 : Int32) (y0 : Int32) (y1 : Int32) {R4 : Int32 → Int32 → Option Int32} (hR4 : ∀ (v2 : Int32) (v3 : Int32), R4 v2 v3 = some r → fk_W E 4 n m 0 0 4 [(0, tR x0), (1, tI x1), (2, tI v2), (3, tI v3)] []) (hf : f_X2_netsOf_J32 R4 x0 x1 x3 y0 y1 m = some r) : fk_W E 4 n m 0 0 32 [(0, tR x0), (1, tI x1), (3, tI x3)] [tI y0, tI y1] := by
  unfold f_X2_netsOf_J32 at hf
  refine fk_iadd X dX2_netsOf_32 ?_
  refine fk_istore_n X [(2, tI (y1 + y0)), (0, tR x0), (1, tI x1), (3, tI x3)] dX2_netsOf_33 rfl rfl ?_
  refine fk_iinc X 3 [(3, tI (x3 + 1)), (2, tI (y1 + y0)), (0, tR x0), (1, tI x1)] dX2_netsOf_34 rfl rfl rfl rfl ?_
  refine fk_goto X 4 dX2_netsOf_37 rfl ?_
  exact fk_cut' (hR4 (y1 + y0) (x3 + 1)  hf) [2, 3, 1, 0] rfl
def f_X2_netsOf_L4 (x0 : Option Nat) (x1 : Int32) (m : fk_M) : Nat → Int32 → Int32 → Option Int32
  | 0, _, _ => none
  | N + 1, x2, x3 =>
  (gR m x0 1 15).bind fun z1 => (aI m z1 0 2).bind fun z2 => if z2 ≤ x3 then (some x2) else ((f_X2_hasBit x1 x3 m).bind fun z3 => if z3 = 0 then (f_X2_netsOf_J32 (f_X2_netsOf_L4 x0 x1 m N) x0 x1 x3 0 x2 m) else ((isO m x0 1).bind fun u4 => (f_X2_netOf x0 x3 m).bind fun z5 => f_X2_netsOf_J32 (f_X2_netsOf_L4 x0 x1 m N) x0 x1 x3 z5 x2 m))
set_option maxHeartbeats 4000000 in
theorem w_X2_netsOf_L4 {E : fk_E} {l : Launch} {G : fk_G} {b0 n : Nat} {m : fk_M} {r : Int32} (X : fk_X E l G b0 "FigureKneeModel" "netsOf" cX2_netsOf 4 3 105 0 0) (Y : fk_Y E (some .int) (some (tI r)) n m 0 0) (x0 : Option Nat) (x1 : Int32) : ∀ (N : Nat) (x2 : Int32) (x3 : Int32), f_X2_netsOf_L4 x0 x1 m N x2 x3 = some r → fk_W E 4 n m 0 0 4 [(0, tR x0), (1, tI x1), (2, tI x2), (3, tI x3)] [] := by
  intro N
  induction N with
  | zero =>
    intro x2 x3 hf
    have hf : (none : Option Int32) = some _ := hf
    cases hf
  | succ N ih =>
    intro x2 x3 hf
    rw [f_X2_netsOf_L4] at hf
    refine fk_iload_n X 3 dX2_netsOf_4 rfl ?_
    refine fk_aload_n X 0 dX2_netsOf_5 rfl ?_
    refine fk_getR' X fd_1_15 q1541 dX2_netsOf_6 hf (fun z1 hf => ?_)
    refine fk_iconst (v := 2) X dX2_netsOf_9 rfl ?_
    refine fk_iaload' X dX2_netsOf_10 hf (fun z2 hf => ?_)
    refine fk_icmp_ge' X 40 dX2_netsOf_11 rfl hf (fun hf => ?_) (fun hf => ?_)
    · refine fk_iload_n X 2 dX2_netsOf_40 rfl ?_
      cases hf
      exact fk_ireturn X Y dX2_netsOf_41 rfl
    · refine fk_iload_n X 2 dX2_netsOf_14 rfl ?_
      refine fk_iload_n X 1 dX2_netsOf_15 rfl ?_
      refine fk_iload_n X 3 dX2_netsOf_16 rfl ?_
      obtain ⟨z3, hv, hf⟩ := bI hf
      refine fk_callS0I (rest := [tI x2]) X (c_X2_hasBit hv) n_X2_hasBit q1985 q1986 q126 q1987 dX2_netsOf_17 rfl rfl rfl rfl rfl (Nat.le_refl _) (Nat.le_refl _) ?_
      refine fk_if_eq' X 31 dX2_netsOf_20 rfl hf (fun hf => ?_) (fun hf => ?_)
      · refine fk_iconst (v := 0) X dX2_netsOf_31 rfl ?_
        exact fk_cut' (w_X2_netsOf_J32 X Y x0 x1 x3 0 x2 ih hf) [0, 1, 3] rfl
      · refine fk_aload_n X 0 dX2_netsOf_23 rfl ?_
        refine fk_iload_n X 3 dX2_netsOf_24 rfl ?_
        obtain ⟨u4, hq, hf⟩ := bI hf
        obtain ⟨z5, hv, hf⟩ := bI hf
        refine fk_callV0I (ci := 1) (rest := [tI x2]) X hq rfl (c_X2_netOf hv) n_X2_netOf q2036 q2038 qs110 q126 q2039 rfl dX2_netsOf_25 rfl rfl rfl rfl rfl (Nat.le_refl _) (Nat.le_refl _) ?_
        refine fk_goto X 32 dX2_netsOf_28 rfl ?_
        exact fk_cut' (w_X2_netsOf_J32 X Y x0 x1 x3 z5 x2 ih hf) [0, 1, 3] rfl
def f_X2_netsOf (a0 : Option Nat) (a1 : Int32) (m : fk_M) : Option Int32 :=
  f_X2_netsOf_L4 a0 a1 m fk_fuel 0 0
set_option maxHeartbeats 4000000 in
theorem c_X2_netsOf {l : Launch} {G : fk_G} {b0 : Nat} {n : Nat} {a0 : Option Nat} {a1 : Int32} {m : fk_M} {r : Int32} (hf : f_X2_netsOf a0 a1 m = some r) : fk_Ct l G b0 yX2_netsOf cX2_netsOf 4 (some .int) 3 105 [tR a0, tI a1] n m (some (tI r)) n m 0 0 := by
  refine fk_enter n_X2_netsOf.1 rfl ?_
  intro E X0 Y
  have X : fk_X E l G b0 "FigureKneeModel" "netsOf" cX2_netsOf 4 3 105 0 0 := X0
  show fk_W E 4 n m 0 0 0 [(0, tR a0), (1, tI a1)] []
  unfold f_X2_netsOf at hf
  refine fk_iconst (v := 0) X dX2_netsOf_0 rfl ?_
  refine fk_istore_n X [(2, tI 0), (0, tR a0), (1, tI a1)] dX2_netsOf_1 rfl rfl ?_
  refine fk_iconst (v := 0) X dX2_netsOf_2 rfl ?_
  refine fk_istore_n X [(3, tI 0), (2, tI 0), (0, tR a0), (1, tI a1)] dX2_netsOf_3 rfl rfl ?_
  exact fk_cut' (w_X2_netsOf_L4 X Y a0 a1 fk_fuel 0 0 hf) [2, 3, 1, 0] rfl
/-! FigureKneeModel groupsOf (I)I -/
theorem n_X2_groupsOf : fk_N yX2_groupsOf 1 := ⟨by decide +kernel, by decide +kernel, by decide +kernel, by decide +kernel⟩
def f_X2_groupsOf_J60 (Rec : Option Nat → Int32 → fk_M → Option Int32) (R10 : Int32 → Int32 → Option Int32) (x0 : Option Nat) (x1 : Int32) (x2 : Int32) (x3 : Int32) (m : fk_M) : Option Int32 :=
  R10 x2 (x3 + 1)
set_option maxHeartbeats 4000000 in
theorem w_X2_groupsOf_J60 {E : fk_E} {l : Launch} {G : fk_G} {b0 n : Nat} {D : Nat} {m : fk_M} {r : Int32} (X : fk_X E l G b0 "FigureKneeModel" "groupsOf" cX2_groupsOf 5 (4 + (D + 1)) (128 + (D + 1) * 24) 0 0) (Y : fk_Y E (some .int) (some (tI r)) n m 0 0) {Rec : Option Nat → Int32 → fk_M → Option Int32} (hRec : ∀ (w0 : Option Nat) (w1 : Int32) (m9 : fk_M) (r9 : Int32) , Rec w0 w1 m9 = some r9 → fk_Ct l G b0 yX2_groupsOf cX2_groupsOf 5 (some .int) (4 + D) (128 + D * 24) [tR w0, tI w1] n m9 (some (tI r9)) n m9 0 0) (x0 : Option Nat) (x1 : Int32) (x2 : Int32) (x3 : Int32)  {R10 : Int32 → Int32 → Option Int32} (hR10 : ∀ (v2 : Int32) (v3 : Int32), R10 v2 v3 = some r → fk_W E 5 n m 0 0 10 [(0, tR x0), (1, tI x1), (2, tI v2), (3, tI v3)] []) (hf : f_X2_groupsOf_J60 Rec R10 x0 x1 x2 x3 m = some r) : fk_W E 5 n m 0 0 60 [(0, tR x0), (1, tI x1), (2, tI x2), (3, tI x3)] [] := by
  unfold f_X2_groupsOf_J60 at hf
  refine fk_iinc X 3 [(3, tI (x3 + 1)), (0, tR x0), (1, tI x1), (2, tI x2)] dX2_groupsOf_60 rfl rfl rfl rfl ?_
  refine fk_goto X 10 dX2_groupsOf_63 rfl ?_
  exact fk_cut' (hR10 x2 (x3 + 1)  hf) [1, 2, 3, 0] rfl
def f_X2_groupsOf_L10 (Rec : Option Nat → Int32 → fk_M → Option Int32) (x0 : Option Nat) (x1 : Int32) (m : fk_M) : Nat → Int32 → Int32 → Option Int32
  | 0, _, _ => none
  | N + 1, x2, x3 =>
  if x1 ≤ x3 then (some x2) else (if (x3 &&& (x1 ^^^ (-1))) = 0 then ((isO m x0 1).bind fun u1 => (f_X2_netsOf x0 x3 m).bind fun z2 => if z2 = 0 then ((isO m x0 1).bind fun u3 => (Rec x0 (x1 &&& (x3 ^^^ (-1))) m).bind fun z4 => f_X2_groupsOf_J60 Rec (f_X2_groupsOf_L10 Rec x0 x1 m N) x0 x1 (if (1 + z4) ≤ x2 then x2 else (1 + z4)) x3 m) else (f_X2_groupsOf_J60 Rec (f_X2_groupsOf_L10 Rec x0 x1 m N) x0 x1 x2 x3 m)) else (f_X2_groupsOf_J60 Rec (f_X2_groupsOf_L10 Rec x0 x1 m N) x0 x1 x2 x3 m))
set_option maxHeartbeats 4000000 in
theorem w_X2_groupsOf_L10 {E : fk_E} {l : Launch} {G : fk_G} {b0 n : Nat} {D : Nat} {m : fk_M} {r : Int32} (X : fk_X E l G b0 "FigureKneeModel" "groupsOf" cX2_groupsOf 5 (4 + (D + 1)) (128 + (D + 1) * 24) 0 0) (Y : fk_Y E (some .int) (some (tI r)) n m 0 0) {Rec : Option Nat → Int32 → fk_M → Option Int32} (hRec : ∀ (w0 : Option Nat) (w1 : Int32) (m9 : fk_M) (r9 : Int32) , Rec w0 w1 m9 = some r9 → fk_Ct l G b0 yX2_groupsOf cX2_groupsOf 5 (some .int) (4 + D) (128 + D * 24) [tR w0, tI w1] n m9 (some (tI r9)) n m9 0 0) (x0 : Option Nat) (x1 : Int32) : ∀ (N : Nat) (x2 : Int32) (x3 : Int32), f_X2_groupsOf_L10 Rec x0 x1 m N x2 x3 = some r → fk_W E 5 n m 0 0 10 [(0, tR x0), (1, tI x1), (2, tI x2), (3, tI x3)] [] := by
  intro N
  induction N with
  | zero =>
    intro x2 x3 hf
    have hf : (none : Option Int32) = some _ := hf
    cases hf
  | succ N ih =>
    intro x2 x3 hf
    rw [f_X2_groupsOf_L10] at hf
    refine fk_iload_n X 3 dX2_groupsOf_10 rfl ?_
    refine fk_iload_n X 1 dX2_groupsOf_11 rfl ?_
    refine fk_icmp_ge' X 66 dX2_groupsOf_12 rfl hf (fun hf => ?_) (fun hf => ?_)
    · refine fk_iload_n X 2 dX2_groupsOf_66 rfl ?_
      cases hf
      exact fk_ireturn X Y dX2_groupsOf_67 rfl
    · refine fk_iload_n X 3 dX2_groupsOf_15 rfl ?_
      refine fk_iload_n X 1 dX2_groupsOf_16 rfl ?_
      refine fk_iconst (v := (-1)) X dX2_groupsOf_17 rfl ?_
      refine fk_ixor X dX2_groupsOf_18 ?_
      refine fk_iand X dX2_groupsOf_19 ?_
      refine fk_if_ne' X 60 dX2_groupsOf_20 rfl hf (fun hf => ?_) (fun hf => ?_)
      · exact fk_cut' (w_X2_groupsOf_J60 X Y hRec x0 x1 x2 x3 ih hf) [0, 1, 2, 3] rfl
      · refine fk_aload_n X 0 dX2_groupsOf_23 rfl ?_
        refine fk_iload_n X 3 dX2_groupsOf_24 rfl ?_
        obtain ⟨u1, hq, hf⟩ := bI hf
        obtain ⟨z2, hv, hf⟩ := bI hf
        refine fk_callV0I (ci := 1) (rest := []) X hq rfl (c_X2_netsOf hv) n_X2_netsOf q2060 q2062 qs112 q126 q2063 rfl dX2_groupsOf_25 rfl rfl rfl (Nat.ble_eq_true_of_le (by omega)) (Nat.ble_eq_true_of_le (by omega)) (Nat.le_refl _) (Nat.le_refl _) ?_
        refine fk_if_eq' X 34 dX2_groupsOf_28 rfl hf (fun hf => ?_) (fun hf => ?_)
        · refine fk_iconst (v := 1) X dX2_groupsOf_34 rfl ?_
          refine fk_aload_n X 0 dX2_groupsOf_35 rfl ?_
          refine fk_iload_n X 1 dX2_groupsOf_36 rfl ?_
          refine fk_iload_n X 3 dX2_groupsOf_37 rfl ?_
          refine fk_iconst (v := (-1)) X dX2_groupsOf_38 rfl ?_
          refine fk_ixor X dX2_groupsOf_39 ?_
          refine fk_iand X dX2_groupsOf_40 ?_
          obtain ⟨u3, hq, hf⟩ := bI hf
          obtain ⟨z4, hv, hf⟩ := bI hf
          refine fk_callV0I (ci := 1) (rest := [tI 1]) X hq rfl (hRec _ _ _ _ hv) n_X2_groupsOf q2056 q2058 qs111 q126 q2059 rfl dX2_groupsOf_41 rfl rfl rfl (Nat.ble_eq_true_of_le (by omega)) (Nat.ble_eq_true_of_le (by omega)) (Nat.le_refl _) (Nat.le_refl _) ?_
          refine fk_iadd X dX2_groupsOf_44 ?_
          refine fk_istore X [(4, tI (1 + z4)), (0, tR x0), (1, tI x1), (2, tI x2), (3, tI x3)] dX2_groupsOf_45 rfl rfl ?_
          refine fk_iload X 0 dX2_groupsOf_47 rfl ?_
          refine fk_iload_n X 3 dX2_groupsOf_49 rfl ?_
          have J1 : fk_W E 5 n m 0 0 59 [(0, tR x0), (1, tI x1), (3, tI x3)] [tI (if (1 + z4) ≤ x2 then x2 else (1 + z4))] := by
            refine fk_istore_n X [(2, tI (if (1 + z4) ≤ x2 then x2 else (1 + z4))), (0, tR x0), (1, tI x1), (3, tI x3)] dX2_groupsOf_59 rfl rfl ?_
            exact fk_cut' (w_X2_groupsOf_J60 X Y hRec x0 x1 (if (1 + z4) ≤ x2 then x2 else (1 + z4)) x3 ih hf) [1, 2, 0, 3] rfl
          refine fk_icmp_le X 58 dX2_groupsOf_50 rfl (fun hc2 => ?_) (fun hc2 => ?_)
          · refine fk_iload_n X 3 dX2_groupsOf_58 rfl ?_
            simp only [if_pos hc2] at J1
            exact fk_cut' J1 [1, 2, 4] rfl
          · refine fk_iload X 0 dX2_groupsOf_53 rfl ?_
            refine fk_goto X 59 dX2_groupsOf_55 rfl ?_
            simp only [if_neg hc2] at J1
            exact fk_cut' J1 [1, 2, 4] rfl
        · refine fk_goto X 60 dX2_groupsOf_31 rfl ?_
          exact fk_cut' (w_X2_groupsOf_J60 X Y hRec x0 x1 x2 x3 ih hf) [0, 1, 2, 3] rfl
def f_X2_groupsOf : Nat → Option Nat → Int32 → fk_M → Option Int32
  | 0, _, _, _ => none
  | D + 1, a0, a1, m =>
  if a1 = 0 then (some 0) else (f_X2_groupsOf_L10 (f_X2_groupsOf D) a0 a1 m fk_fuel 1 1)
set_option maxHeartbeats 4000000 in
theorem cd_X2_groupsOf {l : Launch} {G : fk_G} {b0 n : Nat} : ∀ (D : Nat) (a0 : Option Nat) (a1 : Int32) (m : fk_M) (r : Int32) , f_X2_groupsOf D a0 a1 m = some r → fk_Ct l G b0 yX2_groupsOf cX2_groupsOf 5 (some .int) (4 + D) (128 + D * 24) [tR a0, tI a1] n m (some (tI r)) n m 0 0 := by
  intro D
  induction D with
  | zero =>
    intro a0 a1 m r hf
    have hf : (none : Option Int32) = some _ := hf
    cases hf
  | succ D hRec =>
    intro a0 a1 m r hf
    rw [f_X2_groupsOf] at hf
    refine fk_enter n_X2_groupsOf.1 rfl ?_
    intro E X0 Y
    have X : fk_X E l G b0 "FigureKneeModel" "groupsOf" cX2_groupsOf 5 (4 + (D + 1)) (128 + (D + 1) * 24) 0 0 := X0
    show fk_W E 5 n m 0 0 0 [(0, tR a0), (1, tI a1)] []
    refine fk_iload_n X 1 dX2_groupsOf_0 rfl ?_
    refine fk_if_ne' X 6 dX2_groupsOf_1 rfl hf (fun hf => ?_) (fun hf => ?_)
    · refine fk_iconst (v := 1) X dX2_groupsOf_6 rfl ?_
      refine fk_istore_n X [(2, tI 1), (0, tR a0), (1, tI a1)] dX2_groupsOf_7 rfl rfl ?_
      refine fk_iconst (v := 1) X dX2_groupsOf_8 rfl ?_
      refine fk_istore_n X [(3, tI 1), (2, tI 1), (0, tR a0), (1, tI a1)] dX2_groupsOf_9 rfl rfl ?_
      exact fk_cut' (w_X2_groupsOf_L10 X Y hRec a0 a1 fk_fuel 1 1 hf) [2, 3, 1, 0] rfl
    · refine fk_iconst (v := 0) X dX2_groupsOf_4 rfl ?_
      cases hf
      exact fk_ireturn X Y dX2_groupsOf_5 rfl
theorem c_X2_groupsOf {l : Launch} {G : fk_G} {b0 n D : Nat} {a0 : Option Nat} {a1 : Int32} {m : fk_M} {r : Int32} (h : f_X2_groupsOf D a0 a1 m = some r) : fk_Ct l G b0 yX2_groupsOf cX2_groupsOf 5 (some .int) (4 + D) (128 + D * 24) [tR a0, tI a1] n m (some (tI r)) n m 0 0 := cd_X2_groupsOf D _ _ _ _ h
/-! FigureKneeModel payments ()I -/
theorem n_X2_payments : fk_N yX2_payments 0 := ⟨by decide +kernel, by decide +kernel, by decide +kernel, by decide +kernel⟩
def f_X2_payments_L21 (x0 : Option Nat) (m0 : fk_M) : Nat → Int32 → Int32 → Option (Int32 × fk_M)
  | 0, _, _ => none
  | N + 1, x1, x2 =>
  (gR m0 x0 1 15).bind fun z1 => (aI m0 z1 0 2).bind fun z2 => if z2 ≤ x2 then ((f_X2_ones x1 m0).bind fun z3 => (isO m0 x0 1).bind fun u4 => (f_X2_groupsOf 8 x0 x1 m0).bind fun z5 => some ((z3 - z5), m0)) else ((isO m0 x0 1).bind fun u6 => (f_X2_netOf x0 x2 m0).bind fun z7 => f_X2_payments_L21 x0 m0 N (x1 ||| (if z7 = 0 then (0 : Int32) else (i_shl 1 x2))) (x2 + 1))
set_option maxHeartbeats 4000000 in
theorem w_X2_payments_L21 {E : fk_E} {l : Launch} {G : fk_G} {b0 n : Nat} {r : Int32} {mF : fk_M} (X : fk_X E l G b0 "FigureKneeModel" "payments" cX2_payments 3 13 344 0 0) (Y : fk_Y E (some .int) (some (tI r)) n mF 0 0) (x0 : Option Nat) (m0 : fk_M) : ∀ (N : Nat) (x1 : Int32) (x2 : Int32), f_X2_payments_L21 x0 m0 N x1 x2 = some (r, mF) → fk_W E 3 n m0 0 0 21 [(0, tR x0), (1, tI x1), (2, tI x2)] [] := by
  intro N
  induction N with
  | zero =>
    intro x1 x2 hf
    have hf : (none : Option (Int32 × fk_M)) = some _ := hf
    cases hf
  | succ N ih =>
    intro x1 x2 hf
    rw [f_X2_payments_L21] at hf
    refine fk_iload_n X 2 dX2_payments_21 rfl ?_
    refine fk_aload_n X 0 dX2_payments_22 rfl ?_
    refine fk_getR' X fd_1_15 q1541 dX2_payments_23 hf (fun z1 hf => ?_)
    refine fk_iconst (v := 2) X dX2_payments_26 rfl ?_
    refine fk_iaload' X dX2_payments_27 hf (fun z2 hf => ?_)
    refine fk_icmp_ge' X 55 dX2_payments_28 rfl hf (fun hf => ?_) (fun hf => ?_)
    · refine fk_iload_n X 1 dX2_payments_55 rfl ?_
      obtain ⟨z3, hv, hf⟩ := bI hf
      refine fk_callS0I (rest := []) X (c_X2_ones hv) n_X2_ones q2053 q2054 q126 q2055 dX2_payments_56 rfl rfl rfl rfl rfl (Nat.le_refl _) (Nat.le_refl _) ?_
      refine fk_aload_n X 0 dX2_payments_59 rfl ?_
      refine fk_iload_n X 1 dX2_payments_60 rfl ?_
      obtain ⟨u4, hq, hf⟩ := bI hf
      obtain ⟨z5, hv, hf⟩ := bI hf
      refine fk_callV0I (ci := 1) (rest := [tI z3]) X hq rfl (c_X2_groupsOf hv) n_X2_groupsOf q2056 q2058 qs111 q126 q2059 rfl dX2_payments_61 rfl rfl rfl rfl rfl (Nat.le_refl _) (Nat.le_refl _) ?_
      refine fk_isub X dX2_payments_64 ?_
      cases hf
      exact fk_ireturn X Y dX2_payments_65 rfl
    · refine fk_iload_n X 1 dX2_payments_31 rfl ?_
      refine fk_aload_n X 0 dX2_payments_32 rfl ?_
      refine fk_iload_n X 2 dX2_payments_33 rfl ?_
      obtain ⟨u6, hq, hf⟩ := bI hf
      obtain ⟨z7, hv, hf⟩ := bI hf
      refine fk_callV0I (ci := 1) (rest := [tI x1]) X hq rfl (c_X2_netOf hv) n_X2_netOf q2036 q2038 qs110 q126 q2039 rfl dX2_payments_34 rfl rfl rfl rfl rfl (Nat.le_refl _) (Nat.le_refl _) ?_
      have J1 : fk_W E 3 n m0 0 0 47 [(0, tR x0), (2, tI x2)] [tI (if z7 = 0 then (0 : Int32) else (i_shl 1 x2)), tI x1] := by
        refine fk_ior X dX2_payments_47 ?_
        refine fk_istore_n X [(1, tI (x1 ||| (if z7 = 0 then (0 : Int32) else (i_shl 1 x2)))), (0, tR x0), (2, tI x2)] dX2_payments_48 rfl rfl ?_
        refine fk_iinc X 2 [(2, tI (x2 + 1)), (1, tI (x1 ||| (if z7 = 0 then (0 : Int32) else (i_shl 1 x2)))), (0, tR x0)] dX2_payments_49 rfl rfl rfl rfl ?_
        refine fk_goto X 21 dX2_payments_52 rfl ?_
        exact fk_cut' (ih (x1 ||| (if z7 = 0 then (0 : Int32) else (i_shl 1 x2))) (x2 + 1)  hf) [2, 1, 0] rfl
      refine fk_if_ne X 44 dX2_payments_37 rfl (fun hc2 => ?_) (fun hc2 => ?_)
      · refine fk_iconst (v := 1) X dX2_payments_44 rfl ?_
        refine fk_iload_n X 2 dX2_payments_45 rfl ?_
        refine fk_ishl X dX2_payments_46 ?_
        simp only [if_neg hc2] at J1
        exact fk_cut' J1 [0, 2] rfl
      · refine fk_iconst (v := 0) X dX2_payments_40 rfl ?_
        refine fk_goto X 47 dX2_payments_41 rfl ?_
        simp only [if_pos hc2] at J1
        exact fk_cut' J1 [0, 2] rfl
def f_X2_payments (a0 : Option Nat) (m0 : fk_M) : Option (Int32 × fk_M) :=
  (isO m0 a0 1).bind fun u1 => (f_X2_good a0 m0).bind fun m2 => (gI m2 a0 1 14).bind fun z3 => if z3 = 0 then ((isO m2 a0 1).bind fun u4 => bn2 (f_X2_no a0 1 m2) fun z5 m6 => some (z5, m6)) else (f_X2_payments_L21 a0 m2 fk_fuel 0 0)
set_option maxHeartbeats 4000000 in
theorem c_X2_payments {l : Launch} {G : fk_G} {b0 : Nat} {n : Nat} {a0 : Option Nat} {m0 : fk_M} {r : Int32} {mF : fk_M} (hf : f_X2_payments a0 m0 = some (r, mF)) : fk_Ct l G b0 yX2_payments cX2_payments 3 (some .int) 13 344 [tR a0] n m0 (some (tI r)) n mF 0 0 := by
  refine fk_enter n_X2_payments.1 rfl ?_
  intro E X0 Y
  have X : fk_X E l G b0 "FigureKneeModel" "payments" cX2_payments 3 13 344 0 0 := X0
  show fk_W E 3 n m0 0 0 0 [(0, tR a0)] []
  unfold f_X2_payments at hf
  refine fk_aload_n X 0 dX2_payments_0 rfl ?_
  obtain ⟨u1, hq, hf⟩ := bI hf
  obtain ⟨m2, hv, hf⟩ := bI hf
  refine fk_callV0V (ci := 1) (rest := []) X hq rfl (c_X2_good hv) n_X2_good q1665 q1667 qs63 q126 q1668 rfl dX2_payments_1 rfl rfl rfl rfl rfl (Nat.le_refl _) (Nat.le_refl _) ?_
  refine fk_aload_n X 0 dX2_payments_4 rfl ?_
  refine fk_getI' X fd_1_14 q1540 dX2_payments_5 hf (fun z3 hf => ?_)
  refine fk_if_ne' X 17 dX2_payments_8 rfl hf (fun hf => ?_) (fun hf => ?_)
  · refine fk_iconst (v := 0) X dX2_payments_17 rfl ?_
    refine fk_istore_n X [(1, tI 0), (0, tR a0)] dX2_payments_18 rfl rfl ?_
    refine fk_iconst (v := 0) X dX2_payments_19 rfl ?_
    refine fk_istore_n X [(2, tI 0), (1, tI 0), (0, tR a0)] dX2_payments_20 rfl rfl ?_
    exact fk_cut' (w_X2_payments_L21 X Y a0 m2 fk_fuel 0 0 hf) [2, 1, 0] rfl
  · refine fk_aload_n X 0 dX2_payments_11 rfl ?_
    refine fk_iconst (v := 1) X dX2_payments_12 rfl ?_
    obtain ⟨u4, hq, hf⟩ := bI hf
    obtain ⟨z5, m6, hv, hf⟩ := bn2_eq hf
    refine fk_callV0I (ci := 1) (rest := []) X hq rfl (c_X2_no hv) n_X2_no q1672 q1674 qs64 q126 q1675 rfl dX2_payments_13 rfl rfl rfl rfl rfl (Nat.le_refl _) (Nat.le_refl _) ?_
    cases hf
    exact fk_ireturn X Y dX2_payments_16 rfl
/-! FigureKneeModel tryRing (II)V -/
theorem n_X2_tryRing : fk_N yX2_tryRing 2 := ⟨by decide +kernel, by decide +kernel, by decide +kernel, by decide +kernel⟩
def f_X2_tryRing_J113 (Rec : Option Nat → Int32 → Int32 → fk_M → Option fk_M) (R57 : Int32 → fk_M → Option fk_M) (x0 : Option Nat) (x1 : Int32) (x2 : Int32) (x3 : Int32) (m0 : fk_M) : Option fk_M :=
  R57 (x3 + 1) m0
set_option maxHeartbeats 4000000 in
theorem w_X2_tryRing_J113 {E : fk_E} {l : Launch} {G : fk_G} {b0 n : Nat} {D : Nat} {mF : fk_M} (X : fk_X E l G b0 "FigureKneeModel" "tryRing" cX2_tryRing 4 (2 + (D + 1)) (85 + (D + 1) * 23) 0 0) (Y : fk_Y E none none n mF 0 0) {Rec : Option Nat → Int32 → Int32 → fk_M → Option fk_M} (hRec : ∀ (w0 : Option Nat) (w1 : Int32) (w2 : Int32) (m9 : fk_M) (mF9 : fk_M) , Rec w0 w1 w2 m9 = some mF9 → fk_Ct l G b0 yX2_tryRing cX2_tryRing 4 none (2 + D) (85 + D * 23) [tR w0, tI w1, tI w2] n m9 none n mF9 0 0) (x0 : Option Nat) (x1 : Int32) (x2 : Int32) (x3 : Int32)  (m0 : fk_M) {R57 : Int32 → fk_M → Option fk_M} (hR57 : ∀ (v3 : Int32) (m9 : fk_M), R57 v3 m9 = some mF → fk_W E 4 n m9 0 0 57 [(0, tR x0), (1, tI x1), (2, tI x2), (3, tI v3)] []) (hf : f_X2_tryRing_J113 Rec R57 x0 x1 x2 x3 m0 = some mF) : fk_W E 4 n m0 0 0 113 [(0, tR x0), (1, tI x1), (2, tI x2), (3, tI x3)] [] := by
  unfold f_X2_tryRing_J113 at hf
  refine fk_iinc X 3 [(3, tI (x3 + 1)), (0, tR x0), (1, tI x1), (2, tI x2)] dX2_tryRing_113 rfl rfl rfl rfl ?_
  refine fk_goto X 57 dX2_tryRing_116 rfl ?_
  exact fk_cut' (hR57 (x3 + 1) m0  hf) [1, 2, 3, 0] rfl
def f_X2_tryRing_L57 (Rec : Option Nat → Int32 → Int32 → fk_M → Option fk_M) (x0 : Option Nat) (x1 : Int32) (x2 : Int32) : Nat → Int32 → fk_M → Option fk_M
  | 0, _, _ => none
  | N + 1, x3, m0 =>
  (gR m0 x0 1 15).bind fun z1 => (aI m0 z1 0 2).bind fun z2 => if z2 ≤ x3 then (some m0) else ((f_X2_hasBit x2 x3 m0).bind fun z3 => if z3 = 0 then ((gR m0 x0 1 34).bind fun z4 => (aI m0 z4 0 (x1 - 1)).bind fun z5 => (isO m0 x0 1).bind fun u6 => (f_X2_debtOf x0 z5 x3 m0).bind fun z7 => if z7 = 0 then (f_X2_tryRing_J113 Rec (f_X2_tryRing_L57 Rec x0 x1 x2 N) x0 x1 x2 x3 m0) else ((gR m0 x0 1 34).bind fun z8 => (sI m0 z8 0 x1 x3).bind fun m9 => (isO m9 x0 1).bind fun u10 => (Rec x0 (x1 + 1) (x2 ||| (i_shl 1 x3)) m9).bind fun m11 => f_X2_tryRing_J113 Rec (f_X2_tryRing_L57 Rec x0 x1 x2 N) x0 x1 x2 x3 m11)) else (f_X2_tryRing_J113 Rec (f_X2_tryRing_L57 Rec x0 x1 x2 N) x0 x1 x2 x3 m0))
set_option maxHeartbeats 4000000 in
theorem w_X2_tryRing_L57 {E : fk_E} {l : Launch} {G : fk_G} {b0 n : Nat} {D : Nat} {mF : fk_M} (X : fk_X E l G b0 "FigureKneeModel" "tryRing" cX2_tryRing 4 (2 + (D + 1)) (85 + (D + 1) * 23) 0 0) (Y : fk_Y E none none n mF 0 0) {Rec : Option Nat → Int32 → Int32 → fk_M → Option fk_M} (hRec : ∀ (w0 : Option Nat) (w1 : Int32) (w2 : Int32) (m9 : fk_M) (mF9 : fk_M) , Rec w0 w1 w2 m9 = some mF9 → fk_Ct l G b0 yX2_tryRing cX2_tryRing 4 none (2 + D) (85 + D * 23) [tR w0, tI w1, tI w2] n m9 none n mF9 0 0) (x0 : Option Nat) (x1 : Int32) (x2 : Int32) : ∀ (N : Nat) (x3 : Int32) (m0 : fk_M), f_X2_tryRing_L57 Rec x0 x1 x2 N x3 m0 = some mF → fk_W E 4 n m0 0 0 57 [(0, tR x0), (1, tI x1), (2, tI x2), (3, tI x3)] [] := by
  intro N
  induction N with
  | zero =>
    intro x3 m0 hf
    have hf : (none : Option fk_M) = some _ := hf
    cases hf
  | succ N ih =>
    intro x3 m0 hf
    rw [f_X2_tryRing_L57] at hf
    refine fk_iload_n X 3 dX2_tryRing_57 rfl ?_
    refine fk_aload_n X 0 dX2_tryRing_58 rfl ?_
    refine fk_getR' X fd_1_15 q1541 dX2_tryRing_59 hf (fun z1 hf => ?_)
    refine fk_iconst (v := 2) X dX2_tryRing_62 rfl ?_
    refine fk_iaload' X dX2_tryRing_63 hf (fun z2 hf => ?_)
    refine fk_icmp_ge' X 119 dX2_tryRing_64 rfl hf (fun hf => ?_) (fun hf => ?_)
    · cases hf
      exact fk_return X Y dX2_tryRing_119
    · refine fk_iload_n X 2 dX2_tryRing_67 rfl ?_
      refine fk_iload_n X 3 dX2_tryRing_68 rfl ?_
      obtain ⟨z3, hv, hf⟩ := bI hf
      refine fk_callS0I (rest := []) X (c_X2_hasBit hv) n_X2_hasBit q1985 q1986 q126 q1987 dX2_tryRing_69 rfl rfl rfl (Nat.ble_eq_true_of_le (by omega)) (Nat.ble_eq_true_of_le (by omega)) (Nat.le_refl _) (Nat.le_refl _) ?_
      refine fk_if_ne' X 113 dX2_tryRing_72 rfl hf (fun hf => ?_) (fun hf => ?_)
      · exact fk_cut' (w_X2_tryRing_J113 X Y hRec x0 x1 x2 x3 m0 ih hf) [0, 1, 2, 3] rfl
      · refine fk_aload_n X 0 dX2_tryRing_75 rfl ?_
        refine fk_aload_n X 0 dX2_tryRing_76 rfl ?_
        refine fk_getR' X fd_1_34 q1560 dX2_tryRing_77 hf (fun z4 hf => ?_)
        refine fk_iload_n X 1 dX2_tryRing_80 rfl ?_
        refine fk_iconst (v := 1) X dX2_tryRing_81 rfl ?_
        refine fk_isub X dX2_tryRing_82 ?_
        refine fk_iaload' X dX2_tryRing_83 hf (fun z5 hf => ?_)
        refine fk_iload_n X 3 dX2_tryRing_84 rfl ?_
        obtain ⟨u6, hq, hf⟩ := bI hf
        obtain ⟨z7, hv, hf⟩ := bI hf
        refine fk_callV0I (ci := 1) (rest := []) X hq rfl (c_X2_debtOf hv) n_X2_debtOf q2028 q2030 qs109 q126 q2031 rfl dX2_tryRing_85 rfl rfl rfl (Nat.ble_eq_true_of_le (by omega)) (Nat.ble_eq_true_of_le (by omega)) (Nat.le_refl _) (Nat.le_refl _) ?_
        refine fk_if_ne' X 94 dX2_tryRing_88 rfl hf (fun hf => ?_) (fun hf => ?_)
        · refine fk_aload_n X 0 dX2_tryRing_94 rfl ?_
          refine fk_getR' X fd_1_34 q1560 dX2_tryRing_95 hf (fun z8 hf => ?_)
          refine fk_iload_n X 1 dX2_tryRing_98 rfl ?_
          refine fk_iload_n X 3 dX2_tryRing_99 rfl ?_
          refine fk_iastore' X dX2_tryRing_100 hf (fun m9 hf => ?_)
          refine fk_aload_n X 0 dX2_tryRing_101 rfl ?_
          refine fk_iload_n X 1 dX2_tryRing_102 rfl ?_
          refine fk_iconst (v := 1) X dX2_tryRing_103 rfl ?_
          refine fk_iadd X dX2_tryRing_104 ?_
          refine fk_iload_n X 2 dX2_tryRing_105 rfl ?_
          refine fk_iconst (v := 1) X dX2_tryRing_106 rfl ?_
          refine fk_iload_n X 3 dX2_tryRing_107 rfl ?_
          refine fk_ishl X dX2_tryRing_108 ?_
          refine fk_ior X dX2_tryRing_109 ?_
          obtain ⟨u10, hq, hf⟩ := bI hf
          obtain ⟨m11, hv, hf⟩ := bI hf
          refine fk_callV0V (ci := 1) (rest := []) X hq rfl (hRec _ _ _ _ _ hv) n_X2_tryRing q2073 q2075 qs114 q126 q2076 rfl dX2_tryRing_110 rfl rfl rfl (Nat.ble_eq_true_of_le (by omega)) (Nat.ble_eq_true_of_le (by omega)) (Nat.le_refl _) (Nat.le_refl _) ?_
          exact fk_cut' (w_X2_tryRing_J113 X Y hRec x0 x1 x2 x3 m11 ih hf) [0, 1, 2, 3] rfl
        · refine fk_goto X 113 dX2_tryRing_91 rfl ?_
          exact fk_cut' (w_X2_tryRing_J113 X Y hRec x0 x1 x2 x3 m0 ih hf) [0, 1, 2, 3] rfl
def f_X2_tryRing_J55 (Rec : Option Nat → Int32 → Int32 → fk_M → Option fk_M) (x0 : Option Nat) (x1 : Int32) (x2 : Int32) (m0 : fk_M) : Option fk_M :=
  f_X2_tryRing_L57 Rec x0 x1 x2 fk_fuel 0 m0
set_option maxHeartbeats 4000000 in
theorem w_X2_tryRing_J55 {E : fk_E} {l : Launch} {G : fk_G} {b0 n : Nat} {D : Nat} {mF : fk_M} (X : fk_X E l G b0 "FigureKneeModel" "tryRing" cX2_tryRing 4 (2 + (D + 1)) (85 + (D + 1) * 23) 0 0) (Y : fk_Y E none none n mF 0 0) {Rec : Option Nat → Int32 → Int32 → fk_M → Option fk_M} (hRec : ∀ (w0 : Option Nat) (w1 : Int32) (w2 : Int32) (m9 : fk_M) (mF9 : fk_M) , Rec w0 w1 w2 m9 = some mF9 → fk_Ct l G b0 yX2_tryRing cX2_tryRing 4 none (2 + D) (85 + D * 23) [tR w0, tI w1, tI w2] n m9 none n mF9 0 0) (x0 : Option Nat) (x1 : Int32) (x2 : Int32)  (m0 : fk_M) (hf : f_X2_tryRing_J55 Rec x0 x1 x2 m0 = some mF) : fk_W E 4 n m0 0 0 55 [(0, tR x0), (1, tI x1), (2, tI x2)] [] := by
  unfold f_X2_tryRing_J55 at hf
  refine fk_iconst (v := 0) X dX2_tryRing_55 rfl ?_
  refine fk_istore_n X [(3, tI 0), (0, tR x0), (1, tI x1), (2, tI x2)] dX2_tryRing_56 rfl rfl ?_
  exact fk_cut' (w_X2_tryRing_L57 X Y hRec x0 x1 x2 fk_fuel 0 m0 hf) [1, 2, 3, 0] rfl
def f_X2_tryRing : Nat → Option Nat → Int32 → Int32 → fk_M → Option fk_M
  | 0, _, _, _, _ => none
  | D + 1, a0, a1, a2, m0 =>
  (gI m0 a0 1 36).bind fun z1 => if a1 < z1 then (if a1 ≤ 1 then (f_X2_tryRing_J55 (f_X2_tryRing D) a0 a1 a2 m0) else ((gR m0 a0 1 34).bind fun z2 => (aI m0 z2 0 (a1 - 1)).bind fun z3 => (gR m0 a0 1 34).bind fun z4 => (aI m0 z4 0 0).bind fun z5 => (isO m0 a0 1).bind fun u6 => (f_X2_debtOf a0 z3 z5 m0).bind fun z7 => if z7 ≤ 0 then (f_X2_tryRing_J55 (f_X2_tryRing D) a0 a1 a2 m0) else ((pV m0 a0 1 36 (tI a1)).bind fun m8 => (gR m8 a0 1 34).bind fun z9 => (gR m8 a0 1 35).bind fun z10 => (f_X2_copy z9 0 z10 0 5 m8).bind fun m11 => some m11))) else (some m0)
set_option maxHeartbeats 4000000 in
theorem cd_X2_tryRing {l : Launch} {G : fk_G} {b0 n : Nat} : ∀ (D : Nat) (a0 : Option Nat) (a1 : Int32) (a2 : Int32) (m0 : fk_M) (mF : fk_M) , f_X2_tryRing D a0 a1 a2 m0 = some mF → fk_Ct l G b0 yX2_tryRing cX2_tryRing 4 none (2 + D) (85 + D * 23) [tR a0, tI a1, tI a2] n m0 none n mF 0 0 := by
  intro D
  induction D with
  | zero =>
    intro a0 a1 a2 m0 mF hf
    have hf : (none : Option fk_M) = some _ := hf
    cases hf
  | succ D hRec =>
    intro a0 a1 a2 m0 mF hf
    rw [f_X2_tryRing] at hf
    refine fk_enter n_X2_tryRing.1 rfl ?_
    intro E X0 Y
    have X : fk_X E l G b0 "FigureKneeModel" "tryRing" cX2_tryRing 4 (2 + (D + 1)) (85 + (D + 1) * 23) 0 0 := X0
    show fk_W E 4 n m0 0 0 0 [(0, tR a0), (1, tI a1), (2, tI a2)] []
    refine fk_iload_n X 1 dX2_tryRing_0 rfl ?_
    refine fk_aload_n X 0 dX2_tryRing_1 rfl ?_
    refine fk_getI' X fd_1_36 q1562 dX2_tryRing_2 hf (fun z1 hf => ?_)
    refine fk_icmp_lt' X 9 dX2_tryRing_5 rfl hf (fun hf => ?_) (fun hf => ?_)
    · refine fk_iload_n X 1 dX2_tryRing_9 rfl ?_
      refine fk_iconst (v := 1) X dX2_tryRing_10 rfl ?_
      refine fk_icmp_le' X 55 dX2_tryRing_11 rfl hf (fun hf => ?_) (fun hf => ?_)
      · exact fk_cut' (w_X2_tryRing_J55 X Y hRec a0 a1 a2 m0 hf) [0, 1, 2] rfl
      · refine fk_aload_n X 0 dX2_tryRing_14 rfl ?_
        refine fk_aload_n X 0 dX2_tryRing_15 rfl ?_
        refine fk_getR' X fd_1_34 q1560 dX2_tryRing_16 hf (fun z2 hf => ?_)
        refine fk_iload_n X 1 dX2_tryRing_19 rfl ?_
        refine fk_iconst (v := 1) X dX2_tryRing_20 rfl ?_
        refine fk_isub X dX2_tryRing_21 ?_
        refine fk_iaload' X dX2_tryRing_22 hf (fun z3 hf => ?_)
        refine fk_aload_n X 0 dX2_tryRing_23 rfl ?_
        refine fk_getR' X fd_1_34 q1560 dX2_tryRing_24 hf (fun z4 hf => ?_)
        refine fk_iconst (v := 0) X dX2_tryRing_27 rfl ?_
        refine fk_iaload' X dX2_tryRing_28 hf (fun z5 hf => ?_)
        obtain ⟨u6, hq, hf⟩ := bI hf
        obtain ⟨z7, hv, hf⟩ := bI hf
        refine fk_callV0I (ci := 1) (rest := []) X hq rfl (c_X2_debtOf hv) n_X2_debtOf q2028 q2030 qs109 q126 q2031 rfl dX2_tryRing_29 rfl rfl rfl (Nat.ble_eq_true_of_le (by omega)) (Nat.ble_eq_true_of_le (by omega)) (Nat.le_refl _) (Nat.le_refl _) ?_
        refine fk_if_le' X 55 dX2_tryRing_32 rfl hf (fun hf => ?_) (fun hf => ?_)
        · exact fk_cut' (w_X2_tryRing_J55 X Y hRec a0 a1 a2 m0 hf) [0, 1, 2] rfl
        · refine fk_aload_n X 0 dX2_tryRing_35 rfl ?_
          refine fk_iload_n X 1 dX2_tryRing_36 rfl ?_
          refine fk_putI' X fd_1_36 q1562 dX2_tryRing_37 (fit_I _) hf (fun m8 hf => ?_)
          refine fk_aload_n X 0 dX2_tryRing_40 rfl ?_
          refine fk_getR' X fd_1_34 q1560 dX2_tryRing_41 hf (fun z9 hf => ?_)
          refine fk_iconst (v := 0) X dX2_tryRing_44 rfl ?_
          refine fk_aload_n X 0 dX2_tryRing_45 rfl ?_
          refine fk_getR' X fd_1_35 q1561 dX2_tryRing_46 hf (fun z10 hf => ?_)
          refine fk_iconst (v := 0) X dX2_tryRing_49 rfl ?_
          refine fk_iconst (v := 5) X dX2_tryRing_50 rfl ?_
          obtain ⟨m11, hv, hf⟩ := bI hf
          refine fk_callS0V (rest := []) X (c_X2_copy hv) n_X2_copy q1805 q1806 q126 q1807 dX2_tryRing_51 rfl rfl rfl (Nat.ble_eq_true_of_le (by omega)) (Nat.ble_eq_true_of_le (by omega)) (Nat.le_refl _) (Nat.le_refl _) ?_
          cases hf
          exact fk_return X Y dX2_tryRing_54
    · cases hf
      exact fk_return X Y dX2_tryRing_8
theorem c_X2_tryRing {l : Launch} {G : fk_G} {b0 n D : Nat} {a0 : Option Nat} {a1 : Int32} {a2 : Int32} {m0 : fk_M} {mF : fk_M} (h : f_X2_tryRing D a0 a1 a2 m0 = some mF) : fk_Ct l G b0 yX2_tryRing cX2_tryRing 4 none (2 + D) (85 + D * 23) [tR a0, tI a1, tI a2] n m0 none n mF 0 0 := cd_X2_tryRing D _ _ _ _ _ h
/-! FigureKneeModel seekRing (I)Z -/
theorem n_X2_seekRing : fk_N yX2_seekRing 1 := ⟨by decide +kernel, by decide +kernel, by decide +kernel, by decide +kernel⟩
def f_X2_seekRing (a0 : Option Nat) (a1 : Int32) (m0 : fk_M) : Option (Int32 × fk_M) :=
  (pV m0 a0 1 36 (tI 100000000)).bind fun m1 => (gR m1 a0 1 34).bind fun z2 => (sI m1 z2 0 0 a1).bind fun m3 => (isO m3 a0 1).bind fun u4 => (f_X2_tryRing 8 a0 1 (i_shl 1 a1) m3).bind fun m5 => (gI m5 a0 1 36).bind fun z6 => some ((if 100000000 ≤ z6 then (0 : Int32) else 1), m5)
set_option maxHeartbeats 4000000 in
theorem c_X2_seekRing {l : Launch} {G : fk_G} {b0 : Nat} {n : Nat} {a0 : Option Nat} {a1 : Int32} {m0 : fk_M} {r : Int32} {mF : fk_M} (hf : f_X2_seekRing a0 a1 m0 = some (r, mF)) : fk_Ct l G b0 yX2_seekRing cX2_seekRing 2 (some .boolean) 11 292 [tR a0, tI a1] n m0 (some (tI r)) n mF 0 0 := by
  refine fk_enter n_X2_seekRing.1 rfl ?_
  intro E X0 Y
  have X : fk_X E l G b0 "FigureKneeModel" "seekRing" cX2_seekRing 2 11 292 0 0 := X0
  show fk_W E 2 n m0 0 0 0 [(0, tR a0), (1, tI a1)] []
  unfold f_X2_seekRing at hf
  refine fk_aload_n X 0 dX2_seekRing_0 rfl ?_
  refine fk_ldcw X q2072 dX2_seekRing_1 ?_
  refine fk_putI' X fd_1_36 q1562 dX2_seekRing_4 (fit_I _) hf (fun m1 hf => ?_)
  refine fk_aload_n X 0 dX2_seekRing_7 rfl ?_
  refine fk_getR' X fd_1_34 q1560 dX2_seekRing_8 hf (fun z2 hf => ?_)
  refine fk_iconst (v := 0) X dX2_seekRing_11 rfl ?_
  refine fk_iload_n X 1 dX2_seekRing_12 rfl ?_
  refine fk_iastore' X dX2_seekRing_13 hf (fun m3 hf => ?_)
  refine fk_aload_n X 0 dX2_seekRing_14 rfl ?_
  refine fk_iconst (v := 1) X dX2_seekRing_15 rfl ?_
  refine fk_iconst (v := 1) X dX2_seekRing_16 rfl ?_
  refine fk_iload_n X 1 dX2_seekRing_17 rfl ?_
  refine fk_ishl X dX2_seekRing_18 ?_
  obtain ⟨u4, hq, hf⟩ := bI hf
  obtain ⟨m5, hv, hf⟩ := bI hf
  refine fk_callV0V (ci := 1) (rest := []) X hq rfl (c_X2_tryRing hv) n_X2_tryRing q2073 q2075 qs114 q126 q2076 rfl dX2_seekRing_19 rfl rfl rfl rfl rfl (Nat.le_refl _) (Nat.le_refl _) ?_
  refine fk_aload_n X 0 dX2_seekRing_22 rfl ?_
  refine fk_getI' X fd_1_36 q1562 dX2_seekRing_23 hf (fun z6 hf => ?_)
  refine fk_ldcw X q2072 dX2_seekRing_26 ?_
  have J1 : fk_W E 2 n m5 0 0 37 [] [tI (if 100000000 ≤ z6 then (0 : Int32) else 1)] := by
    cases hf
    exact fk_ireturn X Y dX2_seekRing_37 (by (repeat' split) <;> decide +kernel)
  refine fk_icmp_ge X 36 dX2_seekRing_29 rfl (fun hc2 => ?_) (fun hc2 => ?_)
  · refine fk_iconst (v := 0) X dX2_seekRing_36 rfl ?_
    simp only [if_pos hc2] at J1
    exact fk_cut' J1 [] rfl
  · refine fk_iconst (v := 1) X dX2_seekRing_32 rfl ?_
    refine fk_goto X 37 dX2_seekRing_33 rfl ?_
    simp only [if_neg hc2] at J1
    exact fk_cut' J1 [] rfl
/-! FigureKneeModel ring (I)I -/
theorem n_X2_ring : fk_N yX2_ring 1 := ⟨by decide +kernel, by decide +kernel, by decide +kernel, by decide +kernel⟩
def f_X2_ring (a0 : Option Nat) (a1 : Int32) (m0 : fk_M) : Option (Int32 × fk_M) :=
  (isO m0 a0 1).bind fun u1 => (f_X2_good a0 m0).bind fun m2 => (isO m2 a0 1).bind fun u3 => (f_X2_isPair a0 a1 m2).bind fun z4 => if z4 = 0 then ((isO m2 a0 1).bind fun u5 => bn2 (f_X2_no a0 1 m2) fun z6 m7 => some (z6, m7)) else ((isO m2 a0 1).bind fun u8 => bn2 (f_X2_seekRing a0 a1 m2) fun z9 m10 => if z9 = 0 then (some ((-2), m10)) else ((gI m10 a0 1 36).bind fun z11 => some (z11, m10)))
set_option maxHeartbeats 4000000 in
theorem c_X2_ring {l : Launch} {G : fk_G} {b0 : Nat} {n : Nat} {a0 : Option Nat} {a1 : Int32} {m0 : fk_M} {r : Int32} {mF : fk_M} (hf : f_X2_ring a0 a1 m0 = some (r, mF)) : fk_Ct l G b0 yX2_ring cX2_ring 2 (some .int) 12 313 [tR a0, tI a1] n m0 (some (tI r)) n mF 0 0 := by
  refine fk_enter n_X2_ring.1 rfl ?_
  intro E X0 Y
  have X : fk_X E l G b0 "FigureKneeModel" "ring" cX2_ring 2 12 313 0 0 := X0
  show fk_W E 2 n m0 0 0 0 [(0, tR a0), (1, tI a1)] []
  unfold f_X2_ring at hf
  refine fk_aload_n X 0 dX2_ring_0 rfl ?_
  obtain ⟨u1, hq, hf⟩ := bI hf
  obtain ⟨m2, hv, hf⟩ := bI hf
  refine fk_callV0V (ci := 1) (rest := []) X hq rfl (c_X2_good hv) n_X2_good q1665 q1667 qs63 q126 q1668 rfl dX2_ring_1 rfl rfl rfl rfl rfl (Nat.le_refl _) (Nat.le_refl _) ?_
  refine fk_aload_n X 0 dX2_ring_4 rfl ?_
  refine fk_iload_n X 1 dX2_ring_5 rfl ?_
  obtain ⟨u3, hq, hf⟩ := bI hf
  obtain ⟨z4, hv, hf⟩ := bI hf
  refine fk_callV0I (ci := 1) (rest := []) X hq rfl (c_X2_isPair hv) n_X2_isPair q1820 q1822 qs87 q126 q1823 rfl dX2_ring_6 rfl rfl rfl rfl rfl (Nat.le_refl _) (Nat.le_refl _) ?_
  refine fk_if_ne' X 18 dX2_ring_9 rfl hf (fun hf => ?_) (fun hf => ?_)
  · refine fk_aload_n X 0 dX2_ring_18 rfl ?_
    refine fk_iload_n X 1 dX2_ring_19 rfl ?_
    obtain ⟨u8, hq, hf⟩ := bI hf
    obtain ⟨z9, m10, hv, hf⟩ := bn2_eq hf
    refine fk_callV0I (ci := 1) (rest := []) X hq rfl (c_X2_seekRing hv) n_X2_seekRing q2068 q2070 qs113 q126 q2071 rfl dX2_ring_20 rfl rfl rfl rfl rfl (Nat.le_refl _) (Nat.le_refl _) ?_
    refine fk_if_eq' X 33 dX2_ring_23 rfl hf (fun hf => ?_) (fun hf => ?_)
    · refine fk_bipush (v := (-2)) X dX2_ring_33 rfl ?_
      cases hf
      exact fk_ireturn X Y dX2_ring_35 rfl
    · refine fk_aload_n X 0 dX2_ring_26 rfl ?_
      refine fk_getI' X fd_1_36 q1562 dX2_ring_27 hf (fun z11 hf => ?_)
      refine fk_goto X 35 dX2_ring_30 rfl ?_
      cases hf
      exact fk_ireturn X Y dX2_ring_35 rfl
  · refine fk_aload_n X 0 dX2_ring_12 rfl ?_
    refine fk_iconst (v := 1) X dX2_ring_13 rfl ?_
    obtain ⟨u5, hq, hf⟩ := bI hf
    obtain ⟨z6, m7, hv, hf⟩ := bn2_eq hf
    refine fk_callV0I (ci := 1) (rest := []) X hq rfl (c_X2_no hv) n_X2_no q1672 q1674 qs64 q126 q1675 rfl dX2_ring_14 rfl rfl rfl rfl rfl (Nat.le_refl _) (Nat.le_refl _) ?_
    cases hf
    exact fk_ireturn X Y dX2_ring_17 rfl
/-! FigureKneeModel ringAt (II)I -/
theorem n_X2_ringAt : fk_N yX2_ringAt 2 := ⟨by decide +kernel, by decide +kernel, by decide +kernel, by decide +kernel⟩
def f_X2_ringAt_J34 (x0 : Option Nat) (m0 : fk_M) : Option (Int32 × fk_M) :=
  (isO m0 x0 1).bind fun u1 => bn2 (f_X2_no x0 1 m0) fun z2 m3 => some (z2, m3)
set_option maxHeartbeats 4000000 in
theorem w_X2_ringAt_J34 {E : fk_E} {l : Launch} {G : fk_G} {b0 n : Nat} {r : Int32} {mF : fk_M} (X : fk_X E l G b0 "FigureKneeModel" "ringAt" cX2_ringAt 3 12 313 0 0) (Y : fk_Y E (some .int) (some (tI r)) n mF 0 0) (x0 : Option Nat)  (m0 : fk_M) (hf : f_X2_ringAt_J34 x0 m0 = some (r, mF)) : fk_W E 3 n m0 0 0 34 [(0, tR x0)] [] := by
  unfold f_X2_ringAt_J34 at hf
  refine fk_aload_n X 0 dX2_ringAt_34 rfl ?_
  refine fk_iconst (v := 1) X dX2_ringAt_35 rfl ?_
  obtain ⟨u1, hq, hf⟩ := bI hf
  obtain ⟨z2, m3, hv, hf⟩ := bn2_eq hf
  refine fk_callV0I (ci := 1) (rest := []) X hq rfl (c_X2_no hv) n_X2_no q1672 q1674 qs64 q126 q1675 rfl dX2_ringAt_36 rfl rfl rfl rfl rfl (Nat.le_refl _) (Nat.le_refl _) ?_
  cases hf
  exact fk_ireturn X Y dX2_ringAt_39 rfl
def f_X2_ringAt (a0 : Option Nat) (a1 : Int32) (a2 : Int32) (m0 : fk_M) : Option (Int32 × fk_M) :=
  (isO m0 a0 1).bind fun u1 => (f_X2_good a0 m0).bind fun m2 => (isO m2 a0 1).bind fun u3 => (f_X2_isPair a0 a1 m2).bind fun z4 => if z4 = 0 then (f_X2_ringAt_J34 a0 m2) else ((isO m2 a0 1).bind fun u5 => bn2 (f_X2_seekRing a0 a1 m2) fun z6 m7 => if z6 = 0 then (f_X2_ringAt_J34 a0 m7) else ((gI m7 a0 1 36).bind fun z8 => (f_X2_in a2 0 (z8 - 1) m7).bind fun z9 => if z9 = 0 then (f_X2_ringAt_J34 a0 m7) else ((gR m7 a0 1 35).bind fun z10 => (aI m7 z10 0 a2).bind fun z11 => some (z11, m7))))
set_option maxHeartbeats 4000000 in
theorem c_X2_ringAt {l : Launch} {G : fk_G} {b0 : Nat} {n : Nat} {a0 : Option Nat} {a1 : Int32} {a2 : Int32} {m0 : fk_M} {r : Int32} {mF : fk_M} (hf : f_X2_ringAt a0 a1 a2 m0 = some (r, mF)) : fk_Ct l G b0 yX2_ringAt cX2_ringAt 3 (some .int) 12 313 [tR a0, tI a1, tI a2] n m0 (some (tI r)) n mF 0 0 := by
  refine fk_enter n_X2_ringAt.1 rfl ?_
  intro E X0 Y
  have X : fk_X E l G b0 "FigureKneeModel" "ringAt" cX2_ringAt 3 12 313 0 0 := X0
  show fk_W E 3 n m0 0 0 0 [(0, tR a0), (1, tI a1), (2, tI a2)] []
  unfold f_X2_ringAt at hf
  refine fk_aload_n X 0 dX2_ringAt_0 rfl ?_
  obtain ⟨u1, hq, hf⟩ := bI hf
  obtain ⟨m2, hv, hf⟩ := bI hf
  refine fk_callV0V (ci := 1) (rest := []) X hq rfl (c_X2_good hv) n_X2_good q1665 q1667 qs63 q126 q1668 rfl dX2_ringAt_1 rfl rfl rfl rfl rfl (Nat.le_refl _) (Nat.le_refl _) ?_
  refine fk_aload_n X 0 dX2_ringAt_4 rfl ?_
  refine fk_iload_n X 1 dX2_ringAt_5 rfl ?_
  obtain ⟨u3, hq, hf⟩ := bI hf
  obtain ⟨z4, hv, hf⟩ := bI hf
  refine fk_callV0I (ci := 1) (rest := []) X hq rfl (c_X2_isPair hv) n_X2_isPair q1820 q1822 qs87 q126 q1823 rfl dX2_ringAt_6 rfl rfl rfl rfl rfl (Nat.le_refl _) (Nat.le_refl _) ?_
  refine fk_if_eq' X 34 dX2_ringAt_9 rfl hf (fun hf => ?_) (fun hf => ?_)
  · exact fk_cut' (w_X2_ringAt_J34 X Y a0 m2 hf) [0] rfl
  · refine fk_aload_n X 0 dX2_ringAt_12 rfl ?_
    refine fk_iload_n X 1 dX2_ringAt_13 rfl ?_
    obtain ⟨u5, hq, hf⟩ := bI hf
    obtain ⟨z6, m7, hv, hf⟩ := bn2_eq hf
    refine fk_callV0I (ci := 1) (rest := []) X hq rfl (c_X2_seekRing hv) n_X2_seekRing q2068 q2070 qs113 q126 q2071 rfl dX2_ringAt_14 rfl rfl rfl rfl rfl (Nat.le_refl _) (Nat.le_refl _) ?_
    refine fk_if_eq' X 34 dX2_ringAt_17 rfl hf (fun hf => ?_) (fun hf => ?_)
    · exact fk_cut' (w_X2_ringAt_J34 X Y a0 m7 hf) [0] rfl
    · refine fk_iload_n X 2 dX2_ringAt_20 rfl ?_
      refine fk_iconst (v := 0) X dX2_ringAt_21 rfl ?_
      refine fk_aload_n X 0 dX2_ringAt_22 rfl ?_
      refine fk_getI' X fd_1_36 q1562 dX2_ringAt_23 hf (fun z8 hf => ?_)
      refine fk_iconst (v := 1) X dX2_ringAt_26 rfl ?_
      refine fk_isub X dX2_ringAt_27 ?_
      obtain ⟨z9, hv, hf⟩ := bI hf
      refine fk_callS0I (rest := []) X (c_X2_in hv) n_X2_in q1669 q1670 q126 q1671 dX2_ringAt_28 rfl rfl rfl rfl rfl (Nat.le_refl _) (Nat.le_refl _) ?_
      refine fk_if_ne' X 40 dX2_ringAt_31 rfl hf (fun hf => ?_) (fun hf => ?_)
      · refine fk_aload_n X 0 dX2_ringAt_40 rfl ?_
        refine fk_getR' X fd_1_35 q1561 dX2_ringAt_41 hf (fun z10 hf => ?_)
        refine fk_iload_n X 2 dX2_ringAt_44 rfl ?_
        refine fk_iaload' X dX2_ringAt_45 hf (fun z11 hf => ?_)
        cases hf
        exact fk_ireturn X Y dX2_ringAt_46 rfl
      · exact fk_cut' (w_X2_ringAt_J34 X Y a0 m7 hf) [0] rfl
/-! FigureKneeModel talksOf (IZZ)I -/
theorem n_X2_talksOf : fk_N yX2_talksOf 3 := ⟨by decide +kernel, by decide +kernel, by decide +kernel, by decide +kernel⟩
def f_X2_talksOf (a0 : Int32) (a1 : Int32) (a2 : Int32) (m : fk_M) : Option Int32 :=
  some (if a1 = 0 then (if a2 = 0 then (0 : Int32) else (-1)) else (if a2 = 0 then (4 : Int32) else (1 - a0)))
set_option maxHeartbeats 4000000 in
theorem c_X2_talksOf {l : Launch} {G : fk_G} {b0 : Nat} {n : Nat} {a0 : Int32} {a1 : Int32} {a2 : Int32} {m : fk_M} {r : Int32} (hf : f_X2_talksOf a0 a1 a2 m = some r) : fk_Ct l G b0 yX2_talksOf cX2_talksOf 3 (some .int) 1 60 [tI a0, tI a1, tI a2] n m (some (tI r)) n m 0 0 := by
  refine fk_enter n_X2_talksOf.1 rfl ?_
  intro E X0 Y
  have X : fk_X E l G b0 "FigureKneeModel" "talksOf" cX2_talksOf 3 1 60 0 0 := X0
  show fk_W E 3 n m 0 0 0 [(0, tI a0), (1, tI a1), (2, tI a2)] []
  unfold f_X2_talksOf at hf
  refine fk_iload_n X 1 dX2_talksOf_0 rfl ?_
  have J1 : fk_W E 3 n m 0 0 27 [] [tI (if a1 = 0 then (if a2 = 0 then (0 : Int32) else (-1)) else (if a2 = 0 then (4 : Int32) else (1 - a0)))] := by
    cases hf
    exact fk_ireturn X Y dX2_talksOf_27 rfl
  refine fk_if_eq X 18 dX2_talksOf_1 rfl (fun hc2 => ?_) (fun hc2 => ?_)
  · refine fk_iload_n X 2 dX2_talksOf_18 rfl ?_
    have J3 : fk_W E 3 n m 0 0 27 [] [tI (if a2 = 0 then (0 : Int32) else (-1))] := by
      simp only [if_pos hc2] at J1
      exact fk_cut' J1 [] rfl
    refine fk_if_eq X 26 dX2_talksOf_19 rfl (fun hc4 => ?_) (fun hc4 => ?_)
    · refine fk_iconst (v := 0) X dX2_talksOf_26 rfl ?_
      simp only [if_pos hc4] at J3
      exact fk_cut' J3 [] rfl
    · refine fk_iconst (v := (-1)) X dX2_talksOf_22 rfl ?_
      refine fk_goto X 27 dX2_talksOf_23 rfl ?_
      simp only [if_neg hc4] at J3
      exact fk_cut' J3 [] rfl
  · refine fk_iload_n X 2 dX2_talksOf_4 rfl ?_
    have J5 : fk_W E 3 n m 0 0 27 [] [tI (if a2 = 0 then (4 : Int32) else (1 - a0))] := by
      simp only [if_neg hc2] at J1
      exact fk_cut' J1 [] rfl
    refine fk_if_eq X 14 dX2_talksOf_5 rfl (fun hc6 => ?_) (fun hc6 => ?_)
    · refine fk_iconst (v := 4) X dX2_talksOf_14 rfl ?_
      refine fk_goto X 27 dX2_talksOf_15 rfl ?_
      simp only [if_pos hc6] at J5
      exact fk_cut' J5 [] rfl
    · refine fk_iconst (v := 1) X dX2_talksOf_8 rfl ?_
      refine fk_iload_n X 0 dX2_talksOf_9 rfl ?_
      refine fk_isub X dX2_talksOf_10 ?_
      refine fk_goto X 27 dX2_talksOf_11 rfl ?_
      simp only [if_neg hc6] at J5
      exact fk_cut' J5 [] rfl
/-! FigureKneeModel talks (IZZZ)I -/
theorem n_X2_talks : fk_N yX2_talks 4 := ⟨by decide +kernel, by decide +kernel, by decide +kernel, by decide +kernel⟩
def f_X2_talks (a0 : Option Nat) (a1 : Int32) (a2 : Int32) (a3 : Int32) (a4 : Int32) (m0 : fk_M) : Option (Int32 × fk_M) :=
  (isO m0 a0 1).bind fun u1 => (f_X2_good a0 m0).bind fun m2 => (gI m2 a0 1 14).bind fun z3 => (f_X2_in a1 0 9 m2).bind fun z4 => (isO m2 a0 1).bind fun u5 => (f_X2_why a0 z3 z4 m2).bind fun z6 => if z6 = 0 then (if a4 = 0 then ((f_X2_talksOf a1 a2 a3 m2).bind fun z7 => some (z7, m2)) else ((f_X2_talksOf a1 a3 a2 m2).bind fun z8 => some (z8, m2))) else ((pV m2 a0 1 11 (tI z6)).bind fun m9 => some ((-100), m9))
set_option maxHeartbeats 4000000 in
theorem c_X2_talks {l : Launch} {G : fk_G} {b0 : Nat} {n : Nat} {a0 : Option Nat} {a1 : Int32} {a2 : Int32} {a3 : Int32} {a4 : Int32} {m0 : fk_M} {r : Int32} {mF : fk_M} (hf : f_X2_talks a0 a1 a2 a3 a4 m0 = some (r, mF)) : fk_Ct l G b0 yX2_talks cX2_talks 6 (some .int) 2 82 [tR a0, tI a1, tI a2, tI a3, tI a4] n m0 (some (tI r)) n mF 0 0 := by
  refine fk_enter n_X2_talks.1 rfl ?_
  intro E X0 Y
  have X : fk_X E l G b0 "FigureKneeModel" "talks" cX2_talks 6 2 82 0 0 := X0
  show fk_W E 6 n m0 0 0 0 [(0, tR a0), (1, tI a1), (2, tI a2), (3, tI a3), (4, tI a4)] []
  unfold f_X2_talks at hf
  refine fk_aload_n X 0 dX2_talks_0 rfl ?_
  obtain ⟨u1, hq, hf⟩ := bI hf
  obtain ⟨m2, hv, hf⟩ := bI hf
  refine fk_callV0V (ci := 1) (rest := []) X hq rfl (c_X2_good hv) n_X2_good q1665 q1667 qs63 q126 q1668 rfl dX2_talks_1 rfl rfl rfl rfl rfl (Nat.le_refl _) (Nat.le_refl _) ?_
  refine fk_aload_n X 0 dX2_talks_4 rfl ?_
  refine fk_aload_n X 0 dX2_talks_5 rfl ?_
  refine fk_getI' X fd_1_14 q1540 dX2_talks_6 hf (fun z3 hf => ?_)
  refine fk_iload_n X 1 dX2_talks_9 rfl ?_
  refine fk_iconst (v := 0) X dX2_talks_10 rfl ?_
  refine fk_bipush (v := 9) X dX2_talks_11 rfl ?_
  obtain ⟨z4, hv, hf⟩ := bI hf
  refine fk_callS0I (rest := [tI z3, tR a0]) X (c_X2_in hv) n_X2_in q1669 q1670 q126 q1671 dX2_talks_13 rfl rfl rfl rfl rfl (Nat.le_refl _) (Nat.le_refl _) ?_
  obtain ⟨u5, hq, hf⟩ := bI hf
  obtain ⟨z6, hv, hf⟩ := bI hf
  refine fk_callV0I (ci := 1) (rest := []) X hq rfl (c_X2_why hv) n_X2_why q1836 q1838 qs90 q126 q1839 rfl dX2_talks_16 rfl rfl rfl rfl rfl (Nat.le_refl _) (Nat.le_refl _) ?_
  refine fk_istore X [(5, tI z6), (0, tR a0), (1, tI a1), (2, tI a2), (3, tI a3), (4, tI a4)] dX2_talks_19 rfl rfl ?_
  refine fk_iload X 0 dX2_talks_21 rfl ?_
  refine fk_if_ne' X 47 dX2_talks_23 rfl hf (fun hf => ?_) (fun hf => ?_)
  · refine fk_aload_n X 1 dX2_talks_47 rfl ?_
    refine fk_iload X 0 dX2_talks_48 rfl ?_
    refine fk_putI' X fd_1_11 q1537 dX2_talks_50 (fit_I _) hf (fun m9 hf => ?_)
    refine fk_bipush (v := (-100)) X dX2_talks_53 rfl ?_
    cases hf
    exact fk_ireturn X Y dX2_talks_55 rfl
  · refine fk_iload X 5 dX2_talks_26 rfl ?_
    refine fk_if_eq' X 40 dX2_talks_28 rfl hf (fun hf => ?_) (fun hf => ?_)
    · refine fk_iload_n X 2 dX2_talks_40 rfl ?_
      refine fk_iload_n X 3 dX2_talks_41 rfl ?_
      refine fk_iload_n X 4 dX2_talks_42 rfl ?_
      obtain ⟨z7, hv, hf⟩ := bI hf
      refine fk_callS0I (rest := []) X (c_X2_talksOf hv) n_X2_talksOf q2085 q2086 q126 q2087 dX2_talks_43 rfl rfl rfl rfl rfl (Nat.le_refl _) (Nat.le_refl _) ?_
      cases hf
      exact fk_ireturn X Y dX2_talks_46 rfl
    · refine fk_iload_n X 2 dX2_talks_31 rfl ?_
      refine fk_iload_n X 4 dX2_talks_32 rfl ?_
      refine fk_iload_n X 3 dX2_talks_33 rfl ?_
      obtain ⟨z8, hv, hf⟩ := bI hf
      refine fk_callS0I (rest := []) X (c_X2_talksOf hv) n_X2_talksOf q2085 q2086 q126 q2087 dX2_talks_34 rfl rfl rfl rfl rfl (Nat.le_refl _) (Nat.le_refl _) ?_
      refine fk_goto X 46 dX2_talks_37 rfl ?_
      cases hf
      exact fk_ireturn X Y dX2_talks_46 rfl
/-! FigureKneeModel seekRests (I)I -/
theorem n_X2_seekRests : fk_N yX2_seekRests 1 := ⟨by decide +kernel, by decide +kernel, by decide +kernel, by decide +kernel⟩
def f_X2_seekRests_J119 (R10 : Int32 → Int32 → fk_M → Option (Int32 × fk_M)) (x0 : Option Nat) (x1 : Int32) (x2 : Int32) (x3 : Int32) (m0 : fk_M) : Option (Int32 × fk_M) :=
  R10 x2 (x3 + 1) m0
set_option maxHeartbeats 4000000 in
theorem w_X2_seekRests_J119 {E : fk_E} {l : Launch} {G : fk_G} {b0 n : Nat} {r : Int32} {mF : fk_M} (X : fk_X E l G b0 "FigureKneeModel" "seekRests" cX2_seekRests 6 2 82 0 0) (Y : fk_Y E (some .int) (some (tI r)) n mF 0 0) (x0 : Option Nat) (x1 : Int32) (x2 : Int32) (x3 : Int32)  (m0 : fk_M) {R10 : Int32 → Int32 → fk_M → Option (Int32 × fk_M)} (hR10 : ∀ (v2 : Int32) (v3 : Int32) (m9 : fk_M), R10 v2 v3 m9 = some (r, mF) → fk_W E 6 n m9 0 0 10 [(0, tR x0), (1, tI x1), (2, tI v2), (3, tI v3)] []) (hf : f_X2_seekRests_J119 R10 x0 x1 x2 x3 m0 = some (r, mF)) : fk_W E 6 n m0 0 0 119 [(0, tR x0), (1, tI x1), (2, tI x2), (3, tI x3)] [] := by
  unfold f_X2_seekRests_J119 at hf
  refine fk_iinc X 3 [(3, tI (x3 + 1)), (0, tR x0), (1, tI x1), (2, tI x2)] dX2_seekRests_119 rfl rfl rfl rfl ?_
  refine fk_goto X 10 dX2_seekRests_122 rfl ?_
  exact fk_cut' (hR10 x2 (x3 + 1) m0  hf) [1, 2, 3, 0] rfl
def f_X2_seekRests_J116 (R10 : Int32 → Int32 → fk_M → Option (Int32 × fk_M)) (x0 : Option Nat) (x1 : Int32) (x2 : Int32) (x3 : Int32) (m0 : fk_M) : Option (Int32 × fk_M) :=
  f_X2_seekRests_J119 R10 x0 x1 (x2 + 1) x3 m0
set_option maxHeartbeats 4000000 in
theorem w_X2_seekRests_J116 {E : fk_E} {l : Launch} {G : fk_G} {b0 n : Nat} {r : Int32} {mF : fk_M} (X : fk_X E l G b0 "FigureKneeModel" "seekRests" cX2_seekRests 6 2 82 0 0) (Y : fk_Y E (some .int) (some (tI r)) n mF 0 0) (x0 : Option Nat) (x1 : Int32) (x2 : Int32) (x3 : Int32)  (m0 : fk_M) {R10 : Int32 → Int32 → fk_M → Option (Int32 × fk_M)} (hR10 : ∀ (v2 : Int32) (v3 : Int32) (m9 : fk_M), R10 v2 v3 m9 = some (r, mF) → fk_W E 6 n m9 0 0 10 [(0, tR x0), (1, tI x1), (2, tI v2), (3, tI v3)] []) (hf : f_X2_seekRests_J116 R10 x0 x1 x2 x3 m0 = some (r, mF)) : fk_W E 6 n m0 0 0 116 [(0, tR x0), (1, tI x1), (2, tI x2), (3, tI x3)] [] := by
  unfold f_X2_seekRests_J116 at hf
  refine fk_iinc X 2 [(2, tI (x2 + 1)), (0, tR x0), (1, tI x1), (3, tI x3)] dX2_seekRests_116 rfl rfl rfl rfl ?_
  exact fk_cut' (w_X2_seekRests_J119 X Y x0 x1 (x2 + 1) x3 m0 hR10 hf) [1, 2, 0, 3] rfl
def f_X2_seekRests_L10 (x0 : Option Nat) (x1 : Int32) : Nat → Int32 → Int32 → fk_M → Option (Int32 × fk_M)
  | 0, _, _, _ => none
  | N + 1, x2, x3, m0 =>
  if 4 ≤ x3 then (some (x2, m0)) else ((f_X2_talksOf x1 (if (if x3 ≤ 1 then (0 : Int32) else 1) = 0 then (1 : Int32) else 0) (if (i_rem x3 2) = 1 then (1 : Int32) else 0) m0).bind fun z1 => (f_X2_talksOf x1 (if x3 ≤ 1 then (0 : Int32) else 1) (if (i_rem x3 2) = 1 then (1 : Int32) else 0) m0).bind fun z2 => if z2 < z1 then (f_X2_seekRests_J119 (f_X2_seekRests_L10 x0 x1 N) x0 x1 x2 x3 m0) else ((f_X2_talksOf x1 (if (if (i_rem x3 2) = 1 then (1 : Int32) else 0) = 0 then (1 : Int32) else 0) (if x3 ≤ 1 then (0 : Int32) else 1) m0).bind fun z3 => (f_X2_talksOf x1 (if (i_rem x3 2) = 1 then (1 : Int32) else 0) (if x3 ≤ 1 then (0 : Int32) else 1) m0).bind fun z4 => if z3 ≤ z4 then (if x2 = 0 then ((pV m0 x0 1 37 (tI ((10 * (x3 / 2)) + (i_rem x3 2)))).bind fun m5 => f_X2_seekRests_J116 (f_X2_seekRests_L10 x0 x1 N) x0 x1 x2 x3 m5) else (f_X2_seekRests_J116 (f_X2_seekRests_L10 x0 x1 N) x0 x1 x2 x3 m0)) else (f_X2_seekRests_J119 (f_X2_seekRests_L10 x0 x1 N) x0 x1 x2 x3 m0)))
set_option maxHeartbeats 4000000 in
theorem w_X2_seekRests_L10 {E : fk_E} {l : Launch} {G : fk_G} {b0 n : Nat} {r : Int32} {mF : fk_M} (X : fk_X E l G b0 "FigureKneeModel" "seekRests" cX2_seekRests 6 2 82 0 0) (Y : fk_Y E (some .int) (some (tI r)) n mF 0 0) (x0 : Option Nat) (x1 : Int32) : ∀ (N : Nat) (x2 : Int32) (x3 : Int32) (m0 : fk_M), f_X2_seekRests_L10 x0 x1 N x2 x3 m0 = some (r, mF) → fk_W E 6 n m0 0 0 10 [(0, tR x0), (1, tI x1), (2, tI x2), (3, tI x3)] [] := by
  intro N
  induction N with
  | zero =>
    intro x2 x3 m0 hf
    have hf : (none : Option (Int32 × fk_M)) = some _ := hf
    cases hf
  | succ N ih =>
    intro x2 x3 m0 hf
    rw [f_X2_seekRests_L10] at hf
    refine fk_iload_n X 3 dX2_seekRests_10 rfl ?_
    refine fk_iconst (v := 4) X dX2_seekRests_11 rfl ?_
    refine fk_icmp_ge' X 125 dX2_seekRests_12 rfl hf (fun hf => ?_) (fun hf => ?_)
    · refine fk_iload_n X 2 dX2_seekRests_125 rfl ?_
      cases hf
      exact fk_ireturn X Y dX2_seekRests_126 rfl
    · refine fk_iload_n X 3 dX2_seekRests_15 rfl ?_
      refine fk_iconst (v := 1) X dX2_seekRests_16 rfl ?_
      have J1 : fk_W E 6 n m0 0 0 25 [(0, tR x0), (1, tI x1), (2, tI x2), (3, tI x3)] [tI (if x3 ≤ 1 then (0 : Int32) else 1)] := by
        refine fk_istore X [(4, tI (if x3 ≤ 1 then (0 : Int32) else 1)), (0, tR x0), (1, tI x1), (2, tI x2), (3, tI x3)] dX2_seekRests_25 rfl rfl ?_
        refine fk_iload_n X 4 dX2_seekRests_27 rfl ?_
        refine fk_iconst (v := 2) X dX2_seekRests_28 rfl ?_
        refine fk_irem X dX2_seekRests_29 (by decide) ?_
        refine fk_iconst (v := 1) X dX2_seekRests_30 rfl ?_
        have J2 : fk_W E 6 n m0 0 0 39 [(4, tI (if x3 ≤ 1 then (0 : Int32) else 1)), (0, tR x0), (1, tI x1), (2, tI x2), (3, tI x3)] [tI (if (i_rem x3 2) = 1 then (1 : Int32) else 0)] := by
          refine fk_istore X [(5, tI (if (i_rem x3 2) = 1 then (1 : Int32) else 0)), (4, tI (if x3 ≤ 1 then (0 : Int32) else 1)), (0, tR x0), (1, tI x1), (2, tI x2), (3, tI x3)] dX2_seekRests_39 rfl rfl ?_
          refine fk_iload_n X 3 dX2_seekRests_41 rfl ?_
          refine fk_iload X 1 dX2_seekRests_42 rfl ?_
          have J3 : fk_W E 6 n m0 0 0 52 [(5, tI (if (i_rem x3 2) = 1 then (1 : Int32) else 0)), (4, tI (if x3 ≤ 1 then (0 : Int32) else 1)), (0, tR x0), (1, tI x1), (2, tI x2), (3, tI x3)] [tI (if (if x3 ≤ 1 then (0 : Int32) else 1) = 0 then (1 : Int32) else 0), tI x1] := by
            refine fk_iload X 0 dX2_seekRests_52 rfl ?_
            obtain ⟨z1, hv, hf⟩ := bI hf
            refine fk_callS0I (rest := []) X (c_X2_talksOf hv) n_X2_talksOf q2085 q2086 q126 q2087 dX2_seekRests_54 rfl rfl rfl rfl rfl (Nat.le_refl _) (Nat.le_refl _) ?_
            refine fk_iload_n X 3 dX2_seekRests_57 rfl ?_
            refine fk_iload X 1 dX2_seekRests_58 rfl ?_
            refine fk_iload X 0 dX2_seekRests_60 rfl ?_
            obtain ⟨z2, hv, hf⟩ := bI hf
            refine fk_callS0I (rest := [tI z1]) X (c_X2_talksOf hv) n_X2_talksOf q2085 q2086 q126 q2087 dX2_seekRests_62 rfl rfl rfl rfl rfl (Nat.le_refl _) (Nat.le_refl _) ?_
            refine fk_icmp_gt' X 119 dX2_seekRests_65 rfl hf (fun hf => ?_) (fun hf => ?_)
            · exact fk_cut' (w_X2_seekRests_J119 X Y x0 x1 x2 x3 m0 ih hf) [2, 3, 4, 5] rfl
            · refine fk_iload_n X 3 dX2_seekRests_68 rfl ?_
              refine fk_iload X 0 dX2_seekRests_69 rfl ?_
              have J4 : fk_W E 6 n m0 0 0 79 [(5, tI (if (i_rem x3 2) = 1 then (1 : Int32) else 0)), (4, tI (if x3 ≤ 1 then (0 : Int32) else 1)), (0, tR x0), (1, tI x1), (2, tI x2), (3, tI x3)] [tI (if (if (i_rem x3 2) = 1 then (1 : Int32) else 0) = 0 then (1 : Int32) else 0), tI x1] := by
                refine fk_iload X 1 dX2_seekRests_79 rfl ?_
                obtain ⟨z3, hv, hf⟩ := bI hf
                refine fk_callS0I (rest := []) X (c_X2_talksOf hv) n_X2_talksOf q2085 q2086 q126 q2087 dX2_seekRests_81 rfl rfl rfl rfl rfl (Nat.le_refl _) (Nat.le_refl _) ?_
                refine fk_iload_n X 3 dX2_seekRests_84 rfl ?_
                refine fk_iload X 0 dX2_seekRests_85 rfl ?_
                refine fk_iload X 1 dX2_seekRests_87 rfl ?_
                obtain ⟨z4, hv, hf⟩ := bI hf
                refine fk_callS0I (rest := [tI z3]) X (c_X2_talksOf hv) n_X2_talksOf q2085 q2086 q126 q2087 dX2_seekRests_89 rfl rfl rfl rfl rfl (Nat.le_refl _) (Nat.le_refl _) ?_
                refine fk_icmp_le' X 98 dX2_seekRests_92 rfl hf (fun hf => ?_) (fun hf => ?_)
                · refine fk_iload_n X 4 dX2_seekRests_98 rfl ?_
                  refine fk_if_ne' X 116 dX2_seekRests_99 rfl hf (fun hf => ?_) (fun hf => ?_)
                  · exact fk_cut' (w_X2_seekRests_J116 X Y x0 x1 x2 x3 m0 ih hf) [2, 3, 4, 5] rfl
                  · refine fk_aload_n X 2 dX2_seekRests_102 rfl ?_
                    refine fk_bipush (v := 10) X dX2_seekRests_103 rfl ?_
                    refine fk_iload_n X 5 dX2_seekRests_105 rfl ?_
                    refine fk_iconst (v := 2) X dX2_seekRests_106 rfl ?_
                    refine fk_idiv X dX2_seekRests_107 (by decide) ?_
                    refine fk_imul X dX2_seekRests_108 ?_
                    refine fk_iload_n X 5 dX2_seekRests_109 rfl ?_
                    refine fk_iconst (v := 2) X dX2_seekRests_110 rfl ?_
                    refine fk_irem X dX2_seekRests_111 (by decide) ?_
                    refine fk_iadd X dX2_seekRests_112 ?_
                    refine fk_putI' X fd_1_37 q1563 dX2_seekRests_113 (fit_I _) hf (fun m5 hf => ?_)
                    exact fk_cut' (w_X2_seekRests_J116 X Y x0 x1 x2 x3 m5 ih hf) [2, 3, 4, 5] rfl
                · refine fk_goto X 119 dX2_seekRests_95 rfl ?_
                  exact fk_cut' (w_X2_seekRests_J119 X Y x0 x1 x2 x3 m0 ih hf) [2, 3, 4, 5] rfl
              refine fk_if_ne X 78 dX2_seekRests_71 rfl (fun hc5 => ?_) (fun hc5 => ?_)
              · refine fk_iconst (v := 0) X dX2_seekRests_78 rfl ?_
                simp only [if_neg hc5] at J4
                exact fk_cut' J4 [0, 1, 2, 3, 4, 5] rfl
              · refine fk_iconst (v := 1) X dX2_seekRests_74 rfl ?_
                refine fk_goto X 79 dX2_seekRests_75 rfl ?_
                simp only [if_pos hc5] at J4
                exact fk_cut' J4 [0, 1, 2, 3, 4, 5] rfl
          refine fk_if_ne X 51 dX2_seekRests_44 rfl (fun hc6 => ?_) (fun hc6 => ?_)
          · refine fk_iconst (v := 0) X dX2_seekRests_51 rfl ?_
            simp only [if_neg hc6] at J3
            exact fk_cut' J3 [0, 1, 2, 3, 4, 5] rfl
          · refine fk_iconst (v := 1) X dX2_seekRests_47 rfl ?_
            refine fk_goto X 52 dX2_seekRests_48 rfl ?_
            simp only [if_pos hc6] at J3
            exact fk_cut' J3 [0, 1, 2, 3, 4, 5] rfl
        refine fk_icmp_ne X 38 dX2_seekRests_31 rfl (fun hc7 => ?_) (fun hc7 => ?_)
        · refine fk_iconst (v := 0) X dX2_seekRests_38 rfl ?_
          simp only [if_neg hc7] at J2
          exact fk_cut' J2 [0, 1, 2, 3, 4] rfl
        · refine fk_iconst (v := 1) X dX2_seekRests_34 rfl ?_
          refine fk_goto X 39 dX2_seekRests_35 rfl ?_
          simp only [if_pos hc7] at J2
          exact fk_cut' J2 [0, 1, 2, 3, 4] rfl
      refine fk_icmp_le X 24 dX2_seekRests_17 rfl (fun hc8 => ?_) (fun hc8 => ?_)
      · refine fk_iconst (v := 0) X dX2_seekRests_24 rfl ?_
        simp only [if_pos hc8] at J1
        exact fk_cut' J1 [0, 1, 2, 3] rfl
      · refine fk_iconst (v := 1) X dX2_seekRests_20 rfl ?_
        refine fk_goto X 25 dX2_seekRests_21 rfl ?_
        simp only [if_neg hc8] at J1
        exact fk_cut' J1 [0, 1, 2, 3] rfl
def f_X2_seekRests (a0 : Option Nat) (a1 : Int32) (m0 : fk_M) : Option (Int32 × fk_M) :=
  (pV m0 a0 1 37 (tI (-2))).bind fun m1 => f_X2_seekRests_L10 a0 a1 fk_fuel 0 0 m1
set_option maxHeartbeats 4000000 in
theorem c_X2_seekRests {l : Launch} {G : fk_G} {b0 : Nat} {n : Nat} {a0 : Option Nat} {a1 : Int32} {m0 : fk_M} {r : Int32} {mF : fk_M} (hf : f_X2_seekRests a0 a1 m0 = some (r, mF)) : fk_Ct l G b0 yX2_seekRests cX2_seekRests 6 (some .int) 2 82 [tR a0, tI a1] n m0 (some (tI r)) n mF 0 0 := by
  refine fk_enter n_X2_seekRests.1 rfl ?_
  intro E X0 Y
  have X : fk_X E l G b0 "FigureKneeModel" "seekRests" cX2_seekRests 6 2 82 0 0 := X0
  show fk_W E 6 n m0 0 0 0 [(0, tR a0), (1, tI a1)] []
  unfold f_X2_seekRests at hf
  refine fk_iconst (v := 0) X dX2_seekRests_0 rfl ?_
  refine fk_istore_n X [(2, tI 0), (0, tR a0), (1, tI a1)] dX2_seekRests_1 rfl rfl ?_
  refine fk_aload_n X 1 dX2_seekRests_2 rfl ?_
  refine fk_bipush (v := (-2)) X dX2_seekRests_3 rfl ?_
  refine fk_putI' X fd_1_37 q1563 dX2_seekRests_5 (fit_I _) hf (fun m1 hf => ?_)
  refine fk_iconst (v := 0) X dX2_seekRests_8 rfl ?_
  refine fk_istore_n X [(3, tI 0), (2, tI 0), (0, tR a0), (1, tI a1)] dX2_seekRests_9 rfl rfl ?_
  exact fk_cut' (w_X2_seekRests_L10 X Y a0 a1 fk_fuel 0 0 m1 hf) [2, 3, 1, 0] rfl
/-! FigureKneeModel rests (I)I -/
theorem n_X2_rests : fk_N yX2_rests 1 := ⟨by decide +kernel, by decide +kernel, by decide +kernel, by decide +kernel⟩
def f_X2_rests (a0 : Option Nat) (a1 : Int32) (m0 : fk_M) : Option (Int32 × fk_M) :=
  (isO m0 a0 1).bind fun u1 => (f_X2_good a0 m0).bind fun m2 => (gI m2 a0 1 14).bind fun z3 => (f_X2_in a1 0 9 m2).bind fun z4 => (isO m2 a0 1).bind fun u5 => (f_X2_why a0 z3 z4 m2).bind fun z6 => if z6 = 0 then ((isO m2 a0 1).bind fun u7 => bn2 (f_X2_seekRests a0 a1 m2) fun z8 m9 => some (z8, m9)) else ((isO m2 a0 1).bind fun u10 => bn2 (f_X2_no a0 z6 m2) fun z11 m12 => some (z11, m12))
set_option maxHeartbeats 4000000 in
theorem c_X2_rests {l : Launch} {G : fk_G} {b0 : Nat} {n : Nat} {a0 : Option Nat} {a1 : Int32} {m0 : fk_M} {r : Int32} {mF : fk_M} (hf : f_X2_rests a0 a1 m0 = some (r, mF)) : fk_Ct l G b0 yX2_rests cX2_rests 3 (some .int) 3 107 [tR a0, tI a1] n m0 (some (tI r)) n mF 0 0 := by
  refine fk_enter n_X2_rests.1 rfl ?_
  intro E X0 Y
  have X : fk_X E l G b0 "FigureKneeModel" "rests" cX2_rests 3 3 107 0 0 := X0
  show fk_W E 3 n m0 0 0 0 [(0, tR a0), (1, tI a1)] []
  unfold f_X2_rests at hf
  refine fk_aload_n X 0 dX2_rests_0 rfl ?_
  obtain ⟨u1, hq, hf⟩ := bI hf
  obtain ⟨m2, hv, hf⟩ := bI hf
  refine fk_callV0V (ci := 1) (rest := []) X hq rfl (c_X2_good hv) n_X2_good q1665 q1667 qs63 q126 q1668 rfl dX2_rests_1 rfl rfl rfl rfl rfl (Nat.le_refl _) (Nat.le_refl _) ?_
  refine fk_aload_n X 0 dX2_rests_4 rfl ?_
  refine fk_aload_n X 0 dX2_rests_5 rfl ?_
  refine fk_getI' X fd_1_14 q1540 dX2_rests_6 hf (fun z3 hf => ?_)
  refine fk_iload_n X 1 dX2_rests_9 rfl ?_
  refine fk_iconst (v := 0) X dX2_rests_10 rfl ?_
  refine fk_bipush (v := 9) X dX2_rests_11 rfl ?_
  obtain ⟨z4, hv, hf⟩ := bI hf
  refine fk_callS0I (rest := [tI z3, tR a0]) X (c_X2_in hv) n_X2_in q1669 q1670 q126 q1671 dX2_rests_13 rfl rfl rfl rfl rfl (Nat.le_refl _) (Nat.le_refl _) ?_
  obtain ⟨u5, hq, hf⟩ := bI hf
  obtain ⟨z6, hv, hf⟩ := bI hf
  refine fk_callV0I (ci := 1) (rest := []) X hq rfl (c_X2_why hv) n_X2_why q1836 q1838 qs90 q126 q1839 rfl dX2_rests_16 rfl rfl rfl rfl rfl (Nat.le_refl _) (Nat.le_refl _) ?_
  refine fk_istore_n X [(2, tI z6), (0, tR a0), (1, tI a1)] dX2_rests_19 rfl rfl ?_
  refine fk_iload_n X 0 dX2_rests_20 rfl ?_
  refine fk_if_eq' X 32 dX2_rests_21 rfl hf (fun hf => ?_) (fun hf => ?_)
  · refine fk_aload_n X 1 dX2_rests_32 rfl ?_
    refine fk_iload_n X 2 dX2_rests_33 rfl ?_
    obtain ⟨u7, hq, hf⟩ := bI hf
    obtain ⟨z8, m9, hv, hf⟩ := bn2_eq hf
    refine fk_callV0I (ci := 1) (rest := []) X hq rfl (c_X2_seekRests hv) n_X2_seekRests q2092 q2094 qs115 q126 q2095 rfl dX2_rests_34 rfl rfl rfl rfl rfl (Nat.le_refl _) (Nat.le_refl _) ?_
    cases hf
    exact fk_ireturn X Y dX2_rests_37 rfl
  · refine fk_aload_n X 1 dX2_rests_24 rfl ?_
    refine fk_iload_n X 0 dX2_rests_25 rfl ?_
    obtain ⟨u10, hq, hf⟩ := bI hf
    obtain ⟨z11, m12, hv, hf⟩ := bn2_eq hf
    refine fk_callV0I (ci := 1) (rest := []) X hq rfl (c_X2_no hv) n_X2_no q1672 q1674 qs64 q126 q1675 rfl dX2_rests_26 rfl rfl rfl rfl rfl (Nat.le_refl _) (Nat.le_refl _) ?_
    refine fk_goto X 37 dX2_rests_29 rfl ?_
    cases hf
    exact fk_ireturn X Y dX2_rests_37 rfl
/-! FigureKneeModel rest (I)I -/
theorem n_X2_rest : fk_N yX2_rest 1 := ⟨by decide +kernel, by decide +kernel, by decide +kernel, by decide +kernel⟩
def f_X2_rest (a0 : Option Nat) (a1 : Int32) (m0 : fk_M) : Option (Int32 × fk_M) :=
  (isO m0 a0 1).bind fun u1 => (f_X2_good a0 m0).bind fun m2 => (gI m2 a0 1 14).bind fun z3 => (f_X2_in a1 0 9 m2).bind fun z4 => (isO m2 a0 1).bind fun u5 => (f_X2_why a0 z3 z4 m2).bind fun z6 => if z6 = 0 then ((isO m2 a0 1).bind fun u7 => bn2 (f_X2_seekRests a0 a1 m2) fun z8 m9 => (gI m9 a0 1 37).bind fun z10 => some (z10, m9)) else ((isO m2 a0 1).bind fun u11 => bn2 (f_X2_no a0 z6 m2) fun z12 m13 => some (z12, m13))
set_option maxHeartbeats 4000000 in
theorem c_X2_rest {l : Launch} {G : fk_G} {b0 : Nat} {n : Nat} {a0 : Option Nat} {a1 : Int32} {m0 : fk_M} {r : Int32} {mF : fk_M} (hf : f_X2_rest a0 a1 m0 = some (r, mF)) : fk_Ct l G b0 yX2_rest cX2_rest 3 (some .int) 3 107 [tR a0, tI a1] n m0 (some (tI r)) n mF 0 0 := by
  refine fk_enter n_X2_rest.1 rfl ?_
  intro E X0 Y
  have X : fk_X E l G b0 "FigureKneeModel" "rest" cX2_rest 3 3 107 0 0 := X0
  show fk_W E 3 n m0 0 0 0 [(0, tR a0), (1, tI a1)] []
  unfold f_X2_rest at hf
  refine fk_aload_n X 0 dX2_rest_0 rfl ?_
  obtain ⟨u1, hq, hf⟩ := bI hf
  obtain ⟨m2, hv, hf⟩ := bI hf
  refine fk_callV0V (ci := 1) (rest := []) X hq rfl (c_X2_good hv) n_X2_good q1665 q1667 qs63 q126 q1668 rfl dX2_rest_1 rfl rfl rfl rfl rfl (Nat.le_refl _) (Nat.le_refl _) ?_
  refine fk_aload_n X 0 dX2_rest_4 rfl ?_
  refine fk_aload_n X 0 dX2_rest_5 rfl ?_
  refine fk_getI' X fd_1_14 q1540 dX2_rest_6 hf (fun z3 hf => ?_)
  refine fk_iload_n X 1 dX2_rest_9 rfl ?_
  refine fk_iconst (v := 0) X dX2_rest_10 rfl ?_
  refine fk_bipush (v := 9) X dX2_rest_11 rfl ?_
  obtain ⟨z4, hv, hf⟩ := bI hf
  refine fk_callS0I (rest := [tI z3, tR a0]) X (c_X2_in hv) n_X2_in q1669 q1670 q126 q1671 dX2_rest_13 rfl rfl rfl rfl rfl (Nat.le_refl _) (Nat.le_refl _) ?_
  obtain ⟨u5, hq, hf⟩ := bI hf
  obtain ⟨z6, hv, hf⟩ := bI hf
  refine fk_callV0I (ci := 1) (rest := []) X hq rfl (c_X2_why hv) n_X2_why q1836 q1838 qs90 q126 q1839 rfl dX2_rest_16 rfl rfl rfl rfl rfl (Nat.le_refl _) (Nat.le_refl _) ?_
  refine fk_istore_n X [(2, tI z6), (0, tR a0), (1, tI a1)] dX2_rest_19 rfl rfl ?_
  refine fk_iload_n X 0 dX2_rest_20 rfl ?_
  refine fk_if_eq' X 30 dX2_rest_21 rfl hf (fun hf => ?_) (fun hf => ?_)
  · refine fk_aload_n X 1 dX2_rest_30 rfl ?_
    refine fk_iload_n X 2 dX2_rest_31 rfl ?_
    obtain ⟨u7, hq, hf⟩ := bI hf
    obtain ⟨z8, m9, hv, hf⟩ := bn2_eq hf
    refine fk_callV0I (ci := 1) (rest := []) X hq rfl (c_X2_seekRests hv) n_X2_seekRests q2092 q2094 qs115 q126 q2095 rfl dX2_rest_32 rfl rfl rfl rfl rfl (Nat.le_refl _) (Nat.le_refl _) ?_
    refine fk_pop X dX2_rest_35 rfl ?_
    refine fk_aload_n X 1 dX2_rest_36 rfl ?_
    refine fk_getI' X fd_1_37 q1563 dX2_rest_37 hf (fun z10 hf => ?_)
    cases hf
    exact fk_ireturn X Y dX2_rest_40 rfl
  · refine fk_aload_n X 1 dX2_rest_24 rfl ?_
    refine fk_iload_n X 0 dX2_rest_25 rfl ?_
    obtain ⟨u11, hq, hf⟩ := bI hf
    obtain ⟨z12, m13, hv, hf⟩ := bn2_eq hf
    refine fk_callV0I (ci := 1) (rest := []) X hq rfl (c_X2_no hv) n_X2_no q1672 q1674 qs64 q126 q1675 rfl dX2_rest_26 rfl rfl rfl rfl rfl (Nat.le_refl _) (Nat.le_refl _) ?_
    cases hf
    exact fk_ireturn X Y dX2_rest_29 rfl
/-! FigureKneeModel verdictOf ()I -/
theorem n_X2_verdictOf : fk_N yX2_verdictOf 0 := ⟨by decide +kernel, by decide +kernel, by decide +kernel, by decide +kernel⟩
def f_X2_verdictOf_L4 (x0 : Option Nat) (m : fk_M) : Nat → Int32 → Int32 → Option Int32
  | 0, _, _ => none
  | N + 1, x1, x2 =>
  (gR m x0 1 15).bind fun z1 => (aI m z1 0 2).bind fun z2 => if z2 ≤ x2 then (some x1) else ((gR m x0 1 38).bind fun z3 => (aI m z3 0 x2).bind fun z4 => (gR m x0 1 38).bind fun z5 => (aI m z5 0 x1).bind fun z6 => f_X2_verdictOf_L4 x0 m N (if z4 ≤ z6 then x1 else x2) (x2 + 1))
set_option maxHeartbeats 4000000 in
theorem w_X2_verdictOf_L4 {E : fk_E} {l : Launch} {G : fk_G} {b0 n : Nat} {m : fk_M} {r : Int32} (X : fk_X E l G b0 "FigureKneeModel" "verdictOf" cX2_verdictOf 3 1 60 0 0) (Y : fk_Y E (some .int) (some (tI r)) n m 0 0) (x0 : Option Nat) : ∀ (N : Nat) (x1 : Int32) (x2 : Int32), f_X2_verdictOf_L4 x0 m N x1 x2 = some r → fk_W E 3 n m 0 0 4 [(0, tR x0), (1, tI x1), (2, tI x2)] [] := by
  intro N
  induction N with
  | zero =>
    intro x1 x2 hf
    have hf : (none : Option Int32) = some _ := hf
    cases hf
  | succ N ih =>
    intro x1 x2 hf
    rw [f_X2_verdictOf_L4] at hf
    refine fk_iload_n X 2 dX2_verdictOf_4 rfl ?_
    refine fk_aload_n X 0 dX2_verdictOf_5 rfl ?_
    refine fk_getR' X fd_1_15 q1541 dX2_verdictOf_6 hf (fun z1 hf => ?_)
    refine fk_iconst (v := 2) X dX2_verdictOf_9 rfl ?_
    refine fk_iaload' X dX2_verdictOf_10 hf (fun z2 hf => ?_)
    refine fk_icmp_ge' X 37 dX2_verdictOf_11 rfl hf (fun hf => ?_) (fun hf => ?_)
    · refine fk_iload_n X 1 dX2_verdictOf_37 rfl ?_
      cases hf
      exact fk_ireturn X Y dX2_verdictOf_38 rfl
    · refine fk_aload_n X 0 dX2_verdictOf_14 rfl ?_
      refine fk_getR' X fd_1_38 q1564 dX2_verdictOf_15 hf (fun z3 hf => ?_)
      refine fk_iload_n X 2 dX2_verdictOf_18 rfl ?_
      refine fk_iaload' X dX2_verdictOf_19 hf (fun z4 hf => ?_)
      refine fk_aload_n X 0 dX2_verdictOf_20 rfl ?_
      refine fk_getR' X fd_1_38 q1564 dX2_verdictOf_21 hf (fun z5 hf => ?_)
      refine fk_iload_n X 1 dX2_verdictOf_24 rfl ?_
      refine fk_iaload' X dX2_verdictOf_25 hf (fun z6 hf => ?_)
      have J1 : fk_W E 3 n m 0 0 31 [(0, tR x0), (1, tI (if z4 ≤ z6 then x1 else x2)), (2, tI x2)] [] := by
        refine fk_iinc X 2 [(2, tI (x2 + 1)), (0, tR x0), (1, tI (if z4 ≤ z6 then x1 else x2))] dX2_verdictOf_31 rfl rfl rfl rfl ?_
        refine fk_goto X 4 dX2_verdictOf_34 rfl ?_
        exact fk_cut' (ih (if z4 ≤ z6 then x1 else x2) (x2 + 1)  hf) [1, 2, 0] rfl
      refine fk_icmp_le X 31 dX2_verdictOf_26 rfl (fun hc2 => ?_) (fun hc2 => ?_)
      · simp only [if_pos hc2] at J1
        exact fk_cut' J1 [0, 1, 2] rfl
      · refine fk_iload_n X 2 dX2_verdictOf_29 rfl ?_
        refine fk_istore_n X [(1, tI x2), (0, tR x0), (2, tI x2)] dX2_verdictOf_30 rfl rfl ?_
        simp only [if_neg hc2] at J1
        exact fk_cut' J1 [1, 0, 2] rfl
def f_X2_verdictOf (a0 : Option Nat) (m : fk_M) : Option Int32 :=
  f_X2_verdictOf_L4 a0 m fk_fuel 0 1
set_option maxHeartbeats 4000000 in
theorem c_X2_verdictOf {l : Launch} {G : fk_G} {b0 : Nat} {n : Nat} {a0 : Option Nat} {m : fk_M} {r : Int32} (hf : f_X2_verdictOf a0 m = some r) : fk_Ct l G b0 yX2_verdictOf cX2_verdictOf 3 (some .int) 1 60 [tR a0] n m (some (tI r)) n m 0 0 := by
  refine fk_enter n_X2_verdictOf.1 rfl ?_
  intro E X0 Y
  have X : fk_X E l G b0 "FigureKneeModel" "verdictOf" cX2_verdictOf 3 1 60 0 0 := X0
  show fk_W E 3 n m 0 0 0 [(0, tR a0)] []
  unfold f_X2_verdictOf at hf
  refine fk_iconst (v := 0) X dX2_verdictOf_0 rfl ?_
  refine fk_istore_n X [(1, tI 0), (0, tR a0)] dX2_verdictOf_1 rfl rfl ?_
  refine fk_iconst (v := 1) X dX2_verdictOf_2 rfl ?_
  refine fk_istore_n X [(2, tI 1), (1, tI 0), (0, tR a0)] dX2_verdictOf_3 rfl rfl ?_
  exact fk_cut' (w_X2_verdictOf_L4 X Y a0 fk_fuel 0 1 hf) [2, 1, 0] rfl
/-! FigureKneeModel lowest (JJZ)J -/
theorem n_X2_lowest : fk_N yX2_lowest 3 := ⟨by decide +kernel, by decide +kernel, by decide +kernel, by decide +kernel⟩
def f_X2_lowest_L6 (x0 : Int64) (x2 : Int64) (x4 : Int32) (m : fk_M) : Nat → Int64 → Int64 → Option Int64
  | 0, _, _ => none
  | N + 1, x5, x7 =>
  if (lg_cmp x7 0) = 0 then (if x5 = 0 then none else (some ((if x4 = 0 then x0 else x2) / x5))) else (if x7 = 0 then none else (f_X2_lowest_L6 x0 x2 x4 m N x7 (l_rem x5 x7)))
set_option maxHeartbeats 4000000 in
theorem w_X2_lowest_L6 {E : fk_E} {l : Launch} {G : fk_G} {b0 n : Nat} {m : fk_M} {r : Int64} (X : fk_X E l G b0 "FigureKneeModel" "lowest" cX2_lowest 11 1 60 0 0) (Y : fk_Y E (some .long) (some (tL r)) n m 0 0) (x0 : Int64) (x2 : Int64) (x4 : Int32) : ∀ (N : Nat) (x5 : Int64) (x7 : Int64), f_X2_lowest_L6 x0 x2 x4 m N x5 x7 = some r → fk_W E 11 n m 0 0 6 [(0, tL x0), (2, tL x2), (4, tI x4), (5, tL x5), (7, tL x7)] [] := by
  intro N
  induction N with
  | zero =>
    intro x5 x7 hf
    have hf : (none : Option Int64) = some _ := hf
    cases hf
  | succ N ih =>
    intro x5 x7 hf
    rw [f_X2_lowest_L6] at hf
    refine fk_lload X 4 dX2_lowest_6 rfl ?_
    refine fk_lconst (v := 0) X dX2_lowest_8 rfl ?_
    refine fk_lcmp X dX2_lowest_9 ?_
    refine fk_if_eq' X 31 dX2_lowest_10 rfl hf (fun hf => ?_) (fun hf => ?_)
    · refine fk_iload X 2 dX2_lowest_31 rfl ?_
      have J1 : fk_W E 11 n m 0 0 41 [(5, tL x5)] [tL (if x4 = 0 then x0 else x2)] := by
        refine fk_lload X 0 dX2_lowest_41 rfl ?_
        refine fk_ldiv' X dX2_lowest_43 hf (fun hf => ?_)
        cases hf
        exact fk_lreturn X Y dX2_lowest_44
      refine fk_if_eq X 40 dX2_lowest_33 rfl (fun hc2 => ?_) (fun hc2 => ?_)
      · refine fk_lload_n X 0 dX2_lowest_40 rfl ?_
        simp only [if_pos hc2] at J1
        exact fk_cut' J1 [3] rfl
      · refine fk_lload_n X 1 dX2_lowest_36 rfl ?_
        refine fk_goto X 41 dX2_lowest_37 rfl ?_
        simp only [if_neg hc2] at J1
        exact fk_cut' J1 [3] rfl
    · refine fk_lload X 3 dX2_lowest_13 rfl ?_
      refine fk_lload X 4 dX2_lowest_15 rfl ?_
      refine fk_lrem' X dX2_lowest_17 hf (fun hf => ?_)
      refine fk_lstore X [(9, tL (l_rem x5 x7)), (0, tL x0), (2, tL x2), (4, tI x4), (5, tL x5), (7, tL x7)] dX2_lowest_18 rfl rfl ?_
      refine fk_lload X 5 dX2_lowest_20 rfl ?_
      refine fk_lstore X [(5, tL x7), (9, tL (l_rem x5 x7)), (0, tL x0), (2, tL x2), (4, tI x4), (7, tL x7)] dX2_lowest_22 rfl rfl ?_
      refine fk_lload X 1 dX2_lowest_24 rfl ?_
      refine fk_lstore X [(7, tL (l_rem x5 x7)), (5, tL x7), (9, tL (l_rem x5 x7)), (0, tL x0), (2, tL x2), (4, tI x4)] dX2_lowest_26 rfl rfl ?_
      refine fk_goto X 6 dX2_lowest_28 rfl ?_
      exact fk_cut' (ih x7 (l_rem x5 x7)  hf) [3, 4, 5, 1, 0] rfl
def f_X2_lowest (a0 : Int64) (a2 : Int64) (a4 : Int32) (m : fk_M) : Option Int64 :=
  f_X2_lowest_L6 a0 a2 a4 m fk_fuel a2 a0
set_option maxHeartbeats 4000000 in
theorem c_X2_lowest {l : Launch} {G : fk_G} {b0 : Nat} {n : Nat} {a0 : Int64} {a2 : Int64} {a4 : Int32} {m : fk_M} {r : Int64} (hf : f_X2_lowest a0 a2 a4 m = some r) : fk_Ct l G b0 yX2_lowest cX2_lowest 11 (some .long) 1 60 [tL a0, tL a2, tI a4] n m (some (tL r)) n m 0 0 := by
  refine fk_enter n_X2_lowest.1 rfl ?_
  intro E X0 Y
  have X : fk_X E l G b0 "FigureKneeModel" "lowest" cX2_lowest 11 1 60 0 0 := X0
  show fk_W E 11 n m 0 0 0 [(0, tL a0), (2, tL a2), (4, tI a4)] []
  unfold f_X2_lowest at hf
  refine fk_lload_n X 1 dX2_lowest_0 rfl ?_
  refine fk_lstore X [(5, tL a2), (0, tL a0), (2, tL a2), (4, tI a4)] dX2_lowest_1 rfl rfl ?_
  refine fk_lload_n X 1 dX2_lowest_3 rfl ?_
  refine fk_lstore X [(7, tL a0), (5, tL a2), (0, tL a0), (2, tL a2), (4, tI a4)] dX2_lowest_4 rfl rfl ?_
  exact fk_cut' (w_X2_lowest_L6 X Y a0 a2 a4 fk_fuel a2 a0 hf) [2, 3, 4, 1, 0] rfl
/-! FigureKneeModel verdictOdds (IIZ)J -/
theorem n_X2_verdictOdds : fk_N yX2_verdictOdds 3 := ⟨by decide +kernel, by decide +kernel, by decide +kernel, by decide +kernel⟩
def f_X2_verdictOdds_L106 (R69 : Int32 → Int32 → fk_M → Option (Int64 × fk_M)) (x0 : Option Nat) (x1 : Int32) (x2 : Int32) (x3 : Int32) (x5 : Int32) (x6 : Int32) (x7 : Int32) : Nat → Int32 → Int32 → fk_M → Option (Int64 × fk_M)
  | 0, _, _, _ => none
  | N + 1, x8, x9, m0 =>
  if x2 ≤ x9 then ((isO m0 x0 1).bind fun u1 => (f_X2_verdictOf x0 m0).bind fun z2 => R69 (x6 + (if z2 = x1 then (1 : Int32) else 0)) (x7 + 1) m0) else ((gR m0 x0 1 38).bind fun z3 => (gR m0 x0 1 15).bind fun z4 => (aI m0 z4 0 2).bind fun z5 => if z5 = 0 then none else ((aI m0 z3 0 (i_rem x8 z5)).bind fun z6 => (sI m0 z3 0 (i_rem x8 z5) (z6 + 1)).bind fun m7 => (gR m7 x0 1 15).bind fun z8 => (aI m7 z8 0 2).bind fun z9 => if z9 = 0 then none else (f_X2_verdictOdds_L106 R69 x0 x1 x2 x3 x5 x6 x7 N (x8 / z9) (x9 + 1) m7)))
set_option maxHeartbeats 4000000 in
theorem w_X2_verdictOdds_L106 {E : fk_E} {l : Launch} {G : fk_G} {b0 n : Nat} {r : Int64} {mF : fk_M} (X : fk_X E l G b0 "FigureKneeModel" "verdictOdds" cX2_verdictOdds 10 3 103 0 0) (Y : fk_Y E (some .long) (some (tL r)) n mF 0 0) (x0 : Option Nat) (x1 : Int32) (x2 : Int32) (x3 : Int32) (x5 : Int32) (x6 : Int32) (x7 : Int32) {R69 : Int32 → Int32 → fk_M → Option (Int64 × fk_M)} (hR69 : ∀ (v6 : Int32) (v7 : Int32) (m9 : fk_M), R69 v6 v7 m9 = some (r, mF) → fk_W E 10 n m9 0 0 69 [(0, tR x0), (1, tI x1), (2, tI x2), (3, tI x3), (5, tI x5), (6, tI v6), (7, tI v7)] []) : ∀ (N : Nat) (x8 : Int32) (x9 : Int32) (m0 : fk_M), f_X2_verdictOdds_L106 R69 x0 x1 x2 x3 x5 x6 x7 N x8 x9 m0 = some (r, mF) → fk_W E 10 n m0 0 0 106 [(0, tR x0), (1, tI x1), (2, tI x2), (3, tI x3), (5, tI x5), (6, tI x6), (7, tI x7), (8, tI x8), (9, tI x9)] [] := by
  intro N
  induction N with
  | zero =>
    intro x8 x9 m0 hf
    have hf : (none : Option (Int64 × fk_M)) = some _ := hf
    cases hf
  | succ N ih =>
    intro x8 x9 m0 hf
    rw [f_X2_verdictOdds_L106] at hf
    refine fk_iload X 8 dX2_verdictOdds_106 rfl ?_
    refine fk_iload_n X 2 dX2_verdictOdds_108 rfl ?_
    refine fk_icmp_ge' X 147 dX2_verdictOdds_109 rfl hf (fun hf => ?_) (fun hf => ?_)
    · refine fk_iload X 5 dX2_verdictOdds_147 rfl ?_
      refine fk_aload_n X 0 dX2_verdictOdds_149 rfl ?_
      obtain ⟨u1, hq, hf⟩ := bI hf
      obtain ⟨z2, hv, hf⟩ := bI hf
      refine fk_callV0I (ci := 1) (rest := [tI x6]) X hq rfl (c_X2_verdictOf hv) n_X2_verdictOf q2104 q2106 qs116 q126 q2107 rfl dX2_verdictOdds_150 rfl rfl rfl rfl rfl (Nat.le_refl _) (Nat.le_refl _) ?_
      refine fk_iload_n X 1 dX2_verdictOdds_153 rfl ?_
      have J1 : fk_W E 10 n m0 0 0 162 [(0, tR x0), (1, tI x1), (2, tI x2), (3, tI x3), (5, tI x5), (7, tI x7)] [tI (if z2 = x1 then (1 : Int32) else 0), tI x6] := by
        refine fk_iadd X dX2_verdictOdds_162 ?_
        refine fk_istore X [(6, tI (x6 + (if z2 = x1 then (1 : Int32) else 0))), (0, tR x0), (1, tI x1), (2, tI x2), (3, tI x3), (5, tI x5), (7, tI x7)] dX2_verdictOdds_163 rfl rfl ?_
        refine fk_iinc X 6 [(7, tI (x7 + 1)), (6, tI (x6 + (if z2 = x1 then (1 : Int32) else 0))), (0, tR x0), (1, tI x1), (2, tI x2), (3, tI x3), (5, tI x5)] dX2_verdictOdds_165 rfl rfl rfl rfl ?_
        refine fk_goto X 69 dX2_verdictOdds_168 rfl ?_
        exact fk_cut' (hR69 (x6 + (if z2 = x1 then (1 : Int32) else 0)) (x7 + 1) m0  hf) [2, 3, 4, 5, 6, 1, 0] rfl
      refine fk_icmp_ne X 161 dX2_verdictOdds_154 rfl (fun hc2 => ?_) (fun hc2 => ?_)
      · refine fk_iconst (v := 0) X dX2_verdictOdds_161 rfl ?_
        simp only [if_neg hc2] at J1
        exact fk_cut' J1 [0, 1, 2, 3, 4, 6] rfl
      · refine fk_iconst (v := 1) X dX2_verdictOdds_157 rfl ?_
        refine fk_goto X 162 dX2_verdictOdds_158 rfl ?_
        simp only [if_pos hc2] at J1
        exact fk_cut' J1 [0, 1, 2, 3, 4, 6] rfl
    · refine fk_aload_n X 0 dX2_verdictOdds_112 rfl ?_
      refine fk_getR' X fd_1_38 q1564 dX2_verdictOdds_113 hf (fun z3 hf => ?_)
      refine fk_iload X 7 dX2_verdictOdds_116 rfl ?_
      refine fk_aload_n X 0 dX2_verdictOdds_118 rfl ?_
      refine fk_getR' X fd_1_15 q1541 dX2_verdictOdds_119 hf (fun z4 hf => ?_)
      refine fk_iconst (v := 2) X dX2_verdictOdds_122 rfl ?_
      refine fk_iaload' X dX2_verdictOdds_123 hf (fun z5 hf => ?_)
      refine fk_irem' X dX2_verdictOdds_124 hf (fun hf => ?_)
      refine fk_dup2 X dX2_verdictOdds_125 rfl rfl ?_
      refine fk_iaload' X dX2_verdictOdds_126 hf (fun z6 hf => ?_)
      refine fk_iconst (v := 1) X dX2_verdictOdds_127 rfl ?_
      refine fk_iadd X dX2_verdictOdds_128 ?_
      refine fk_iastore' X dX2_verdictOdds_129 hf (fun m7 hf => ?_)
      refine fk_iload X 7 dX2_verdictOdds_130 rfl ?_
      refine fk_aload_n X 0 dX2_verdictOdds_132 rfl ?_
      refine fk_getR' X fd_1_15 q1541 dX2_verdictOdds_133 hf (fun z8 hf => ?_)
      refine fk_iconst (v := 2) X dX2_verdictOdds_136 rfl ?_
      refine fk_iaload' X dX2_verdictOdds_137 hf (fun z9 hf => ?_)
      refine fk_idiv' X dX2_verdictOdds_138 hf (fun hf => ?_)
      refine fk_istore X [(8, tI (x8 / z9)), (0, tR x0), (1, tI x1), (2, tI x2), (3, tI x3), (5, tI x5), (6, tI x6), (7, tI x7), (9, tI x9)] dX2_verdictOdds_139 rfl rfl ?_
      refine fk_iinc X 8 [(9, tI (x9 + 1)), (8, tI (x8 / z9)), (0, tR x0), (1, tI x1), (2, tI x2), (3, tI x3), (5, tI x5), (6, tI x6), (7, tI x7)] dX2_verdictOdds_141 rfl rfl rfl rfl ?_
      refine fk_goto X 106 dX2_verdictOdds_144 rfl ?_
      exact fk_cut' (ih (x8 / z9) (x9 + 1) m7  hf) [2, 3, 4, 5, 6, 7, 8, 1, 0] rfl
def f_X2_verdictOdds_L79 (R69 : Int32 → Int32 → fk_M → Option (Int64 × fk_M)) (x0 : Option Nat) (x1 : Int32) (x2 : Int32) (x3 : Int32) (x5 : Int32) (x6 : Int32) (x7 : Int32) : Nat → Int32 → fk_M → Option (Int64 × fk_M)
  | 0, _, _ => none
  | N + 1, x8, m0 =>
  if 5 ≤ x8 then (f_X2_verdictOdds_L106 R69 x0 x1 x2 x3 x5 x6 x7 fk_fuel x7 0 m0) else ((gR m0 x0 1 38).bind fun z1 => (sI m0 z1 0 x8 0).bind fun m2 => f_X2_verdictOdds_L79 R69 x0 x1 x2 x3 x5 x6 x7 N (x8 + 1) m2)
set_option maxHeartbeats 4000000 in
theorem w_X2_verdictOdds_L79 {E : fk_E} {l : Launch} {G : fk_G} {b0 n : Nat} {r : Int64} {mF : fk_M} (X : fk_X E l G b0 "FigureKneeModel" "verdictOdds" cX2_verdictOdds 10 3 103 0 0) (Y : fk_Y E (some .long) (some (tL r)) n mF 0 0) (x0 : Option Nat) (x1 : Int32) (x2 : Int32) (x3 : Int32) (x5 : Int32) (x6 : Int32) (x7 : Int32) {R69 : Int32 → Int32 → fk_M → Option (Int64 × fk_M)} (hR69 : ∀ (v6 : Int32) (v7 : Int32) (m9 : fk_M), R69 v6 v7 m9 = some (r, mF) → fk_W E 10 n m9 0 0 69 [(0, tR x0), (1, tI x1), (2, tI x2), (3, tI x3), (5, tI x5), (6, tI v6), (7, tI v7)] []) : ∀ (N : Nat) (x8 : Int32) (m0 : fk_M), f_X2_verdictOdds_L79 R69 x0 x1 x2 x3 x5 x6 x7 N x8 m0 = some (r, mF) → fk_W E 10 n m0 0 0 79 [(0, tR x0), (1, tI x1), (2, tI x2), (3, tI x3), (5, tI x5), (6, tI x6), (7, tI x7), (8, tI x8)] [] := by
  intro N
  induction N with
  | zero =>
    intro x8 m0 hf
    have hf : (none : Option (Int64 × fk_M)) = some _ := hf
    cases hf
  | succ N ih =>
    intro x8 m0 hf
    rw [f_X2_verdictOdds_L79] at hf
    refine fk_iload X 7 dX2_verdictOdds_79 rfl ?_
    refine fk_iconst (v := 5) X dX2_verdictOdds_81 rfl ?_
    refine fk_icmp_ge' X 99 dX2_verdictOdds_82 rfl hf (fun hf => ?_) (fun hf => ?_)
    · refine fk_iload X 6 dX2_verdictOdds_99 rfl ?_
      refine fk_istore X [(8, tI x7), (0, tR x0), (1, tI x1), (2, tI x2), (3, tI x3), (5, tI x5), (6, tI x6), (7, tI x7)] dX2_verdictOdds_101 rfl rfl ?_
      refine fk_iconst (v := 0) X dX2_verdictOdds_103 rfl ?_
      refine fk_istore X [(9, tI 0), (8, tI x7), (0, tR x0), (1, tI x1), (2, tI x2), (3, tI x3), (5, tI x5), (6, tI x6), (7, tI x7)] dX2_verdictOdds_104 rfl rfl ?_
      exact fk_cut' (w_X2_verdictOdds_L106 X Y x0 x1 x2 x3 x5 x6 x7 hR69 fk_fuel x7 0 m0 hf) [2, 3, 4, 5, 6, 7, 8, 1, 0] rfl
    · refine fk_aload_n X 0 dX2_verdictOdds_85 rfl ?_
      refine fk_getR' X fd_1_38 q1564 dX2_verdictOdds_86 hf (fun z1 hf => ?_)
      refine fk_iload X 7 dX2_verdictOdds_89 rfl ?_
      refine fk_iconst (v := 0) X dX2_verdictOdds_91 rfl ?_
      refine fk_iastore' X dX2_verdictOdds_92 hf (fun m2 hf => ?_)
      refine fk_iinc X 7 [(8, tI (x8 + 1)), (0, tR x0), (1, tI x1), (2, tI x2), (3, tI x3), (5, tI x5), (6, tI x6), (7, tI x7)] dX2_verdictOdds_93 rfl rfl rfl rfl ?_
      refine fk_goto X 79 dX2_verdictOdds_96 rfl ?_
      exact fk_cut' (ih (x8 + 1) m2  hf) [1, 2, 3, 4, 5, 6, 7, 0] rfl
def f_X2_verdictOdds_L69 (x0 : Option Nat) (x1 : Int32) (x2 : Int32) (x3 : Int32) (x5 : Int32) : Nat → Int32 → Int32 → fk_M → Option (Int64 × fk_M)
  | 0, _, _, _ => none
  | N + 1, x6, x7, m0 =>
  if x5 ≤ x7 then ((f_X2_lowest (Int32.toInt64 x6) (Int32.toInt64 x5) x3 m0).bind fun z1 => some (z1, m0)) else (f_X2_verdictOdds_L79 (f_X2_verdictOdds_L69 x0 x1 x2 x3 x5 N) x0 x1 x2 x3 x5 x6 x7 fk_fuel 0 m0)
set_option maxHeartbeats 4000000 in
theorem w_X2_verdictOdds_L69 {E : fk_E} {l : Launch} {G : fk_G} {b0 n : Nat} {r : Int64} {mF : fk_M} (X : fk_X E l G b0 "FigureKneeModel" "verdictOdds" cX2_verdictOdds 10 3 103 0 0) (Y : fk_Y E (some .long) (some (tL r)) n mF 0 0) (x0 : Option Nat) (x1 : Int32) (x2 : Int32) (x3 : Int32) (x5 : Int32) : ∀ (N : Nat) (x6 : Int32) (x7 : Int32) (m0 : fk_M), f_X2_verdictOdds_L69 x0 x1 x2 x3 x5 N x6 x7 m0 = some (r, mF) → fk_W E 10 n m0 0 0 69 [(0, tR x0), (1, tI x1), (2, tI x2), (3, tI x3), (5, tI x5), (6, tI x6), (7, tI x7)] [] := by
  intro N
  induction N with
  | zero =>
    intro x6 x7 m0 hf
    have hf : (none : Option (Int64 × fk_M)) = some _ := hf
    cases hf
  | succ N ih =>
    intro x6 x7 m0 hf
    rw [f_X2_verdictOdds_L69] at hf
    refine fk_iload X 6 dX2_verdictOdds_69 rfl ?_
    refine fk_iload X 4 dX2_verdictOdds_71 rfl ?_
    refine fk_icmp_ge' X 171 dX2_verdictOdds_73 rfl hf (fun hf => ?_) (fun hf => ?_)
    · refine fk_iload X 5 dX2_verdictOdds_171 rfl ?_
      refine fk_i2l X dX2_verdictOdds_173 ?_
      refine fk_iload X 4 dX2_verdictOdds_174 rfl ?_
      refine fk_i2l X dX2_verdictOdds_176 ?_
      refine fk_iload_n X 3 dX2_verdictOdds_177 rfl ?_
      obtain ⟨z1, hv, hf⟩ := bI hf
      refine fk_callS0J (rest := []) X (c_X2_lowest hv) n_X2_lowest q2108 q2109 q126 q2110 dX2_verdictOdds_178 rfl rfl rfl rfl rfl (Nat.le_refl _) (Nat.le_refl _) ?_
      cases hf
      exact fk_lreturn X Y dX2_verdictOdds_181
    · refine fk_iconst (v := 0) X dX2_verdictOdds_76 rfl ?_
      refine fk_istore X [(8, tI 0), (0, tR x0), (1, tI x1), (2, tI x2), (3, tI x3), (5, tI x5), (6, tI x6), (7, tI x7)] dX2_verdictOdds_77 rfl rfl ?_
      exact fk_cut' (w_X2_verdictOdds_L79 X Y x0 x1 x2 x3 x5 x6 x7 ih fk_fuel 0 m0 hf) [1, 2, 3, 4, 5, 6, 7, 0] rfl
def f_X2_verdictOdds_L40 (x0 : Option Nat) (x1 : Int32) (x2 : Int32) (x3 : Int32) (m0 : fk_M) : Nat → Int32 → Int32 → Option (Int64 × fk_M)
  | 0, _, _ => none
  | N + 1, x5, x6 =>
  if x2 ≤ x6 then (f_X2_verdictOdds_L69 x0 x1 x2 x3 x5 fk_fuel 0 0 m0) else ((gR m0 x0 1 15).bind fun z1 => (aI m0 z1 0 2).bind fun z2 => f_X2_verdictOdds_L40 x0 x1 x2 x3 m0 N (x5 * z2) (x6 + 1))
set_option maxHeartbeats 4000000 in
theorem w_X2_verdictOdds_L40 {E : fk_E} {l : Launch} {G : fk_G} {b0 n : Nat} {r : Int64} {mF : fk_M} (X : fk_X E l G b0 "FigureKneeModel" "verdictOdds" cX2_verdictOdds 10 3 103 0 0) (Y : fk_Y E (some .long) (some (tL r)) n mF 0 0) (x0 : Option Nat) (x1 : Int32) (x2 : Int32) (x3 : Int32) (m0 : fk_M) : ∀ (N : Nat) (x5 : Int32) (x6 : Int32), f_X2_verdictOdds_L40 x0 x1 x2 x3 m0 N x5 x6 = some (r, mF) → fk_W E 10 n m0 0 0 40 [(0, tR x0), (1, tI x1), (2, tI x2), (3, tI x3), (5, tI x5), (6, tI x6)] [] := by
  intro N
  induction N with
  | zero =>
    intro x5 x6 hf
    have hf : (none : Option (Int64 × fk_M)) = some _ := hf
    cases hf
  | succ N ih =>
    intro x5 x6 hf
    rw [f_X2_verdictOdds_L40] at hf
    refine fk_iload X 5 dX2_verdictOdds_40 rfl ?_
    refine fk_iload_n X 2 dX2_verdictOdds_42 rfl ?_
    refine fk_icmp_ge' X 63 dX2_verdictOdds_43 rfl hf (fun hf => ?_) (fun hf => ?_)
    · refine fk_iconst (v := 0) X dX2_verdictOdds_63 rfl ?_
      refine fk_istore X [(6, tI 0), (0, tR x0), (1, tI x1), (2, tI x2), (3, tI x3), (5, tI x5)] dX2_verdictOdds_64 rfl rfl ?_
      refine fk_iconst (v := 0) X dX2_verdictOdds_66 rfl ?_
      refine fk_istore X [(7, tI 0), (6, tI 0), (0, tR x0), (1, tI x1), (2, tI x2), (3, tI x3), (5, tI x5)] dX2_verdictOdds_67 rfl rfl ?_
      exact fk_cut' (w_X2_verdictOdds_L69 X Y x0 x1 x2 x3 x5 fk_fuel 0 0 m0 hf) [2, 3, 4, 5, 6, 1, 0] rfl
    · refine fk_iload X 4 dX2_verdictOdds_46 rfl ?_
      refine fk_aload_n X 0 dX2_verdictOdds_48 rfl ?_
      refine fk_getR' X fd_1_15 q1541 dX2_verdictOdds_49 hf (fun z1 hf => ?_)
      refine fk_iconst (v := 2) X dX2_verdictOdds_52 rfl ?_
      refine fk_iaload' X dX2_verdictOdds_53 hf (fun z2 hf => ?_)
      refine fk_imul X dX2_verdictOdds_54 ?_
      refine fk_istore X [(5, tI (x5 * z2)), (0, tR x0), (1, tI x1), (2, tI x2), (3, tI x3), (6, tI x6)] dX2_verdictOdds_55 rfl rfl ?_
      refine fk_iinc X 5 [(6, tI (x6 + 1)), (5, tI (x5 * z2)), (0, tR x0), (1, tI x1), (2, tI x2), (3, tI x3)] dX2_verdictOdds_57 rfl rfl rfl rfl ?_
      refine fk_goto X 40 dX2_verdictOdds_60 rfl ?_
      exact fk_cut' (ih (x5 * z2) (x6 + 1)  hf) [2, 3, 4, 5, 1, 0] rfl
def f_X2_verdictOdds (a0 : Option Nat) (a1 : Int32) (a2 : Int32) (a3 : Int32) (m0 : fk_M) : Option (Int64 × fk_M) :=
  (isO m0 a0 1).bind fun u1 => (f_X2_good a0 m0).bind fun m2 => (isO m2 a0 1).bind fun u3 => (f_X2_isPair a0 a1 m2).bind fun z4 => (f_X2_in a2 0 4 m2).bind fun z5 => (isO m2 a0 1).bind fun u6 => (f_X2_why a0 z4 z5 m2).bind fun z7 => if z7 = 0 then (f_X2_verdictOdds_L40 a0 a1 a2 a3 m2 fk_fuel 1 0) else ((isO m2 a0 1).bind fun u8 => bn2 (f_X2_no a0 z7 m2) fun z9 m10 => some ((Int32.toInt64 z9), m10))
set_option maxHeartbeats 4000000 in
theorem c_X2_verdictOdds {l : Launch} {G : fk_G} {b0 : Nat} {n : Nat} {a0 : Option Nat} {a1 : Int32} {a2 : Int32} {a3 : Int32} {m0 : fk_M} {r : Int64} {mF : fk_M} (hf : f_X2_verdictOdds a0 a1 a2 a3 m0 = some (r, mF)) : fk_Ct l G b0 yX2_verdictOdds cX2_verdictOdds 10 (some .long) 3 103 [tR a0, tI a1, tI a2, tI a3] n m0 (some (tL r)) n mF 0 0 := by
  refine fk_enter n_X2_verdictOdds.1 rfl ?_
  intro E X0 Y
  have X : fk_X E l G b0 "FigureKneeModel" "verdictOdds" cX2_verdictOdds 10 3 103 0 0 := X0
  show fk_W E 10 n m0 0 0 0 [(0, tR a0), (1, tI a1), (2, tI a2), (3, tI a3)] []
  unfold f_X2_verdictOdds at hf
  refine fk_aload_n X 0 dX2_verdictOdds_0 rfl ?_
  obtain ⟨u1, hq, hf⟩ := bI hf
  obtain ⟨m2, hv, hf⟩ := bI hf
  refine fk_callV0V (ci := 1) (rest := []) X hq rfl (c_X2_good hv) n_X2_good q1665 q1667 qs63 q126 q1668 rfl dX2_verdictOdds_1 rfl rfl rfl rfl rfl (Nat.le_refl _) (Nat.le_refl _) ?_
  refine fk_aload_n X 0 dX2_verdictOdds_4 rfl ?_
  refine fk_aload_n X 0 dX2_verdictOdds_5 rfl ?_
  refine fk_iload_n X 1 dX2_verdictOdds_6 rfl ?_
  obtain ⟨u3, hq, hf⟩ := bI hf
  obtain ⟨z4, hv, hf⟩ := bI hf
  refine fk_callV0I (ci := 1) (rest := [tR a0]) X hq rfl (c_X2_isPair hv) n_X2_isPair q1820 q1822 qs87 q126 q1823 rfl dX2_verdictOdds_7 rfl rfl rfl rfl rfl (Nat.le_refl _) (Nat.le_refl _) ?_
  refine fk_iload_n X 2 dX2_verdictOdds_10 rfl ?_
  refine fk_iconst (v := 0) X dX2_verdictOdds_11 rfl ?_
  refine fk_iconst (v := 4) X dX2_verdictOdds_12 rfl ?_
  obtain ⟨z5, hv, hf⟩ := bI hf
  refine fk_callS0I (rest := [tI z4, tR a0]) X (c_X2_in hv) n_X2_in q1669 q1670 q126 q1671 dX2_verdictOdds_13 rfl rfl rfl rfl rfl (Nat.le_refl _) (Nat.le_refl _) ?_
  obtain ⟨u6, hq, hf⟩ := bI hf
  obtain ⟨z7, hv, hf⟩ := bI hf
  refine fk_callV0I (ci := 1) (rest := []) X hq rfl (c_X2_why hv) n_X2_why q1836 q1838 qs90 q126 q1839 rfl dX2_verdictOdds_16 rfl rfl rfl rfl rfl (Nat.le_refl _) (Nat.le_refl _) ?_
  refine fk_istore X [(4, tI z7), (0, tR a0), (1, tI a1), (2, tI a2), (3, tI a3)] dX2_verdictOdds_19 rfl rfl ?_
  refine fk_iload X 0 dX2_verdictOdds_21 rfl ?_
  refine fk_if_eq' X 34 dX2_verdictOdds_23 rfl hf (fun hf => ?_) (fun hf => ?_)
  · refine fk_iconst (v := 1) X dX2_verdictOdds_34 rfl ?_
    refine fk_istore X [(5, tI 1), (4, tI z7), (0, tR a0), (1, tI a1), (2, tI a2), (3, tI a3)] dX2_verdictOdds_35 rfl rfl ?_
    refine fk_iconst (v := 0) X dX2_verdictOdds_37 rfl ?_
    refine fk_istore X [(6, tI 0), (5, tI 1), (4, tI z7), (0, tR a0), (1, tI a1), (2, tI a2), (3, tI a3)] dX2_verdictOdds_38 rfl rfl ?_
    exact fk_cut' (w_X2_verdictOdds_L40 X Y a0 a1 a2 a3 m2 fk_fuel 1 0 hf) [3, 4, 5, 6, 1, 0] rfl
  · refine fk_aload_n X 1 dX2_verdictOdds_26 rfl ?_
    refine fk_iload X 0 dX2_verdictOdds_27 rfl ?_
    obtain ⟨u8, hq, hf⟩ := bI hf
    obtain ⟨z9, m10, hv, hf⟩ := bn2_eq hf
    refine fk_callV0I (ci := 1) (rest := []) X hq rfl (c_X2_no hv) n_X2_no q1672 q1674 qs64 q126 q1675 rfl dX2_verdictOdds_29 rfl rfl rfl rfl rfl (Nat.le_refl _) (Nat.le_refl _) ?_
    refine fk_i2l X dX2_verdictOdds_32 ?_
    cases hf
    exact fk_lreturn X Y dX2_verdictOdds_33
