set_option maxRecDepth 100000
/-! FigureKnee owes (II)I -/
theorem n_X1_owes : fk_N yX1_owes 2 := ⟨by decide +kernel, by decide +kernel, by decide +kernel, by decide +kernel⟩
def f_X1_owes (a0 : Option Nat) (a1 : Int32) (a2 : Int32) (m0 : fk_M) : Option (Int32 × fk_M) :=
  (isO m0 a0 0).bind fun u1 => (f_X1_areTwo a0 a1 a2 m0).bind fun z2 => if z2 = 0 then ((isO m0 a0 0).bind fun u3 => bn2 (f_X1_refused a0 1 m0) fun z4 m5 => some (z4, m5)) else ((isO m0 a0 0).bind fun u6 => (f_X1_owed a0 a1 a2 m0).bind fun z7 => (isO m0 a0 0).bind fun u8 => bn2 (f_X1_well a0 z7 m0) fun z9 m10 => some (z9, m10))
set_option maxHeartbeats 4000000 in
theorem c_X1_owes {l : Launch} {G : fk_G} {b0 : Nat} {n : Nat} {a0 : Option Nat} {a1 : Int32} {a2 : Int32} {m0 : fk_M} {r : Int32} {mF : fk_M} (hf : f_X1_owes a0 a1 a2 m0 = some (r, mF)) : fk_Ct l G b0 yX1_owes cX1_owes 3 (some .int) 5 143 [tR a0, tI a1, tI a2] n m0 (some (tI r)) n mF 0 0 := by
  refine fk_enter n_X1_owes.1 rfl ?_
  intro E X0 Y
  have X : fk_X E l G b0 "FigureKnee" "owes" cX1_owes 3 5 143 0 0 := X0
  show fk_W E 3 n m0 0 0 0 [(0, tR a0), (1, tI a1), (2, tI a2)] []
  unfold f_X1_owes at hf
  refine fk_aload_n X 0 dX1_owes_0 rfl ?_
  refine fk_iload_n X 1 dX1_owes_1 rfl ?_
  refine fk_iload_n X 2 dX1_owes_2 rfl ?_
  obtain ⟨u1, hq, hf⟩ := bI hf
  obtain ⟨z2, hv, hf⟩ := bI hf
  refine fk_callV0I (ci := 0) (rest := []) X hq rfl (c_X1_areTwo hv) n_X1_areTwo q1134 q1136 qs36 q122 q1137 rfl dX1_owes_3 rfl rfl rfl rfl rfl (Nat.le_refl _) (Nat.le_refl _) ?_
  refine fk_if_eq' X 22 dX1_owes_6 rfl hf (fun hf => ?_) (fun hf => ?_)
  · refine fk_aload_n X 0 dX1_owes_22 rfl ?_
    refine fk_iconst (v := 1) X dX1_owes_23 rfl ?_
    obtain ⟨u3, hq, hf⟩ := bI hf
    obtain ⟨z4, m5, hv, hf⟩ := bn2_eq hf
    refine fk_callV0I (ci := 0) (rest := []) X hq rfl (c_X1_refused hv) n_X1_refused q264 q266 qs0 q122 q267 rfl dX1_owes_24 rfl rfl rfl rfl rfl (Nat.le_refl _) (Nat.le_refl _) ?_
    cases hf
    exact fk_ireturn X Y dX1_owes_27 rfl
  · refine fk_aload_n X 0 dX1_owes_9 rfl ?_
    refine fk_aload_n X 0 dX1_owes_10 rfl ?_
    refine fk_iload_n X 1 dX1_owes_11 rfl ?_
    refine fk_iload_n X 2 dX1_owes_12 rfl ?_
    obtain ⟨u6, hq, hf⟩ := bI hf
    obtain ⟨z7, hv, hf⟩ := bI hf
    refine fk_callV0I (ci := 0) (rest := [tR a0]) X hq rfl (c_X1_owed hv) n_X1_owed q1249 q1251 qs45 q122 q1252 rfl dX1_owes_13 rfl rfl rfl rfl rfl (Nat.le_refl _) (Nat.le_refl _) ?_
    obtain ⟨u8, hq, hf⟩ := bI hf
    obtain ⟨z9, m10, hv, hf⟩ := bn2_eq hf
    refine fk_callV0I (ci := 0) (rest := []) X hq rfl (c_X1_well hv) n_X1_well q1001 q1003 qs25 q122 q1004 rfl dX1_owes_16 rfl rfl rfl rfl rfl (Nat.le_refl _) (Nat.le_refl _) ?_
    refine fk_goto X 27 dX1_owes_19 rfl ?_
    cases hf
    exact fk_ireturn X Y dX1_owes_27 rfl
/-! FigureKnee netOf (I)I -/
theorem n_X1_netOf : fk_N yX1_netOf 1 := ⟨by decide +kernel, by decide +kernel, by decide +kernel, by decide +kernel⟩
def f_X1_netOf_L4 (x0 : Option Nat) (x1 : Int32) (m : fk_M) : Nat → Int32 → Int32 → Option Int32
  | 0, _, _ => none
  | N + 1, x2, x3 =>
  (isO m x0 0).bind fun u1 => (f_X1_pairs x0 m).bind fun z2 => if z2 ≤ x3 then (some x2) else ((isO m x0 0).bind fun u3 => (f_X1_owed x0 x3 x1 m).bind fun z4 => (isO m x0 0).bind fun u5 => (f_X1_owed x0 x1 x3 m).bind fun z6 => f_X1_netOf_L4 x0 x1 m N (x2 + (z4 - z6)) (x3 + 1))
set_option maxHeartbeats 4000000 in
theorem w_X1_netOf_L4 {E : fk_E} {l : Launch} {G : fk_G} {b0 n : Nat} {m : fk_M} {r : Int32} (X : fk_X E l G b0 "FigureKnee" "netOf" cX1_netOf 4 3 100 0 0) (Y : fk_Y E (some .int) (some (tI r)) n m 0 0) (x0 : Option Nat) (x1 : Int32) : ∀ (N : Nat) (x2 : Int32) (x3 : Int32), f_X1_netOf_L4 x0 x1 m N x2 x3 = some r → fk_W E 4 n m 0 0 4 [(0, tR x0), (1, tI x1), (2, tI x2), (3, tI x3)] [] := by
  intro N
  induction N with
  | zero =>
    intro x2 x3 hf
    have hf : (none : Option Int32) = some _ := hf
    cases hf
  | succ N ih =>
    intro x2 x3 hf
    rw [f_X1_netOf_L4] at hf
    refine fk_iload_n X 3 dX1_netOf_4 rfl ?_
    refine fk_aload_n X 0 dX1_netOf_5 rfl ?_
    obtain ⟨u1, hq, hf⟩ := bI hf
    obtain ⟨z2, hv, hf⟩ := bI hf
    refine fk_callV0I (ci := 0) (rest := [tI x3]) X hq rfl (c_X1_pairs hv) n_X1_pairs q996 q998 qs24 q122 q999 rfl dX1_netOf_6 rfl rfl rfl rfl rfl (Nat.le_refl _) (Nat.le_refl _) ?_
    refine fk_icmp_ge' X 34 dX1_netOf_9 rfl hf (fun hf => ?_) (fun hf => ?_)
    · refine fk_iload_n X 2 dX1_netOf_34 rfl ?_
      cases hf
      exact fk_ireturn X Y dX1_netOf_35 rfl
    · refine fk_iload_n X 2 dX1_netOf_12 rfl ?_
      refine fk_aload_n X 0 dX1_netOf_13 rfl ?_
      refine fk_iload_n X 3 dX1_netOf_14 rfl ?_
      refine fk_iload_n X 1 dX1_netOf_15 rfl ?_
      obtain ⟨u3, hq, hf⟩ := bI hf
      obtain ⟨z4, hv, hf⟩ := bI hf
      refine fk_callV0I (ci := 0) (rest := [tI x2]) X hq rfl (c_X1_owed hv) n_X1_owed q1249 q1251 qs45 q122 q1252 rfl dX1_netOf_16 rfl rfl rfl rfl rfl (Nat.le_refl _) (Nat.le_refl _) ?_
      refine fk_aload_n X 0 dX1_netOf_19 rfl ?_
      refine fk_iload_n X 1 dX1_netOf_20 rfl ?_
      refine fk_iload_n X 3 dX1_netOf_21 rfl ?_
      obtain ⟨u5, hq, hf⟩ := bI hf
      obtain ⟨z6, hv, hf⟩ := bI hf
      refine fk_callV0I (ci := 0) (rest := [tI z4, tI x2]) X hq rfl (c_X1_owed hv) n_X1_owed q1249 q1251 qs45 q122 q1252 rfl dX1_netOf_22 rfl rfl rfl rfl rfl (Nat.le_refl _) (Nat.le_refl _) ?_
      refine fk_isub X dX1_netOf_25 ?_
      refine fk_iadd X dX1_netOf_26 ?_
      refine fk_istore_n X [(2, tI (x2 + (z4 - z6))), (0, tR x0), (1, tI x1), (3, tI x3)] dX1_netOf_27 rfl rfl ?_
      refine fk_iinc X 3 [(3, tI (x3 + 1)), (2, tI (x2 + (z4 - z6))), (0, tR x0), (1, tI x1)] dX1_netOf_28 rfl rfl rfl rfl ?_
      refine fk_goto X 4 dX1_netOf_31 rfl ?_
      exact fk_cut' (ih (x2 + (z4 - z6)) (x3 + 1)  hf) [2, 3, 1, 0] rfl
def f_X1_netOf (a0 : Option Nat) (a1 : Int32) (m : fk_M) : Option Int32 :=
  f_X1_netOf_L4 a0 a1 m fk_fuel 0 0
set_option maxHeartbeats 4000000 in
theorem c_X1_netOf {l : Launch} {G : fk_G} {b0 : Nat} {n : Nat} {a0 : Option Nat} {a1 : Int32} {m : fk_M} {r : Int32} (hf : f_X1_netOf a0 a1 m = some r) : fk_Ct l G b0 yX1_netOf cX1_netOf 4 (some .int) 3 100 [tR a0, tI a1] n m (some (tI r)) n m 0 0 := by
  refine fk_enter n_X1_netOf.1 rfl ?_
  intro E X0 Y
  have X : fk_X E l G b0 "FigureKnee" "netOf" cX1_netOf 4 3 100 0 0 := X0
  show fk_W E 4 n m 0 0 0 [(0, tR a0), (1, tI a1)] []
  unfold f_X1_netOf at hf
  refine fk_iconst (v := 0) X dX1_netOf_0 rfl ?_
  refine fk_istore_n X [(2, tI 0), (0, tR a0), (1, tI a1)] dX1_netOf_1 rfl rfl ?_
  refine fk_iconst (v := 0) X dX1_netOf_2 rfl ?_
  refine fk_istore_n X [(3, tI 0), (2, tI 0), (0, tR a0), (1, tI a1)] dX1_netOf_3 rfl rfl ?_
  exact fk_cut' (w_X1_netOf_L4 X Y a0 a1 fk_fuel 0 0 hf) [2, 3, 1, 0] rfl
/-! FigureKnee refusedBy (II)I -/
theorem n_X1_refusedBy : fk_N yX1_refusedBy 2 := ⟨by decide +kernel, by decide +kernel, by decide +kernel, by decide +kernel⟩
def f_X1_refusedBy (a0 : Option Nat) (a1 : Int32) (a2 : Int32) (m0 : fk_M) : Option (Int32 × fk_M) :=
  (isO m0 a0 0).bind fun u1 => bn2 (f_X1_refused a0 a1 m0) fun z2 m3 => some (a2, m3)
set_option maxHeartbeats 4000000 in
theorem c_X1_refusedBy {l : Launch} {G : fk_G} {b0 : Nat} {n : Nat} {a0 : Option Nat} {a1 : Int32} {a2 : Int32} {m0 : fk_M} {r : Int32} {mF : fk_M} (hf : f_X1_refusedBy a0 a1 a2 m0 = some (r, mF)) : fk_Ct l G b0 yX1_refusedBy cX1_refusedBy 3 (some .int) 2 81 [tR a0, tI a1, tI a2] n m0 (some (tI r)) n mF 0 0 := by
  refine fk_enter n_X1_refusedBy.1 rfl ?_
  intro E X0 Y
  have X : fk_X E l G b0 "FigureKnee" "refusedBy" cX1_refusedBy 3 2 81 0 0 := X0
  show fk_W E 3 n m0 0 0 0 [(0, tR a0), (1, tI a1), (2, tI a2)] []
  unfold f_X1_refusedBy at hf
  refine fk_aload_n X 0 dX1_refusedBy_0 rfl ?_
  refine fk_iload_n X 1 dX1_refusedBy_1 rfl ?_
  obtain ⟨u1, hq, hf⟩ := bI hf
  obtain ⟨z2, m3, hv, hf⟩ := bn2_eq hf
  refine fk_callV0I (ci := 0) (rest := []) X hq rfl (c_X1_refused hv) n_X1_refused q264 q266 qs0 q122 q267 rfl dX1_refusedBy_2 rfl rfl rfl rfl rfl (Nat.le_refl _) (Nat.le_refl _) ?_
  refine fk_pop X dX1_refusedBy_5 rfl ?_
  refine fk_iload_n X 2 dX1_refusedBy_6 rfl ?_
  cases hf
  exact fk_ireturn X Y dX1_refusedBy_7 rfl
/-! FigureKnee net (I)I -/
theorem n_X1_net : fk_N yX1_net 1 := ⟨by decide +kernel, by decide +kernel, by decide +kernel, by decide +kernel⟩
def f_X1_net (a0 : Option Nat) (a1 : Int32) (m0 : fk_M) : Option (Int32 × fk_M) :=
  (isO m0 a0 0).bind fun u1 => (f_X1_isPair a0 a1 m0).bind fun z2 => if z2 = 0 then ((isO m0 a0 0).bind fun u3 => bn2 (f_X1_refusedBy a0 1 (-1000000) m0) fun z4 m5 => some (z4, m5)) else ((isO m0 a0 0).bind fun u6 => (f_X1_netOf a0 a1 m0).bind fun z7 => (isO m0 a0 0).bind fun u8 => bn2 (f_X1_well a0 z7 m0) fun z9 m10 => some (z9, m10))
set_option maxHeartbeats 4000000 in
theorem c_X1_net {l : Launch} {G : fk_G} {b0 : Nat} {n : Nat} {a0 : Option Nat} {a1 : Int32} {m0 : fk_M} {r : Int32} {mF : fk_M} (hf : f_X1_net a0 a1 m0 = some (r, mF)) : fk_Ct l G b0 yX1_net cX1_net 2 (some .int) 4 123 [tR a0, tI a1] n m0 (some (tI r)) n mF 0 0 := by
  refine fk_enter n_X1_net.1 rfl ?_
  intro E X0 Y
  have X : fk_X E l G b0 "FigureKnee" "net" cX1_net 2 4 123 0 0 := X0
  show fk_W E 2 n m0 0 0 0 [(0, tR a0), (1, tI a1)] []
  unfold f_X1_net at hf
  refine fk_aload_n X 0 dX1_net_0 rfl ?_
  refine fk_iload_n X 1 dX1_net_1 rfl ?_
  obtain ⟨u1, hq, hf⟩ := bI hf
  obtain ⟨z2, hv, hf⟩ := bI hf
  refine fk_callV0I (ci := 0) (rest := []) X hq rfl (c_X1_isPair hv) n_X1_isPair q1017 q1019 qs26 q122 q1020 rfl dX1_net_2 rfl rfl rfl rfl rfl (Nat.le_refl _) (Nat.le_refl _) ?_
  refine fk_if_eq' X 20 dX1_net_5 rfl hf (fun hf => ?_) (fun hf => ?_)
  · refine fk_aload_n X 0 dX1_net_20 rfl ?_
    refine fk_iconst (v := 1) X dX1_net_21 rfl ?_
    refine fk_ldcw X q1261 dX1_net_22 ?_
    obtain ⟨u3, hq, hf⟩ := bI hf
    obtain ⟨z4, m5, hv, hf⟩ := bn2_eq hf
    refine fk_callV0I (ci := 0) (rest := []) X hq rfl (c_X1_refusedBy hv) n_X1_refusedBy q1262 q1264 qs47 q122 q1265 rfl dX1_net_25 rfl rfl rfl rfl rfl (Nat.le_refl _) (Nat.le_refl _) ?_
    cases hf
    exact fk_ireturn X Y dX1_net_28 rfl
  · refine fk_aload_n X 0 dX1_net_8 rfl ?_
    refine fk_aload_n X 0 dX1_net_9 rfl ?_
    refine fk_iload_n X 1 dX1_net_10 rfl ?_
    obtain ⟨u6, hq, hf⟩ := bI hf
    obtain ⟨z7, hv, hf⟩ := bI hf
    refine fk_callV0I (ci := 0) (rest := [tR a0]) X hq rfl (c_X1_netOf hv) n_X1_netOf q1257 q1259 qs46 q122 q1260 rfl dX1_net_11 rfl rfl rfl rfl rfl (Nat.le_refl _) (Nat.le_refl _) ?_
    obtain ⟨u8, hq, hf⟩ := bI hf
    obtain ⟨z9, m10, hv, hf⟩ := bn2_eq hf
    refine fk_callV0I (ci := 0) (rest := []) X hq rfl (c_X1_well hv) n_X1_well q1001 q1003 qs25 q122 q1004 rfl dX1_net_14 rfl rfl rfl rfl rfl (Nat.le_refl _) (Nat.le_refl _) ?_
    refine fk_goto X 28 dX1_net_17 rfl ?_
    cases hf
    exact fk_ireturn X Y dX1_net_28 rfl
/-! FigureKnee due ()I -/
theorem n_X1_due : fk_N yX1_due 0 := ⟨by decide +kernel, by decide +kernel, by decide +kernel, by decide +kernel⟩
def f_X1_due_L17 (x0 : Option Nat) (m0 : fk_M) : Nat → Int32 → Int32 → Option (Int32 × fk_M)
  | 0, _, _ => none
  | N + 1, x1, x2 =>
  (isO m0 x0 0).bind fun u1 => (f_X1_pairs x0 m0).bind fun z2 => if z2 ≤ x2 then ((isO m0 x0 0).bind fun u3 => bn2 (f_X1_well x0 x1 m0) fun z4 m5 => some (z4, m5)) else ((isO m0 x0 0).bind fun u6 => (f_X1_netOf x0 x2 m0).bind fun z7 => f_X1_due_L17 x0 m0 N (x1 + (i_max 0 z7)) (x2 + 1))
set_option maxHeartbeats 4000000 in
theorem w_X1_due_L17 {E : fk_E} {l : Launch} {G : fk_G} {b0 n : Nat} {r : Int32} {mF : fk_M} (X : fk_X E l G b0 "FigureKnee" "due" cX1_due 3 4 123 0 0) (Y : fk_Y E (some .int) (some (tI r)) n mF 0 0) (x0 : Option Nat) (m0 : fk_M) : ∀ (N : Nat) (x1 : Int32) (x2 : Int32), f_X1_due_L17 x0 m0 N x1 x2 = some (r, mF) → fk_W E 3 n m0 0 0 17 [(0, tR x0), (1, tI x1), (2, tI x2)] [] := by
  intro N
  induction N with
  | zero =>
    intro x1 x2 hf
    have hf : (none : Option (Int32 × fk_M)) = some _ := hf
    cases hf
  | succ N ih =>
    intro x1 x2 hf
    rw [f_X1_due_L17] at hf
    refine fk_iload_n X 2 dX1_due_17 rfl ?_
    refine fk_aload_n X 0 dX1_due_18 rfl ?_
    obtain ⟨u1, hq, hf⟩ := bI hf
    obtain ⟨z2, hv, hf⟩ := bI hf
    refine fk_callV0I (ci := 0) (rest := [tI x2]) X hq rfl (c_X1_pairs hv) n_X1_pairs q996 q998 qs24 q122 q999 rfl dX1_due_19 rfl rfl rfl rfl rfl (Nat.le_refl _) (Nat.le_refl _) ?_
    refine fk_icmp_ge' X 43 dX1_due_22 rfl hf (fun hf => ?_) (fun hf => ?_)
    · refine fk_aload_n X 0 dX1_due_43 rfl ?_
      refine fk_iload_n X 1 dX1_due_44 rfl ?_
      obtain ⟨u3, hq, hf⟩ := bI hf
      obtain ⟨z4, m5, hv, hf⟩ := bn2_eq hf
      refine fk_callV0I (ci := 0) (rest := []) X hq rfl (c_X1_well hv) n_X1_well q1001 q1003 qs25 q122 q1004 rfl dX1_due_45 rfl rfl rfl rfl rfl (Nat.le_refl _) (Nat.le_refl _) ?_
      cases hf
      exact fk_ireturn X Y dX1_due_48 rfl
    · refine fk_iload_n X 1 dX1_due_25 rfl ?_
      refine fk_iconst (v := 0) X dX1_due_26 rfl ?_
      refine fk_aload_n X 0 dX1_due_27 rfl ?_
      refine fk_iload_n X 2 dX1_due_28 rfl ?_
      obtain ⟨u6, hq, hf⟩ := bI hf
      obtain ⟨z7, hv, hf⟩ := bI hf
      refine fk_callV0I (ci := 0) (rest := [tI 0, tI x1]) X hq rfl (c_X1_netOf hv) n_X1_netOf q1257 q1259 qs46 q122 q1260 rfl dX1_due_29 rfl rfl rfl rfl rfl (Nat.le_refl _) (Nat.le_refl _) ?_
      refine fk_mmax X q1103 q421 q136 q422 dX1_due_32 (by omega) (Nat.le_trans (Nat.le_of_ble_eq_true (rfl : Nat.ble (_ + 13) 40 = true)) (by omega)) (Nat.le_refl _) (Nat.le_refl _) ?_
      refine fk_iadd X dX1_due_35 ?_
      refine fk_istore_n X [(1, tI (x1 + (i_max 0 z7))), (0, tR x0), (2, tI x2)] dX1_due_36 rfl rfl ?_
      refine fk_iinc X 2 [(2, tI (x2 + 1)), (1, tI (x1 + (i_max 0 z7))), (0, tR x0)] dX1_due_37 rfl rfl rfl rfl ?_
      refine fk_goto X 17 dX1_due_40 rfl ?_
      exact fk_cut' (ih (x1 + (i_max 0 z7)) (x2 + 1)  hf) [2, 1, 0] rfl
def f_X1_due (a0 : Option Nat) (m0 : fk_M) : Option (Int32 × fk_M) :=
  (gR m0 a0 0 5).bind fun z1 => if z1 = none then ((isO m0 a0 0).bind fun u2 => bn2 (f_X1_refused a0 1 m0) fun z3 m4 => some (z3, m4)) else (f_X1_due_L17 a0 m0 fk_fuel 0 0)
set_option maxHeartbeats 4000000 in
theorem c_X1_due {l : Launch} {G : fk_G} {b0 : Nat} {n : Nat} {a0 : Option Nat} {m0 : fk_M} {r : Int32} {mF : fk_M} (hf : f_X1_due a0 m0 = some (r, mF)) : fk_Ct l G b0 yX1_due cX1_due 3 (some .int) 4 123 [tR a0] n m0 (some (tI r)) n mF 0 0 := by
  refine fk_enter n_X1_due.1 rfl ?_
  intro E X0 Y
  have X : fk_X E l G b0 "FigureKnee" "due" cX1_due 3 4 123 0 0 := X0
  show fk_W E 3 n m0 0 0 0 [(0, tR a0)] []
  unfold f_X1_due at hf
  refine fk_aload_n X 0 dX1_due_0 rfl ?_
  refine fk_getR' X fd_0_5 q195 dX1_due_1 hf (fun z1 hf => ?_)
  refine fk_ifnonnull' X 13 dX1_due_4 rfl hf (fun hf => ?_) (fun hf => ?_)
  · refine fk_iconst (v := 0) X dX1_due_13 rfl ?_
    refine fk_istore_n X [(1, tI 0), (0, tR a0)] dX1_due_14 rfl rfl ?_
    refine fk_iconst (v := 0) X dX1_due_15 rfl ?_
    refine fk_istore_n X [(2, tI 0), (1, tI 0), (0, tR a0)] dX1_due_16 rfl rfl ?_
    exact fk_cut' (w_X1_due_L17 X Y a0 m0 fk_fuel 0 0 hf) [2, 1, 0] rfl
  · refine fk_aload_n X 0 dX1_due_7 rfl ?_
    refine fk_iconst (v := 1) X dX1_due_8 rfl ?_
    obtain ⟨u2, hq, hf⟩ := bI hf
    obtain ⟨z3, m4, hv, hf⟩ := bn2_eq hf
    refine fk_callV0I (ci := 0) (rest := []) X hq rfl (c_X1_refused hv) n_X1_refused q264 q266 qs0 q122 q267 rfl dX1_due_9 rfl rfl rfl rfl rfl (Nat.le_refl _) (Nat.le_refl _) ?_
    cases hf
    exact fk_ireturn X Y dX1_due_12 rfl
/-! FigureKnee creditor ()I -/
theorem n_X1_creditor : fk_N yX1_creditor 0 := ⟨by decide +kernel, by decide +kernel, by decide +kernel, by decide +kernel⟩
def f_X1_creditor_L17 (x0 : Option Nat) (m0 : fk_M) : Nat → Int32 → Int32 → Option (Int32 × fk_M)
  | 0, _, _ => none
  | N + 1, x1, x2 =>
  (isO m0 x0 0).bind fun u1 => (f_X1_pairs x0 m0).bind fun z2 => if z2 ≤ x2 then ((isO m0 x0 0).bind fun u3 => bn2 (f_X1_well x0 x1 m0) fun z4 m5 => some (z4, m5)) else ((isO m0 x0 0).bind fun u6 => (f_X1_netOf x0 x2 m0).bind fun z7 => (isO m0 x0 0).bind fun u8 => (f_X1_netOf x0 x1 m0).bind fun z9 => f_X1_creditor_L17 x0 m0 N (if z7 ≤ z9 then x1 else x2) (x2 + 1))
set_option maxHeartbeats 4000000 in
theorem w_X1_creditor_L17 {E : fk_E} {l : Launch} {G : fk_G} {b0 n : Nat} {r : Int32} {mF : fk_M} (X : fk_X E l G b0 "FigureKnee" "creditor" cX1_creditor 3 4 123 0 0) (Y : fk_Y E (some .int) (some (tI r)) n mF 0 0) (x0 : Option Nat) (m0 : fk_M) : ∀ (N : Nat) (x1 : Int32) (x2 : Int32), f_X1_creditor_L17 x0 m0 N x1 x2 = some (r, mF) → fk_W E 3 n m0 0 0 17 [(0, tR x0), (1, tI x1), (2, tI x2)] [] := by
  intro N
  induction N with
  | zero =>
    intro x1 x2 hf
    have hf : (none : Option (Int32 × fk_M)) = some _ := hf
    cases hf
  | succ N ih =>
    intro x1 x2 hf
    rw [f_X1_creditor_L17] at hf
    refine fk_iload_n X 2 dX1_creditor_17 rfl ?_
    refine fk_aload_n X 0 dX1_creditor_18 rfl ?_
    obtain ⟨u1, hq, hf⟩ := bI hf
    obtain ⟨z2, hv, hf⟩ := bI hf
    refine fk_callV0I (ci := 0) (rest := [tI x2]) X hq rfl (c_X1_pairs hv) n_X1_pairs q996 q998 qs24 q122 q999 rfl dX1_creditor_19 rfl rfl rfl rfl rfl (Nat.le_refl _) (Nat.le_refl _) ?_
    refine fk_icmp_ge' X 46 dX1_creditor_22 rfl hf (fun hf => ?_) (fun hf => ?_)
    · refine fk_aload_n X 0 dX1_creditor_46 rfl ?_
      refine fk_iload_n X 1 dX1_creditor_47 rfl ?_
      obtain ⟨u3, hq, hf⟩ := bI hf
      obtain ⟨z4, m5, hv, hf⟩ := bn2_eq hf
      refine fk_callV0I (ci := 0) (rest := []) X hq rfl (c_X1_well hv) n_X1_well q1001 q1003 qs25 q122 q1004 rfl dX1_creditor_48 rfl rfl rfl rfl rfl (Nat.le_refl _) (Nat.le_refl _) ?_
      cases hf
      exact fk_ireturn X Y dX1_creditor_51 rfl
    · refine fk_aload_n X 0 dX1_creditor_25 rfl ?_
      refine fk_iload_n X 2 dX1_creditor_26 rfl ?_
      obtain ⟨u6, hq, hf⟩ := bI hf
      obtain ⟨z7, hv, hf⟩ := bI hf
      refine fk_callV0I (ci := 0) (rest := []) X hq rfl (c_X1_netOf hv) n_X1_netOf q1257 q1259 qs46 q122 q1260 rfl dX1_creditor_27 rfl rfl rfl rfl rfl (Nat.le_refl _) (Nat.le_refl _) ?_
      refine fk_aload_n X 0 dX1_creditor_30 rfl ?_
      refine fk_iload_n X 1 dX1_creditor_31 rfl ?_
      obtain ⟨u8, hq, hf⟩ := bI hf
      obtain ⟨z9, hv, hf⟩ := bI hf
      refine fk_callV0I (ci := 0) (rest := [tI z7]) X hq rfl (c_X1_netOf hv) n_X1_netOf q1257 q1259 qs46 q122 q1260 rfl dX1_creditor_32 rfl rfl rfl rfl rfl (Nat.le_refl _) (Nat.le_refl _) ?_
      have J1 : fk_W E 3 n m0 0 0 40 [(0, tR x0), (1, tI (if z7 ≤ z9 then x1 else x2)), (2, tI x2)] [] := by
        refine fk_iinc X 2 [(2, tI (x2 + 1)), (0, tR x0), (1, tI (if z7 ≤ z9 then x1 else x2))] dX1_creditor_40 rfl rfl rfl rfl ?_
        refine fk_goto X 17 dX1_creditor_43 rfl ?_
        exact fk_cut' (ih (if z7 ≤ z9 then x1 else x2) (x2 + 1)  hf) [1, 2, 0] rfl
      refine fk_icmp_le X 40 dX1_creditor_35 rfl (fun hc2 => ?_) (fun hc2 => ?_)
      · simp only [if_pos hc2] at J1
        exact fk_cut' J1 [0, 1, 2] rfl
      · refine fk_iload_n X 2 dX1_creditor_38 rfl ?_
        refine fk_istore_n X [(1, tI x2), (0, tR x0), (2, tI x2)] dX1_creditor_39 rfl rfl ?_
        simp only [if_neg hc2] at J1
        exact fk_cut' J1 [1, 0, 2] rfl
def f_X1_creditor (a0 : Option Nat) (m0 : fk_M) : Option (Int32 × fk_M) :=
  (gR m0 a0 0 5).bind fun z1 => if z1 = none then ((isO m0 a0 0).bind fun u2 => bn2 (f_X1_refused a0 1 m0) fun z3 m4 => some (z3, m4)) else (f_X1_creditor_L17 a0 m0 fk_fuel 0 1)
set_option maxHeartbeats 4000000 in
theorem c_X1_creditor {l : Launch} {G : fk_G} {b0 : Nat} {n : Nat} {a0 : Option Nat} {m0 : fk_M} {r : Int32} {mF : fk_M} (hf : f_X1_creditor a0 m0 = some (r, mF)) : fk_Ct l G b0 yX1_creditor cX1_creditor 3 (some .int) 4 123 [tR a0] n m0 (some (tI r)) n mF 0 0 := by
  refine fk_enter n_X1_creditor.1 rfl ?_
  intro E X0 Y
  have X : fk_X E l G b0 "FigureKnee" "creditor" cX1_creditor 3 4 123 0 0 := X0
  show fk_W E 3 n m0 0 0 0 [(0, tR a0)] []
  unfold f_X1_creditor at hf
  refine fk_aload_n X 0 dX1_creditor_0 rfl ?_
  refine fk_getR' X fd_0_5 q195 dX1_creditor_1 hf (fun z1 hf => ?_)
  refine fk_ifnonnull' X 13 dX1_creditor_4 rfl hf (fun hf => ?_) (fun hf => ?_)
  · refine fk_iconst (v := 0) X dX1_creditor_13 rfl ?_
    refine fk_istore_n X [(1, tI 0), (0, tR a0)] dX1_creditor_14 rfl rfl ?_
    refine fk_iconst (v := 1) X dX1_creditor_15 rfl ?_
    refine fk_istore_n X [(2, tI 1), (1, tI 0), (0, tR a0)] dX1_creditor_16 rfl rfl ?_
    exact fk_cut' (w_X1_creditor_L17 X Y a0 m0 fk_fuel 0 1 hf) [2, 1, 0] rfl
  · refine fk_aload_n X 0 dX1_creditor_7 rfl ?_
    refine fk_iconst (v := 1) X dX1_creditor_8 rfl ?_
    obtain ⟨u2, hq, hf⟩ := bI hf
    obtain ⟨z3, m4, hv, hf⟩ := bn2_eq hf
    refine fk_callV0I (ci := 0) (rest := []) X hq rfl (c_X1_refused hv) n_X1_refused q264 q266 qs0 q122 q267 rfl dX1_creditor_9 rfl rfl rfl rfl rfl (Nat.le_refl _) (Nat.le_refl _) ?_
    cases hf
    exact fk_ireturn X Y dX1_creditor_12 rfl
/-! FigureKnee bits (I)I -/
theorem n_X1_bits : fk_N yX1_bits 1 := ⟨by decide +kernel, by decide +kernel, by decide +kernel, by decide +kernel⟩
def f_X1_bits_L4 (m : fk_M) : Nat → Int32 → Int32 → Option Int32
  | 0, _, _ => none
  | N + 1, x1, x2 =>
  if x2 = 0 then (some x1) else (f_X1_bits_L4 m N (x1 + 1) (x2 &&& (x2 - 1)))
set_option maxHeartbeats 4000000 in
theorem w_X1_bits_L4 {E : fk_E} {l : Launch} {G : fk_G} {b0 n : Nat} {m : fk_M} {r : Int32} (X : fk_X E l G b0 "FigureKnee" "bits" cX1_bits 3 1 60 0 0) (Y : fk_Y E (some .int) (some (tI r)) n m 0 0)  : ∀ (N : Nat) (x1 : Int32) (x2 : Int32), f_X1_bits_L4 m N x1 x2 = some r → fk_W E 3 n m 0 0 4 [(1, tI x1), (2, tI x2)] [] := by
  intro N
  induction N with
  | zero =>
    intro x1 x2 hf
    have hf : (none : Option Int32) = some _ := hf
    cases hf
  | succ N ih =>
    intro x1 x2 hf
    rw [f_X1_bits_L4] at hf
    refine fk_iload_n X 1 dX1_bits_4 rfl ?_
    refine fk_if_eq' X 20 dX1_bits_5 rfl hf (fun hf => ?_) (fun hf => ?_)
    · refine fk_iload_n X 0 dX1_bits_20 rfl ?_
      cases hf
      exact fk_ireturn X Y dX1_bits_21 rfl
    · refine fk_iinc X 0 [(1, tI (x1 + 1)), (2, tI x2)] dX1_bits_8 rfl rfl rfl rfl ?_
      refine fk_iload_n X 1 dX1_bits_11 rfl ?_
      refine fk_iload_n X 1 dX1_bits_12 rfl ?_
      refine fk_iconst (v := 1) X dX1_bits_13 rfl ?_
      refine fk_isub X dX1_bits_14 ?_
      refine fk_iand X dX1_bits_15 ?_
      refine fk_istore_n X [(2, tI (x2 &&& (x2 - 1))), (1, tI (x1 + 1))] dX1_bits_16 rfl rfl ?_
      refine fk_goto X 4 dX1_bits_17 rfl ?_
      exact fk_cut' (ih (x1 + 1) (x2 &&& (x2 - 1))  hf) [1, 0] rfl
def f_X1_bits (a0 : Int32) (m : fk_M) : Option Int32 :=
  f_X1_bits_L4 m fk_fuel 0 a0
set_option maxHeartbeats 4000000 in
theorem c_X1_bits {l : Launch} {G : fk_G} {b0 : Nat} {n : Nat} {a0 : Int32} {m : fk_M} {r : Int32} (hf : f_X1_bits a0 m = some r) : fk_Ct l G b0 yX1_bits cX1_bits 3 (some .int) 1 60 [tI a0] n m (some (tI r)) n m 0 0 := by
  refine fk_enter n_X1_bits.1 rfl ?_
  intro E X0 Y
  have X : fk_X E l G b0 "FigureKnee" "bits" cX1_bits 3 1 60 0 0 := X0
  show fk_W E 3 n m 0 0 0 [(0, tI a0)] []
  unfold f_X1_bits at hf
  refine fk_iconst (v := 0) X dX1_bits_0 rfl ?_
  refine fk_istore_n X [(1, tI 0), (0, tI a0)] dX1_bits_1 rfl rfl ?_
  refine fk_iload_n X 1 dX1_bits_2 rfl ?_
  refine fk_istore_n X [(2, tI a0), (1, tI 0), (0, tI a0)] dX1_bits_3 rfl rfl ?_
  exact fk_cut' (w_X1_bits_L4 X Y fk_fuel 0 a0 hf) [1, 0] rfl
/-! FigureKnee payments ()I -/
theorem n_X1_payments : fk_N yX1_payments 0 := ⟨by decide +kernel, by decide +kernel, by decide +kernel, by decide +kernel⟩
def f_X1_payments_J150 (R51 : Int32 → fk_M → Option (Int32 × fk_M)) (x0 : Option Nat) (x1 : Int32) (x2 : Int32) (m0 : fk_M) : Option (Int32 × fk_M) :=
  R51 (x2 + 1) m0
set_option maxHeartbeats 4000000 in
theorem w_X1_payments_J150 {E : fk_E} {l : Launch} {G : fk_G} {b0 n : Nat} {r : Int32} {mF : fk_M} (X : fk_X E l G b0 "FigureKnee" "payments" cX1_payments 5 4 123 0 0) (Y : fk_Y E (some .int) (some (tI r)) n mF 0 0) (x0 : Option Nat) (x1 : Int32) (x2 : Int32)  (m0 : fk_M) {R51 : Int32 → fk_M → Option (Int32 × fk_M)} (hR51 : ∀ (v2 : Int32) (m9 : fk_M), R51 v2 m9 = some (r, mF) → fk_W E 5 n m9 0 0 51 [(0, tR x0), (1, tI x1), (2, tI v2)] []) (hf : f_X1_payments_J150 R51 x0 x1 x2 m0 = some (r, mF)) : fk_W E 5 n m0 0 0 150 [(0, tR x0), (1, tI x1), (2, tI x2)] [] := by
  unfold f_X1_payments_J150 at hf
  refine fk_iinc X 2 [(2, tI (x2 + 1)), (0, tR x0), (1, tI x1)] dX1_payments_150 rfl rfl rfl rfl ?_
  refine fk_goto X 51 dX1_payments_153 rfl ?_
  exact fk_cut' (hR51 (x2 + 1) m0  hf) [1, 2, 0] rfl
def f_X1_payments_J126 (R51 : Int32 → fk_M → Option (Int32 × fk_M)) (R68 : Int32 → Int32 → fk_M → Option (Int32 × fk_M)) (x0 : Option Nat) (x1 : Int32) (x2 : Int32) (x3 : Int32) (x4 : Int32) (m0 : fk_M) : Option (Int32 × fk_M) :=
  R68 x3 (x4 + 1) m0
set_option maxHeartbeats 4000000 in
theorem w_X1_payments_J126 {E : fk_E} {l : Launch} {G : fk_G} {b0 n : Nat} {r : Int32} {mF : fk_M} (X : fk_X E l G b0 "FigureKnee" "payments" cX1_payments 5 4 123 0 0) (Y : fk_Y E (some .int) (some (tI r)) n mF 0 0) (x0 : Option Nat) (x1 : Int32) (x2 : Int32) (x3 : Int32) (x4 : Int32)  (m0 : fk_M) {R51 : Int32 → fk_M → Option (Int32 × fk_M)} (hR51 : ∀ (v2 : Int32) (m9 : fk_M), R51 v2 m9 = some (r, mF) → fk_W E 5 n m9 0 0 51 [(0, tR x0), (1, tI x1), (2, tI v2)] []) {R68 : Int32 → Int32 → fk_M → Option (Int32 × fk_M)} (hR68 : ∀ (v3 : Int32) (v4 : Int32) (m9 : fk_M), R68 v3 v4 m9 = some (r, mF) → fk_W E 5 n m9 0 0 68 [(0, tR x0), (1, tI x1), (2, tI x2), (3, tI v3), (4, tI v4)] []) (hf : f_X1_payments_J126 R51 R68 x0 x1 x2 x3 x4 m0 = some (r, mF)) : fk_W E 5 n m0 0 0 126 [(0, tR x0), (1, tI x1), (2, tI x2), (3, tI x3), (4, tI x4)] [] := by
  unfold f_X1_payments_J126 at hf
  refine fk_iinc X 4 [(4, tI (x4 + 1)), (0, tR x0), (1, tI x1), (2, tI x2), (3, tI x3)] dX1_payments_126 rfl rfl rfl rfl ?_
  refine fk_goto X 68 dX1_payments_129 rfl ?_
  exact fk_cut' (hR68 x3 (x4 + 1) m0  hf) [1, 2, 3, 4, 0] rfl
def f_X1_payments_L68 (R51 : Int32 → fk_M → Option (Int32 × fk_M)) (x0 : Option Nat) (x1 : Int32) (x2 : Int32) : Nat → Int32 → Int32 → fk_M → Option (Int32 × fk_M)
  | 0, _, _, _ => none
  | N + 1, x3, x4, m0 =>
  (isO m0 x0 0).bind fun u1 => (f_X1_pairs x0 m0).bind fun z2 => if z2 ≤ x4 then (if x2 = 0 then (f_X1_payments_J150 R51 x0 x1 x2 m0) else (if x3 = 0 then ((gR m0 x0 0 18).bind fun z3 => (aI m0 z3 0 x2).bind fun z4 => (sI m0 z3 0 x2 (z4 + 1)).bind fun m5 => f_X1_payments_J150 R51 x0 x1 x2 m5) else (f_X1_payments_J150 R51 x0 x1 x2 m0))) else ((f_X1_has x2 x4 m0).bind fun z6 => if z6 = 0 then (f_X1_payments_J126 R51 (f_X1_payments_L68 R51 x0 x1 x2 N) x0 x1 x2 x3 x4 m0) else ((isO m0 x0 0).bind fun u7 => (f_X1_netOf x0 x4 m0).bind fun z8 => (gR m0 x0 0 18).bind fun z9 => (gR m0 x0 0 18).bind fun z10 => (aI m0 z10 0 x2).bind fun z11 => (gR m0 x0 0 18).bind fun z12 => (aI m0 z12 0 (x2 &&& ((i_shl 1 x4) ^^^ (-1)))).bind fun z13 => (sI m0 z9 0 x2 (i_max z11 z13)).bind fun m14 => f_X1_payments_J126 R51 (f_X1_payments_L68 R51 x0 x1 x2 N) x0 x1 x2 (x3 + z8) x4 m14))
set_option maxHeartbeats 4000000 in
theorem w_X1_payments_L68 {E : fk_E} {l : Launch} {G : fk_G} {b0 n : Nat} {r : Int32} {mF : fk_M} (X : fk_X E l G b0 "FigureKnee" "payments" cX1_payments 5 4 123 0 0) (Y : fk_Y E (some .int) (some (tI r)) n mF 0 0) (x0 : Option Nat) (x1 : Int32) (x2 : Int32) {R51 : Int32 → fk_M → Option (Int32 × fk_M)} (hR51 : ∀ (v2 : Int32) (m9 : fk_M), R51 v2 m9 = some (r, mF) → fk_W E 5 n m9 0 0 51 [(0, tR x0), (1, tI x1), (2, tI v2)] []) : ∀ (N : Nat) (x3 : Int32) (x4 : Int32) (m0 : fk_M), f_X1_payments_L68 R51 x0 x1 x2 N x3 x4 m0 = some (r, mF) → fk_W E 5 n m0 0 0 68 [(0, tR x0), (1, tI x1), (2, tI x2), (3, tI x3), (4, tI x4)] [] := by
  intro N
  induction N with
  | zero =>
    intro x3 x4 m0 hf
    have hf : (none : Option (Int32 × fk_M)) = some _ := hf
    cases hf
  | succ N ih =>
    intro x3 x4 m0 hf
    rw [f_X1_payments_L68] at hf
    refine fk_iload X 4 dX1_payments_68 rfl ?_
    refine fk_aload_n X 0 dX1_payments_70 rfl ?_
    obtain ⟨u1, hq, hf⟩ := bI hf
    obtain ⟨z2, hv, hf⟩ := bI hf
    refine fk_callV0I (ci := 0) (rest := [tI x4]) X hq rfl (c_X1_pairs hv) n_X1_pairs q996 q998 qs24 q122 q999 rfl dX1_payments_71 rfl rfl rfl rfl rfl (Nat.le_refl _) (Nat.le_refl _) ?_
    refine fk_icmp_ge' X 132 dX1_payments_74 rfl hf (fun hf => ?_) (fun hf => ?_)
    · refine fk_iload_n X 2 dX1_payments_132 rfl ?_
      refine fk_if_eq' X 150 dX1_payments_133 rfl hf (fun hf => ?_) (fun hf => ?_)
      · exact fk_cut' (w_X1_payments_J150 X Y x0 x1 x2 m0 hR51 hf) [0, 1, 2] rfl
      · refine fk_iload_n X 3 dX1_payments_136 rfl ?_
        refine fk_if_ne' X 150 dX1_payments_137 rfl hf (fun hf => ?_) (fun hf => ?_)
        · exact fk_cut' (w_X1_payments_J150 X Y x0 x1 x2 m0 hR51 hf) [0, 1, 2] rfl
        · refine fk_aload_n X 0 dX1_payments_140 rfl ?_
          refine fk_getR' X fd_0_18 q208 dX1_payments_141 hf (fun z3 hf => ?_)
          refine fk_iload_n X 2 dX1_payments_144 rfl ?_
          refine fk_dup2 X dX1_payments_145 rfl rfl ?_
          refine fk_iaload' X dX1_payments_146 hf (fun z4 hf => ?_)
          refine fk_iconst (v := 1) X dX1_payments_147 rfl ?_
          refine fk_iadd X dX1_payments_148 ?_
          refine fk_iastore' X dX1_payments_149 hf (fun m5 hf => ?_)
          exact fk_cut' (w_X1_payments_J150 X Y x0 x1 x2 m5 hR51 hf) [0, 1, 2] rfl
    · refine fk_iload_n X 2 dX1_payments_77 rfl ?_
      refine fk_iload X 4 dX1_payments_78 rfl ?_
      obtain ⟨z6, hv, hf⟩ := bI hf
      refine fk_callS0I (rest := []) X (c_X1_has hv) n_X1_has q1210 q1211 q122 q1212 dX1_payments_80 rfl rfl rfl rfl rfl (Nat.le_refl _) (Nat.le_refl _) ?_
      refine fk_if_ne' X 89 dX1_payments_83 rfl hf (fun hf => ?_) (fun hf => ?_)
      · refine fk_iload_n X 3 dX1_payments_89 rfl ?_
        refine fk_aload_n X 0 dX1_payments_90 rfl ?_
        refine fk_iload X 4 dX1_payments_91 rfl ?_
        obtain ⟨u7, hq, hf⟩ := bI hf
        obtain ⟨z8, hv, hf⟩ := bI hf
        refine fk_callV0I (ci := 0) (rest := [tI x3]) X hq rfl (c_X1_netOf hv) n_X1_netOf q1257 q1259 qs46 q122 q1260 rfl dX1_payments_93 rfl rfl rfl rfl rfl (Nat.le_refl _) (Nat.le_refl _) ?_
        refine fk_iadd X dX1_payments_96 ?_
        refine fk_istore_n X [(3, tI (x3 + z8)), (0, tR x0), (1, tI x1), (2, tI x2), (4, tI x4)] dX1_payments_97 rfl rfl ?_
        refine fk_aload_n X 1 dX1_payments_98 rfl ?_
        refine fk_getR' X fd_0_18 q208 dX1_payments_99 hf (fun z9 hf => ?_)
        refine fk_iload_n X 3 dX1_payments_102 rfl ?_
        refine fk_aload_n X 1 dX1_payments_103 rfl ?_
        refine fk_getR' X fd_0_18 q208 dX1_payments_104 hf (fun z10 hf => ?_)
        refine fk_iload_n X 3 dX1_payments_107 rfl ?_
        refine fk_iaload' X dX1_payments_108 hf (fun z11 hf => ?_)
        refine fk_aload_n X 1 dX1_payments_109 rfl ?_
        refine fk_getR' X fd_0_18 q208 dX1_payments_110 hf (fun z12 hf => ?_)
        refine fk_iload_n X 3 dX1_payments_113 rfl ?_
        refine fk_iconst (v := 1) X dX1_payments_114 rfl ?_
        refine fk_iload X 4 dX1_payments_115 rfl ?_
        refine fk_ishl X dX1_payments_117 ?_
        refine fk_iconst (v := (-1)) X dX1_payments_118 rfl ?_
        refine fk_ixor X dX1_payments_119 ?_
        refine fk_iand X dX1_payments_120 ?_
        refine fk_iaload' X dX1_payments_121 hf (fun z13 hf => ?_)
        refine fk_mmax X q1103 q421 q136 q422 dX1_payments_122 (by omega) (Nat.le_trans (Nat.le_of_ble_eq_true (rfl : Nat.ble (_ + 13) 40 = true)) (by omega)) (Nat.le_refl _) (Nat.le_refl _) ?_
        refine fk_iastore' X dX1_payments_125 hf (fun m14 hf => ?_)
        exact fk_cut' (w_X1_payments_J126 X Y x0 x1 x2 (x3 + z8) x4 m14 hR51 ih hf) [1, 2, 3, 0, 4] rfl
      · refine fk_goto X 126 dX1_payments_86 rfl ?_
        exact fk_cut' (w_X1_payments_J126 X Y x0 x1 x2 x3 x4 m0 hR51 ih hf) [0, 1, 2, 3, 4] rfl
def f_X1_payments_L51 (x0 : Option Nat) (x1 : Int32) : Nat → Int32 → fk_M → Option (Int32 × fk_M)
  | 0, _, _ => none
  | N + 1, x2, m0 =>
  if x1 < x2 then ((f_X1_bits x1 m0).bind fun z1 => (gR m0 x0 0 18).bind fun z2 => (aI m0 z2 0 x1).bind fun z3 => (isO m0 x0 0).bind fun u4 => bn2 (f_X1_well x0 (z1 - z3) m0) fun z5 m6 => some (z5, m6)) else ((gR m0 x0 0 18).bind fun z7 => (sI m0 z7 0 x2 0).bind fun m8 => f_X1_payments_L68 (f_X1_payments_L51 x0 x1 N) x0 x1 x2 fk_fuel 0 0 m8)
set_option maxHeartbeats 4000000 in
theorem w_X1_payments_L51 {E : fk_E} {l : Launch} {G : fk_G} {b0 n : Nat} {r : Int32} {mF : fk_M} (X : fk_X E l G b0 "FigureKnee" "payments" cX1_payments 5 4 123 0 0) (Y : fk_Y E (some .int) (some (tI r)) n mF 0 0) (x0 : Option Nat) (x1 : Int32) : ∀ (N : Nat) (x2 : Int32) (m0 : fk_M), f_X1_payments_L51 x0 x1 N x2 m0 = some (r, mF) → fk_W E 5 n m0 0 0 51 [(0, tR x0), (1, tI x1), (2, tI x2)] [] := by
  intro N
  induction N with
  | zero =>
    intro x2 m0 hf
    have hf : (none : Option (Int32 × fk_M)) = some _ := hf
    cases hf
  | succ N ih =>
    intro x2 m0 hf
    rw [f_X1_payments_L51] at hf
    refine fk_iload_n X 2 dX1_payments_51 rfl ?_
    refine fk_iload_n X 1 dX1_payments_52 rfl ?_
    refine fk_icmp_gt' X 156 dX1_payments_53 rfl hf (fun hf => ?_) (fun hf => ?_)
    · refine fk_aload_n X 0 dX1_payments_156 rfl ?_
      refine fk_iload_n X 1 dX1_payments_157 rfl ?_
      obtain ⟨z1, hv, hf⟩ := bI hf
      refine fk_callS0I (rest := [tR x0]) X (c_X1_bits hv) n_X1_bits q1278 q1279 q122 q1280 dX1_payments_158 rfl rfl rfl rfl rfl (Nat.le_refl _) (Nat.le_refl _) ?_
      refine fk_aload_n X 0 dX1_payments_161 rfl ?_
      refine fk_getR' X fd_0_18 q208 dX1_payments_162 hf (fun z2 hf => ?_)
      refine fk_iload_n X 1 dX1_payments_165 rfl ?_
      refine fk_iaload' X dX1_payments_166 hf (fun z3 hf => ?_)
      refine fk_isub X dX1_payments_167 ?_
      obtain ⟨u4, hq, hf⟩ := bI hf
      obtain ⟨z5, m6, hv, hf⟩ := bn2_eq hf
      refine fk_callV0I (ci := 0) (rest := []) X hq rfl (c_X1_well hv) n_X1_well q1001 q1003 qs25 q122 q1004 rfl dX1_payments_168 rfl rfl rfl rfl rfl (Nat.le_refl _) (Nat.le_refl _) ?_
      cases hf
      exact fk_ireturn X Y dX1_payments_171 rfl
    · refine fk_iconst (v := 0) X dX1_payments_56 rfl ?_
      refine fk_istore_n X [(3, tI 0), (0, tR x0), (1, tI x1), (2, tI x2)] dX1_payments_57 rfl rfl ?_
      refine fk_aload_n X 1 dX1_payments_58 rfl ?_
      refine fk_getR' X fd_0_18 q208 dX1_payments_59 hf (fun z7 hf => ?_)
      refine fk_iload_n X 3 dX1_payments_62 rfl ?_
      refine fk_iconst (v := 0) X dX1_payments_63 rfl ?_
      refine fk_iastore' X dX1_payments_64 hf (fun m8 hf => ?_)
      refine fk_iconst (v := 0) X dX1_payments_65 rfl ?_
      refine fk_istore X [(4, tI 0), (3, tI 0), (0, tR x0), (1, tI x1), (2, tI x2)] dX1_payments_66 rfl rfl ?_
      exact fk_cut' (w_X1_payments_L68 X Y x0 x1 x2 ih fk_fuel 0 0 m8 hf) [2, 3, 4, 1, 0] rfl
def f_X1_payments_L17 (x0 : Option Nat) (m0 : fk_M) : Nat → Int32 → Int32 → Option (Int32 × fk_M)
  | 0, _, _ => none
  | N + 1, x1, x2 =>
  (isO m0 x0 0).bind fun u1 => (f_X1_pairs x0 m0).bind fun z2 => if z2 ≤ x2 then (f_X1_payments_L51 x0 x1 fk_fuel 0 m0) else ((isO m0 x0 0).bind fun u3 => (f_X1_netOf x0 x2 m0).bind fun z4 => f_X1_payments_L17 x0 m0 N (x1 ||| (if z4 = 0 then (0 : Int32) else (i_shl 1 x2))) (x2 + 1))
set_option maxHeartbeats 4000000 in
theorem w_X1_payments_L17 {E : fk_E} {l : Launch} {G : fk_G} {b0 n : Nat} {r : Int32} {mF : fk_M} (X : fk_X E l G b0 "FigureKnee" "payments" cX1_payments 5 4 123 0 0) (Y : fk_Y E (some .int) (some (tI r)) n mF 0 0) (x0 : Option Nat) (m0 : fk_M) : ∀ (N : Nat) (x1 : Int32) (x2 : Int32), f_X1_payments_L17 x0 m0 N x1 x2 = some (r, mF) → fk_W E 5 n m0 0 0 17 [(0, tR x0), (1, tI x1), (2, tI x2)] [] := by
  intro N
  induction N with
  | zero =>
    intro x1 x2 hf
    have hf : (none : Option (Int32 × fk_M)) = some _ := hf
    cases hf
  | succ N ih =>
    intro x1 x2 hf
    rw [f_X1_payments_L17] at hf
    refine fk_iload_n X 2 dX1_payments_17 rfl ?_
    refine fk_aload_n X 0 dX1_payments_18 rfl ?_
    obtain ⟨u1, hq, hf⟩ := bI hf
    obtain ⟨z2, hv, hf⟩ := bI hf
    refine fk_callV0I (ci := 0) (rest := [tI x2]) X hq rfl (c_X1_pairs hv) n_X1_pairs q996 q998 qs24 q122 q999 rfl dX1_payments_19 rfl rfl rfl rfl rfl (Nat.le_refl _) (Nat.le_refl _) ?_
    refine fk_icmp_ge' X 49 dX1_payments_22 rfl hf (fun hf => ?_) (fun hf => ?_)
    · refine fk_iconst (v := 0) X dX1_payments_49 rfl ?_
      refine fk_istore_n X [(2, tI 0), (0, tR x0), (1, tI x1)] dX1_payments_50 rfl rfl ?_
      exact fk_cut' (w_X1_payments_L51 X Y x0 x1 fk_fuel 0 m0 hf) [1, 2, 0] rfl
    · refine fk_iload_n X 1 dX1_payments_25 rfl ?_
      refine fk_aload_n X 0 dX1_payments_26 rfl ?_
      refine fk_iload_n X 2 dX1_payments_27 rfl ?_
      obtain ⟨u3, hq, hf⟩ := bI hf
      obtain ⟨z4, hv, hf⟩ := bI hf
      refine fk_callV0I (ci := 0) (rest := [tI x1]) X hq rfl (c_X1_netOf hv) n_X1_netOf q1257 q1259 qs46 q122 q1260 rfl dX1_payments_28 rfl rfl rfl rfl rfl (Nat.le_refl _) (Nat.le_refl _) ?_
      have J1 : fk_W E 5 n m0 0 0 41 [(0, tR x0), (2, tI x2)] [tI (if z4 = 0 then (0 : Int32) else (i_shl 1 x2)), tI x1] := by
        refine fk_ior X dX1_payments_41 ?_
        refine fk_istore_n X [(1, tI (x1 ||| (if z4 = 0 then (0 : Int32) else (i_shl 1 x2)))), (0, tR x0), (2, tI x2)] dX1_payments_42 rfl rfl ?_
        refine fk_iinc X 2 [(2, tI (x2 + 1)), (1, tI (x1 ||| (if z4 = 0 then (0 : Int32) else (i_shl 1 x2)))), (0, tR x0)] dX1_payments_43 rfl rfl rfl rfl ?_
        refine fk_goto X 17 dX1_payments_46 rfl ?_
        exact fk_cut' (ih (x1 ||| (if z4 = 0 then (0 : Int32) else (i_shl 1 x2))) (x2 + 1)  hf) [2, 1, 0] rfl
      refine fk_if_eq X 40 dX1_payments_31 rfl (fun hc2 => ?_) (fun hc2 => ?_)
      · refine fk_iconst (v := 0) X dX1_payments_40 rfl ?_
        simp only [if_pos hc2] at J1
        exact fk_cut' J1 [0, 2] rfl
      · refine fk_iconst (v := 1) X dX1_payments_34 rfl ?_
        refine fk_iload_n X 2 dX1_payments_35 rfl ?_
        refine fk_ishl X dX1_payments_36 ?_
        refine fk_goto X 41 dX1_payments_37 rfl ?_
        simp only [if_neg hc2] at J1
        exact fk_cut' J1 [0, 2] rfl
def f_X1_payments (a0 : Option Nat) (m0 : fk_M) : Option (Int32 × fk_M) :=
  (gR m0 a0 0 5).bind fun z1 => if z1 = none then ((isO m0 a0 0).bind fun u2 => bn2 (f_X1_refused a0 1 m0) fun z3 m4 => some (z3, m4)) else (f_X1_payments_L17 a0 m0 fk_fuel 0 0)
set_option maxHeartbeats 4000000 in
theorem c_X1_payments {l : Launch} {G : fk_G} {b0 : Nat} {n : Nat} {a0 : Option Nat} {m0 : fk_M} {r : Int32} {mF : fk_M} (hf : f_X1_payments a0 m0 = some (r, mF)) : fk_Ct l G b0 yX1_payments cX1_payments 5 (some .int) 4 123 [tR a0] n m0 (some (tI r)) n mF 0 0 := by
  refine fk_enter n_X1_payments.1 rfl ?_
  intro E X0 Y
  have X : fk_X E l G b0 "FigureKnee" "payments" cX1_payments 5 4 123 0 0 := X0
  show fk_W E 5 n m0 0 0 0 [(0, tR a0)] []
  unfold f_X1_payments at hf
  refine fk_aload_n X 0 dX1_payments_0 rfl ?_
  refine fk_getR' X fd_0_5 q195 dX1_payments_1 hf (fun z1 hf => ?_)
  refine fk_ifnonnull' X 13 dX1_payments_4 rfl hf (fun hf => ?_) (fun hf => ?_)
  · refine fk_iconst (v := 0) X dX1_payments_13 rfl ?_
    refine fk_istore_n X [(1, tI 0), (0, tR a0)] dX1_payments_14 rfl rfl ?_
    refine fk_iconst (v := 0) X dX1_payments_15 rfl ?_
    refine fk_istore_n X [(2, tI 0), (1, tI 0), (0, tR a0)] dX1_payments_16 rfl rfl ?_
    exact fk_cut' (w_X1_payments_L17 X Y a0 m0 fk_fuel 0 0 hf) [2, 1, 0] rfl
  · refine fk_aload_n X 0 dX1_payments_7 rfl ?_
    refine fk_iconst (v := 1) X dX1_payments_8 rfl ?_
    obtain ⟨u2, hq, hf⟩ := bI hf
    obtain ⟨z3, m4, hv, hf⟩ := bn2_eq hf
    refine fk_callV0I (ci := 0) (rest := []) X hq rfl (c_X1_refused hv) n_X1_refused q264 q266 qs0 q122 q267 rfl dX1_payments_9 rfl rfl rfl rfl rfl (Nat.le_refl _) (Nat.le_refl _) ?_
    cases hf
    exact fk_ireturn X Y dX1_payments_12 rfl
/-! FigureKnee owedBy (I)I -/
theorem n_X1_owedBy : fk_N yX1_owedBy 1 := ⟨by decide +kernel, by decide +kernel, by decide +kernel, by decide +kernel⟩
def f_X1_owedBy_L4 (x0 : Option Nat) (x1 : Int32) (m : fk_M) : Nat → Int32 → Int32 → Option Int32
  | 0, _, _ => none
  | N + 1, x2, x3 =>
  (isO m x0 0).bind fun u1 => (f_X1_pairs x0 m).bind fun z2 => if z2 ≤ x3 then (some x2) else ((isO m x0 0).bind fun u3 => (f_X1_owed x0 x1 x3 m).bind fun z4 => f_X1_owedBy_L4 x0 x1 m N (x2 ||| (if z4 ≤ 0 then (0 : Int32) else (i_shl 1 x3))) (x3 + 1))
set_option maxHeartbeats 4000000 in
theorem w_X1_owedBy_L4 {E : fk_E} {l : Launch} {G : fk_G} {b0 n : Nat} {m : fk_M} {r : Int32} (X : fk_X E l G b0 "FigureKnee" "owedBy" cX1_owedBy 4 3 100 0 0) (Y : fk_Y E (some .int) (some (tI r)) n m 0 0) (x0 : Option Nat) (x1 : Int32) : ∀ (N : Nat) (x2 : Int32) (x3 : Int32), f_X1_owedBy_L4 x0 x1 m N x2 x3 = some r → fk_W E 4 n m 0 0 4 [(0, tR x0), (1, tI x1), (2, tI x2), (3, tI x3)] [] := by
  intro N
  induction N with
  | zero =>
    intro x2 x3 hf
    have hf : (none : Option Int32) = some _ := hf
    cases hf
  | succ N ih =>
    intro x2 x3 hf
    rw [f_X1_owedBy_L4] at hf
    refine fk_iload_n X 3 dX1_owedBy_4 rfl ?_
    refine fk_aload_n X 0 dX1_owedBy_5 rfl ?_
    obtain ⟨u1, hq, hf⟩ := bI hf
    obtain ⟨z2, hv, hf⟩ := bI hf
    refine fk_callV0I (ci := 0) (rest := [tI x3]) X hq rfl (c_X1_pairs hv) n_X1_pairs q996 q998 qs24 q122 q999 rfl dX1_owedBy_6 rfl rfl rfl rfl rfl (Nat.le_refl _) (Nat.le_refl _) ?_
    refine fk_icmp_ge' X 37 dX1_owedBy_9 rfl hf (fun hf => ?_) (fun hf => ?_)
    · refine fk_iload_n X 2 dX1_owedBy_37 rfl ?_
      cases hf
      exact fk_ireturn X Y dX1_owedBy_38 rfl
    · refine fk_iload_n X 2 dX1_owedBy_12 rfl ?_
      refine fk_aload_n X 0 dX1_owedBy_13 rfl ?_
      refine fk_iload_n X 1 dX1_owedBy_14 rfl ?_
      refine fk_iload_n X 3 dX1_owedBy_15 rfl ?_
      obtain ⟨u3, hq, hf⟩ := bI hf
      obtain ⟨z4, hv, hf⟩ := bI hf
      refine fk_callV0I (ci := 0) (rest := [tI x2]) X hq rfl (c_X1_owed hv) n_X1_owed q1249 q1251 qs45 q122 q1252 rfl dX1_owedBy_16 rfl rfl rfl rfl rfl (Nat.le_refl _) (Nat.le_refl _) ?_
      have J1 : fk_W E 4 n m 0 0 29 [(0, tR x0), (1, tI x1), (3, tI x3)] [tI (if z4 ≤ 0 then (0 : Int32) else (i_shl 1 x3)), tI x2] := by
        refine fk_ior X dX1_owedBy_29 ?_
        refine fk_istore_n X [(2, tI (x2 ||| (if z4 ≤ 0 then (0 : Int32) else (i_shl 1 x3)))), (0, tR x0), (1, tI x1), (3, tI x3)] dX1_owedBy_30 rfl rfl ?_
        refine fk_iinc X 3 [(3, tI (x3 + 1)), (2, tI (x2 ||| (if z4 ≤ 0 then (0 : Int32) else (i_shl 1 x3)))), (0, tR x0), (1, tI x1)] dX1_owedBy_31 rfl rfl rfl rfl ?_
        refine fk_goto X 4 dX1_owedBy_34 rfl ?_
        exact fk_cut' (ih (x2 ||| (if z4 ≤ 0 then (0 : Int32) else (i_shl 1 x3))) (x3 + 1)  hf) [2, 3, 1, 0] rfl
      refine fk_if_le X 28 dX1_owedBy_19 rfl (fun hc2 => ?_) (fun hc2 => ?_)
      · refine fk_iconst (v := 0) X dX1_owedBy_28 rfl ?_
        simp only [if_pos hc2] at J1
        exact fk_cut' J1 [0, 1, 3] rfl
      · refine fk_iconst (v := 1) X dX1_owedBy_22 rfl ?_
        refine fk_iload_n X 3 dX1_owedBy_23 rfl ?_
        refine fk_ishl X dX1_owedBy_24 ?_
        refine fk_goto X 29 dX1_owedBy_25 rfl ?_
        simp only [if_neg hc2] at J1
        exact fk_cut' J1 [0, 1, 3] rfl
def f_X1_owedBy (a0 : Option Nat) (a1 : Int32) (m : fk_M) : Option Int32 :=
  f_X1_owedBy_L4 a0 a1 m fk_fuel 0 0
set_option maxHeartbeats 4000000 in
theorem c_X1_owedBy {l : Launch} {G : fk_G} {b0 : Nat} {n : Nat} {a0 : Option Nat} {a1 : Int32} {m : fk_M} {r : Int32} (hf : f_X1_owedBy a0 a1 m = some r) : fk_Ct l G b0 yX1_owedBy cX1_owedBy 4 (some .int) 3 100 [tR a0, tI a1] n m (some (tI r)) n m 0 0 := by
  refine fk_enter n_X1_owedBy.1 rfl ?_
  intro E X0 Y
  have X : fk_X E l G b0 "FigureKnee" "owedBy" cX1_owedBy 4 3 100 0 0 := X0
  show fk_W E 4 n m 0 0 0 [(0, tR a0), (1, tI a1)] []
  unfold f_X1_owedBy at hf
  refine fk_iconst (v := 0) X dX1_owedBy_0 rfl ?_
  refine fk_istore_n X [(2, tI 0), (0, tR a0), (1, tI a1)] dX1_owedBy_1 rfl rfl ?_
  refine fk_iconst (v := 0) X dX1_owedBy_2 rfl ?_
  refine fk_istore_n X [(3, tI 0), (2, tI 0), (0, tR a0), (1, tI a1)] dX1_owedBy_3 rfl rfl ?_
  exact fk_cut' (w_X1_owedBy_L4 X Y a0 a1 fk_fuel 0 0 hf) [2, 3, 1, 0] rfl
/-! FigureKnee debtsTo (III)I -/
theorem n_X1_debtsTo : fk_N yX1_debtsTo 3 := ⟨by decide +kernel, by decide +kernel, by decide +kernel, by decide +kernel⟩
def f_X1_debtsTo_J51 (R8 : Int32 → Int32 → Option Int32) (R20 : Int32 → Int32 → Option Int32) (x0 : Option Nat) (x2 : Int32) (x3 : Int32) (x4 : Int32) (x5 : Int32) (x7 : Int32) (y0 : Int32) (y1 : Int32) (m : fk_M) : Option Int32 :=
  R20 (y1 ||| y0) (x7 + 1)
set_option maxHeartbeats 4000000 in
theorem w_X1_debtsTo_J51 {E : fk_E} {l : Launch} {G : fk_G} {b0 n : Nat} {m : fk_M} {r : Int32} (X : fk_X E l G b0 "FigureKnee" "debtsTo" cX1_debtsTo 8 4 123 0 0) (Y : fk_Y E (some .int) (some (tI r)) n m 0 0) (x0 : Option Nat) (x2 : Int32) (x3 : Int32) (x4 : Int32) (x5 : Int32) (x7 : Int32) (y0 : Int32) (y1 : Int32) {R8 : Int32 → Int32 → Option Int32} (hR8 : ∀ (v4 : Int32) (v5 : Int32), R8 v4 v5 = some r → fk_W E 8 n m 0 0 8 [(0, tR x0), (2, tI x2), (3, tI x3), (4, tI v4), (5, tI v5)] []) {R20 : Int32 → Int32 → Option Int32} (hR20 : ∀ (v6 : Int32) (v7 : Int32), R20 v6 v7 = some r → fk_W E 8 n m 0 0 20 [(0, tR x0), (2, tI x2), (3, tI x3), (4, tI x4), (5, tI x5), (6, tI v6), (7, tI v7)] []) (hf : f_X1_debtsTo_J51 R8 R20 x0 x2 x3 x4 x5 x7 y0 y1 m = some r) : fk_W E 8 n m 0 0 51 [(0, tR x0), (2, tI x2), (3, tI x3), (4, tI x4), (5, tI x5), (7, tI x7)] [tI y0, tI y1] := by
  unfold f_X1_debtsTo_J51 at hf
  refine fk_ior X dX1_debtsTo_51 ?_
  refine fk_istore X [(6, tI (y1 ||| y0)), (0, tR x0), (2, tI x2), (3, tI x3), (4, tI x4), (5, tI x5), (7, tI x7)] dX1_debtsTo_52 rfl rfl ?_
  refine fk_iinc X 6 [(7, tI (x7 + 1)), (6, tI (y1 ||| y0)), (0, tR x0), (2, tI x2), (3, tI x3), (4, tI x4), (5, tI x5)] dX1_debtsTo_54 rfl rfl rfl rfl ?_
  refine fk_goto X 20 dX1_debtsTo_57 rfl ?_
  exact fk_cut' (hR20 (y1 ||| y0) (x7 + 1)  hf) [2, 3, 4, 5, 6, 1, 0] rfl
def f_X1_debtsTo_L20 (R8 : Int32 → Int32 → Option Int32) (x0 : Option Nat) (x2 : Int32) (x3 : Int32) (x4 : Int32) (x5 : Int32) (m : fk_M) : Nat → Int32 → Int32 → Option Int32
  | 0, _, _ => none
  | N + 1, x6, x7 =>
  (isO m x0 0).bind fun u1 => (f_X1_pairs x0 m).bind fun z2 => if z2 ≤ x7 then ((f_X1_has x6 x2 m).bind fun z3 => if z3 = 0 then (R8 x6 (x5 + 1)) else (some x5)) else ((f_X1_has x4 x7 m).bind fun z4 => if z4 = 0 then (f_X1_debtsTo_J51 R8 (f_X1_debtsTo_L20 R8 x0 x2 x3 x4 x5 m N) x0 x2 x3 x4 x5 x7 0 x6 m) else ((isO m x0 0).bind fun u5 => (f_X1_owedBy x0 x7 m).bind fun z6 => f_X1_debtsTo_J51 R8 (f_X1_debtsTo_L20 R8 x0 x2 x3 x4 x5 m N) x0 x2 x3 x4 x5 x7 z6 x6 m))
set_option maxHeartbeats 4000000 in
theorem w_X1_debtsTo_L20 {E : fk_E} {l : Launch} {G : fk_G} {b0 n : Nat} {m : fk_M} {r : Int32} (X : fk_X E l G b0 "FigureKnee" "debtsTo" cX1_debtsTo 8 4 123 0 0) (Y : fk_Y E (some .int) (some (tI r)) n m 0 0) (x0 : Option Nat) (x2 : Int32) (x3 : Int32) (x4 : Int32) (x5 : Int32) {R8 : Int32 → Int32 → Option Int32} (hR8 : ∀ (v4 : Int32) (v5 : Int32), R8 v4 v5 = some r → fk_W E 8 n m 0 0 8 [(0, tR x0), (2, tI x2), (3, tI x3), (4, tI v4), (5, tI v5)] []) : ∀ (N : Nat) (x6 : Int32) (x7 : Int32), f_X1_debtsTo_L20 R8 x0 x2 x3 x4 x5 m N x6 x7 = some r → fk_W E 8 n m 0 0 20 [(0, tR x0), (2, tI x2), (3, tI x3), (4, tI x4), (5, tI x5), (6, tI x6), (7, tI x7)] [] := by
  intro N
  induction N with
  | zero =>
    intro x6 x7 hf
    have hf : (none : Option Int32) = some _ := hf
    cases hf
  | succ N ih =>
    intro x6 x7 hf
    rw [f_X1_debtsTo_L20] at hf
    refine fk_iload X 6 dX1_debtsTo_20 rfl ?_
    refine fk_aload_n X 0 dX1_debtsTo_22 rfl ?_
    obtain ⟨u1, hq, hf⟩ := bI hf
    obtain ⟨z2, hv, hf⟩ := bI hf
    refine fk_callV0I (ci := 0) (rest := [tI x7]) X hq rfl (c_X1_pairs hv) n_X1_pairs q996 q998 qs24 q122 q999 rfl dX1_debtsTo_23 rfl rfl rfl rfl rfl (Nat.le_refl _) (Nat.le_refl _) ?_
    refine fk_icmp_ge' X 60 dX1_debtsTo_26 rfl hf (fun hf => ?_) (fun hf => ?_)
    · refine fk_iload X 5 dX1_debtsTo_60 rfl ?_
      refine fk_istore X [(4, tI x6), (0, tR x0), (2, tI x2), (3, tI x3), (5, tI x5), (6, tI x6), (7, tI x7)] dX1_debtsTo_62 rfl rfl ?_
      refine fk_iload X 0 dX1_debtsTo_64 rfl ?_
      refine fk_iload_n X 2 dX1_debtsTo_66 rfl ?_
      obtain ⟨z3, hv, hf⟩ := bI hf
      refine fk_callS0I (rest := []) X (c_X1_has hv) n_X1_has q1210 q1211 q122 q1212 dX1_debtsTo_67 rfl rfl rfl rfl rfl (Nat.le_refl _) (Nat.le_refl _) ?_
      refine fk_if_eq' X 76 dX1_debtsTo_70 rfl hf (fun hf => ?_) (fun hf => ?_)
      · refine fk_iinc X 4 [(5, tI (x5 + 1)), (4, tI x6), (0, tR x0), (2, tI x2), (3, tI x3), (6, tI x6), (7, tI x7)] dX1_debtsTo_76 rfl rfl rfl rfl ?_
        refine fk_goto X 8 dX1_debtsTo_79 rfl ?_
        exact fk_cut' (hR8 x6 (x5 + 1)  hf) [2, 3, 4, 1, 0] rfl
      · refine fk_iload X 4 dX1_debtsTo_73 rfl ?_
        cases hf
        exact fk_ireturn X Y dX1_debtsTo_75 rfl
    · refine fk_iload X 5 dX1_debtsTo_29 rfl ?_
      refine fk_iload X 3 dX1_debtsTo_31 rfl ?_
      refine fk_iload X 6 dX1_debtsTo_33 rfl ?_
      obtain ⟨z4, hv, hf⟩ := bI hf
      refine fk_callS0I (rest := [tI x6]) X (c_X1_has hv) n_X1_has q1210 q1211 q122 q1212 dX1_debtsTo_35 rfl rfl rfl rfl rfl (Nat.le_refl _) (Nat.le_refl _) ?_
      refine fk_if_eq' X 50 dX1_debtsTo_38 rfl hf (fun hf => ?_) (fun hf => ?_)
      · refine fk_iconst (v := 0) X dX1_debtsTo_50 rfl ?_
        exact fk_cut' (w_X1_debtsTo_J51 X Y x0 x2 x3 x4 x5 x7 0 x6 hR8 ih hf) [0, 1, 2, 3, 4, 6] rfl
      · refine fk_aload_n X 0 dX1_debtsTo_41 rfl ?_
        refine fk_iload X 6 dX1_debtsTo_42 rfl ?_
        obtain ⟨u5, hq, hf⟩ := bI hf
        obtain ⟨z6, hv, hf⟩ := bI hf
        refine fk_callV0I (ci := 0) (rest := [tI x6]) X hq rfl (c_X1_owedBy hv) n_X1_owedBy q1289 q1291 qs49 q122 q1292 rfl dX1_debtsTo_44 rfl rfl rfl rfl rfl (Nat.le_refl _) (Nat.le_refl _) ?_
        refine fk_goto X 51 dX1_debtsTo_47 rfl ?_
        exact fk_cut' (w_X1_debtsTo_J51 X Y x0 x2 x3 x4 x5 x7 z6 x6 hR8 ih hf) [0, 1, 2, 3, 4, 6] rfl
def f_X1_debtsTo_L8 (x0 : Option Nat) (x2 : Int32) (x3 : Int32) (m : fk_M) : Nat → Int32 → Int32 → Option Int32
  | 0, _, _ => none
  | N + 1, x4, x5 =>
  if x3 < x5 then (some (-2)) else (f_X1_debtsTo_L20 (f_X1_debtsTo_L8 x0 x2 x3 m N) x0 x2 x3 x4 x5 m fk_fuel 0 0)
set_option maxHeartbeats 4000000 in
theorem w_X1_debtsTo_L8 {E : fk_E} {l : Launch} {G : fk_G} {b0 n : Nat} {m : fk_M} {r : Int32} (X : fk_X E l G b0 "FigureKnee" "debtsTo" cX1_debtsTo 8 4 123 0 0) (Y : fk_Y E (some .int) (some (tI r)) n m 0 0) (x0 : Option Nat) (x2 : Int32) (x3 : Int32) : ∀ (N : Nat) (x4 : Int32) (x5 : Int32), f_X1_debtsTo_L8 x0 x2 x3 m N x4 x5 = some r → fk_W E 8 n m 0 0 8 [(0, tR x0), (2, tI x2), (3, tI x3), (4, tI x4), (5, tI x5)] [] := by
  intro N
  induction N with
  | zero =>
    intro x4 x5 hf
    have hf : (none : Option Int32) = some _ := hf
    cases hf
  | succ N ih =>
    intro x4 x5 hf
    rw [f_X1_debtsTo_L8] at hf
    refine fk_iload X 4 dX1_debtsTo_8 rfl ?_
    refine fk_iload_n X 2 dX1_debtsTo_10 rfl ?_
    refine fk_icmp_gt' X 82 dX1_debtsTo_11 rfl hf (fun hf => ?_) (fun hf => ?_)
    · refine fk_bipush (v := (-2)) X dX1_debtsTo_82 rfl ?_
      cases hf
      exact fk_ireturn X Y dX1_debtsTo_84 rfl
    · refine fk_iconst (v := 0) X dX1_debtsTo_14 rfl ?_
      refine fk_istore X [(6, tI 0), (0, tR x0), (2, tI x2), (3, tI x3), (4, tI x4), (5, tI x5)] dX1_debtsTo_15 rfl rfl ?_
      refine fk_iconst (v := 0) X dX1_debtsTo_17 rfl ?_
      refine fk_istore X [(7, tI 0), (6, tI 0), (0, tR x0), (2, tI x2), (3, tI x3), (4, tI x4), (5, tI x5)] dX1_debtsTo_18 rfl rfl ?_
      exact fk_cut' (w_X1_debtsTo_L20 X Y x0 x2 x3 x4 x5 ih fk_fuel 0 0 hf) [2, 3, 4, 5, 6, 1, 0] rfl
def f_X1_debtsTo (a0 : Option Nat) (a1 : Int32) (a2 : Int32) (a3 : Int32) (m : fk_M) : Option Int32 :=
  f_X1_debtsTo_L8 a0 a2 a3 m fk_fuel (i_shl 1 a1) 1
set_option maxHeartbeats 4000000 in
theorem c_X1_debtsTo {l : Launch} {G : fk_G} {b0 : Nat} {n : Nat} {a0 : Option Nat} {a1 : Int32} {a2 : Int32} {a3 : Int32} {m : fk_M} {r : Int32} (hf : f_X1_debtsTo a0 a1 a2 a3 m = some r) : fk_Ct l G b0 yX1_debtsTo cX1_debtsTo 8 (some .int) 4 123 [tR a0, tI a1, tI a2, tI a3] n m (some (tI r)) n m 0 0 := by
  refine fk_enter n_X1_debtsTo.1 rfl ?_
  intro E X0 Y
  have X : fk_X E l G b0 "FigureKnee" "debtsTo" cX1_debtsTo 8 4 123 0 0 := X0
  show fk_W E 8 n m 0 0 0 [(0, tR a0), (1, tI a1), (2, tI a2), (3, tI a3)] []
  unfold f_X1_debtsTo at hf
  refine fk_iconst (v := 1) X dX1_debtsTo_0 rfl ?_
  refine fk_iload_n X 1 dX1_debtsTo_1 rfl ?_
  refine fk_ishl X dX1_debtsTo_2 ?_
  refine fk_istore X [(4, tI (i_shl 1 a1)), (0, tR a0), (1, tI a1), (2, tI a2), (3, tI a3)] dX1_debtsTo_3 rfl rfl ?_
  refine fk_iconst (v := 1) X dX1_debtsTo_5 rfl ?_
  refine fk_istore X [(5, tI 1), (4, tI (i_shl 1 a1)), (0, tR a0), (1, tI a1), (2, tI a2), (3, tI a3)] dX1_debtsTo_6 rfl rfl ?_
  exact fk_cut' (w_X1_debtsTo_L8 X Y a0 a2 a3 fk_fuel (i_shl 1 a1) 1 hf) [2, 4, 5, 1, 0] rfl
/-! FigureKnee ring (I)I -/
theorem n_X1_ring : fk_N yX1_ring 1 := ⟨by decide +kernel, by decide +kernel, by decide +kernel, by decide +kernel⟩
def f_X1_ring (a0 : Option Nat) (a1 : Int32) (m0 : fk_M) : Option (Int32 × fk_M) :=
  (isO m0 a0 0).bind fun u1 => (f_X1_isPair a0 a1 m0).bind fun z2 => if z2 = 0 then ((isO m0 a0 0).bind fun u3 => bn2 (f_X1_refused a0 1 m0) fun z4 m5 => some (z4, m5)) else ((isO m0 a0 0).bind fun u6 => (f_X1_pairs a0 m0).bind fun z7 => (isO m0 a0 0).bind fun u8 => (f_X1_debtsTo a0 a1 a1 z7 m0).bind fun z9 => (isO m0 a0 0).bind fun u10 => bn2 (f_X1_well a0 z9 m0) fun z11 m12 => some (z11, m12))
set_option maxHeartbeats 4000000 in
theorem c_X1_ring {l : Launch} {G : fk_G} {b0 : Nat} {n : Nat} {a0 : Option Nat} {a1 : Int32} {m0 : fk_M} {r : Int32} {mF : fk_M} (hf : f_X1_ring a0 a1 m0 = some (r, mF)) : fk_Ct l G b0 yX1_ring cX1_ring 2 (some .int) 5 150 [tR a0, tI a1] n m0 (some (tI r)) n mF 0 0 := by
  refine fk_enter n_X1_ring.1 rfl ?_
  intro E X0 Y
  have X : fk_X E l G b0 "FigureKnee" "ring" cX1_ring 2 5 150 0 0 := X0
  show fk_W E 2 n m0 0 0 0 [(0, tR a0), (1, tI a1)] []
  unfold f_X1_ring at hf
  refine fk_aload_n X 0 dX1_ring_0 rfl ?_
  refine fk_iload_n X 1 dX1_ring_1 rfl ?_
  obtain ⟨u1, hq, hf⟩ := bI hf
  obtain ⟨z2, hv, hf⟩ := bI hf
  refine fk_callV0I (ci := 0) (rest := []) X hq rfl (c_X1_isPair hv) n_X1_isPair q1017 q1019 qs26 q122 q1020 rfl dX1_ring_2 rfl rfl rfl rfl rfl (Nat.le_refl _) (Nat.le_refl _) ?_
  refine fk_if_eq' X 25 dX1_ring_5 rfl hf (fun hf => ?_) (fun hf => ?_)
  · refine fk_aload_n X 0 dX1_ring_25 rfl ?_
    refine fk_iconst (v := 1) X dX1_ring_26 rfl ?_
    obtain ⟨u3, hq, hf⟩ := bI hf
    obtain ⟨z4, m5, hv, hf⟩ := bn2_eq hf
    refine fk_callV0I (ci := 0) (rest := []) X hq rfl (c_X1_refused hv) n_X1_refused q264 q266 qs0 q122 q267 rfl dX1_ring_27 rfl rfl rfl rfl rfl (Nat.le_refl _) (Nat.le_refl _) ?_
    cases hf
    exact fk_ireturn X Y dX1_ring_30 rfl
  · refine fk_aload_n X 0 dX1_ring_8 rfl ?_
    refine fk_aload_n X 0 dX1_ring_9 rfl ?_
    refine fk_iload_n X 1 dX1_ring_10 rfl ?_
    refine fk_iload_n X 1 dX1_ring_11 rfl ?_
    refine fk_aload_n X 0 dX1_ring_12 rfl ?_
    obtain ⟨u6, hq, hf⟩ := bI hf
    obtain ⟨z7, hv, hf⟩ := bI hf
    refine fk_callV0I (ci := 0) (rest := [tI a1, tI a1, tR a0, tR a0]) X hq rfl (c_X1_pairs hv) n_X1_pairs q996 q998 qs24 q122 q999 rfl dX1_ring_13 rfl rfl rfl rfl rfl (Nat.le_refl _) (Nat.le_refl _) ?_
    obtain ⟨u8, hq, hf⟩ := bI hf
    obtain ⟨z9, hv, hf⟩ := bI hf
    refine fk_callV0I (ci := 0) (rest := [tR a0]) X hq rfl (c_X1_debtsTo hv) n_X1_debtsTo q1285 q1287 qs48 q122 q1288 rfl dX1_ring_16 rfl rfl rfl rfl rfl (Nat.le_refl _) (Nat.le_refl _) ?_
    obtain ⟨u10, hq, hf⟩ := bI hf
    obtain ⟨z11, m12, hv, hf⟩ := bn2_eq hf
    refine fk_callV0I (ci := 0) (rest := []) X hq rfl (c_X1_well hv) n_X1_well q1001 q1003 qs25 q122 q1004 rfl dX1_ring_19 rfl rfl rfl rfl rfl (Nat.le_refl _) (Nat.le_refl _) ?_
    refine fk_goto X 30 dX1_ring_22 rfl ?_
    cases hf
    exact fk_ireturn X Y dX1_ring_30 rfl
/-! FigureKnee ringAt (II)I -/
theorem n_X1_ringAt : fk_N yX1_ringAt 2 := ⟨by decide +kernel, by decide +kernel, by decide +kernel, by decide +kernel⟩
def f_X1_ringAt_J86 (R48 : Int32 → Int32 → Int32 → Option (Int32 × fk_M)) (R60 : Int32 → Option (Int32 × fk_M)) (x0 : Option Nat) (x1 : Int32) (x2 : Int32) (x3 : Int32) (x4 : Int32) (x5 : Int32) (x6 : Int32) (m0 : fk_M) : Option (Int32 × fk_M) :=
  R60 (x6 + 1)
set_option maxHeartbeats 4000000 in
theorem w_X1_ringAt_J86 {E : fk_E} {l : Launch} {G : fk_G} {b0 n : Nat} {r : Int32} {mF : fk_M} (X : fk_X E l G b0 "FigureKnee" "ringAt" cX1_ringAt 7 5 150 0 0) (Y : fk_Y E (some .int) (some (tI r)) n mF 0 0) (x0 : Option Nat) (x1 : Int32) (x2 : Int32) (x3 : Int32) (x4 : Int32) (x5 : Int32) (x6 : Int32)  (m0 : fk_M) {R48 : Int32 → Int32 → Int32 → Option (Int32 × fk_M)} (hR48 : ∀ (v3 : Int32) (v4 : Int32) (v5 : Int32), R48 v3 v4 v5 = some (r, mF) → fk_W E 7 n m0 0 0 48 [(0, tR x0), (1, tI x1), (2, tI x2), (3, tI v3), (4, tI v4), (5, tI v5)] []) {R60 : Int32 → Option (Int32 × fk_M)} (hR60 : ∀ (v6 : Int32), R60 v6 = some (r, mF) → fk_W E 7 n m0 0 0 60 [(0, tR x0), (1, tI x1), (2, tI x2), (3, tI x3), (4, tI x4), (5, tI x5), (6, tI v6)] []) (hf : f_X1_ringAt_J86 R48 R60 x0 x1 x2 x3 x4 x5 x6 m0 = some (r, mF)) : fk_W E 7 n m0 0 0 86 [(0, tR x0), (1, tI x1), (2, tI x2), (3, tI x3), (4, tI x4), (5, tI x5), (6, tI x6)] [] := by
  unfold f_X1_ringAt_J86 at hf
  refine fk_iinc X 6 [(6, tI (x6 + 1)), (0, tR x0), (1, tI x1), (2, tI x2), (3, tI x3), (4, tI x4), (5, tI x5)] dX1_ringAt_86 rfl rfl rfl rfl ?_
  refine fk_goto X 60 dX1_ringAt_89 rfl ?_
  exact fk_cut' (hR60 (x6 + 1)  hf) [1, 2, 3, 4, 5, 6, 0] rfl
def f_X1_ringAt_L60 (R48 : Int32 → Int32 → Int32 → Option (Int32 × fk_M)) (x0 : Option Nat) (x1 : Int32) (x2 : Int32) (x3 : Int32) (x4 : Int32) (x5 : Int32) (m0 : fk_M) : Nat → Int32 → Option (Int32 × fk_M)
  | 0, _ => none
  | N + 1, x6 =>
  (isO m0 x0 0).bind fun u1 => (f_X1_owedBy x0 x4 m0).bind fun z2 => (f_X1_has z2 x6 m0).bind fun z3 => if z3 = 0 then (f_X1_ringAt_J86 R48 (f_X1_ringAt_L60 R48 x0 x1 x2 x3 x4 x5 m0 N) x0 x1 x2 x3 x4 x5 x6 m0) else ((isO m0 x0 0).bind fun u4 => (f_X1_debtsTo x0 x6 x1 x3 m0).bind fun z5 => if z5 = x3 then (R48 x3 x6 (x5 + 1)) else (f_X1_ringAt_J86 R48 (f_X1_ringAt_L60 R48 x0 x1 x2 x3 x4 x5 m0 N) x0 x1 x2 x3 x4 x5 x6 m0))
set_option maxHeartbeats 4000000 in
theorem w_X1_ringAt_L60 {E : fk_E} {l : Launch} {G : fk_G} {b0 n : Nat} {r : Int32} {mF : fk_M} (X : fk_X E l G b0 "FigureKnee" "ringAt" cX1_ringAt 7 5 150 0 0) (Y : fk_Y E (some .int) (some (tI r)) n mF 0 0) (x0 : Option Nat) (x1 : Int32) (x2 : Int32) (x3 : Int32) (x4 : Int32) (x5 : Int32) (m0 : fk_M) {R48 : Int32 → Int32 → Int32 → Option (Int32 × fk_M)} (hR48 : ∀ (v3 : Int32) (v4 : Int32) (v5 : Int32), R48 v3 v4 v5 = some (r, mF) → fk_W E 7 n m0 0 0 48 [(0, tR x0), (1, tI x1), (2, tI x2), (3, tI v3), (4, tI v4), (5, tI v5)] []) : ∀ (N : Nat) (x6 : Int32), f_X1_ringAt_L60 R48 x0 x1 x2 x3 x4 x5 m0 N x6 = some (r, mF) → fk_W E 7 n m0 0 0 60 [(0, tR x0), (1, tI x1), (2, tI x2), (3, tI x3), (4, tI x4), (5, tI x5), (6, tI x6)] [] := by
  intro N
  induction N with
  | zero =>
    intro x6 hf
    have hf : (none : Option (Int32 × fk_M)) = some _ := hf
    cases hf
  | succ N ih =>
    intro x6 hf
    rw [f_X1_ringAt_L60] at hf
    refine fk_aload_n X 0 dX1_ringAt_60 rfl ?_
    refine fk_iload X 4 dX1_ringAt_61 rfl ?_
    obtain ⟨u1, hq, hf⟩ := bI hf
    obtain ⟨z2, hv, hf⟩ := bI hf
    refine fk_callV0I (ci := 0) (rest := []) X hq rfl (c_X1_owedBy hv) n_X1_owedBy q1289 q1291 qs49 q122 q1292 rfl dX1_ringAt_63 rfl rfl rfl rfl rfl (Nat.le_refl _) (Nat.le_refl _) ?_
    refine fk_iload X 6 dX1_ringAt_66 rfl ?_
    obtain ⟨z3, hv, hf⟩ := bI hf
    refine fk_callS0I (rest := []) X (c_X1_has hv) n_X1_has q1210 q1211 q122 q1212 dX1_ringAt_68 rfl rfl rfl rfl rfl (Nat.le_refl _) (Nat.le_refl _) ?_
    refine fk_if_eq' X 86 dX1_ringAt_71 rfl hf (fun hf => ?_) (fun hf => ?_)
    · exact fk_cut' (w_X1_ringAt_J86 X Y x0 x1 x2 x3 x4 x5 x6 m0 hR48 ih hf) [0, 1, 2, 3, 4, 5, 6] rfl
    · refine fk_aload_n X 0 dX1_ringAt_74 rfl ?_
      refine fk_iload X 6 dX1_ringAt_75 rfl ?_
      refine fk_iload_n X 1 dX1_ringAt_77 rfl ?_
      refine fk_iload_n X 3 dX1_ringAt_78 rfl ?_
      obtain ⟨u4, hq, hf⟩ := bI hf
      obtain ⟨z5, hv, hf⟩ := bI hf
      refine fk_callV0I (ci := 0) (rest := []) X hq rfl (c_X1_debtsTo hv) n_X1_debtsTo q1285 q1287 qs48 q122 q1288 rfl dX1_ringAt_79 rfl rfl rfl rfl rfl (Nat.le_refl _) (Nat.le_refl _) ?_
      refine fk_iload_n X 3 dX1_ringAt_82 rfl ?_
      refine fk_icmp_eq' X 92 dX1_ringAt_83 rfl hf (fun hf => ?_) (fun hf => ?_)
      · refine fk_iload X 6 dX1_ringAt_92 rfl ?_
        refine fk_istore X [(4, tI x6), (0, tR x0), (1, tI x1), (2, tI x2), (3, tI x3), (5, tI x5), (6, tI x6)] dX1_ringAt_94 rfl rfl ?_
        refine fk_iinc X 5 [(5, tI (x5 + 1)), (4, tI x6), (0, tR x0), (1, tI x1), (2, tI x2), (3, tI x3), (6, tI x6)] dX1_ringAt_96 rfl rfl rfl rfl ?_
        refine fk_goto X 48 dX1_ringAt_99 rfl ?_
        exact fk_cut' (hR48 x3 x6 (x5 + 1)  hf) [2, 3, 4, 5, 1, 0] rfl
      · exact fk_cut' (w_X1_ringAt_J86 X Y x0 x1 x2 x3 x4 x5 x6 m0 hR48 ih hf) [0, 1, 2, 3, 4, 5, 6] rfl
def f_X1_ringAt_L48 (x0 : Option Nat) (x1 : Int32) (x2 : Int32) (m0 : fk_M) : Nat → Int32 → Int32 → Int32 → Option (Int32 × fk_M)
  | 0, _, _, _ => none
  | N + 1, x3, x4, x5 =>
  if x2 ≤ x5 then ((isO m0 x0 0).bind fun u1 => bn2 (f_X1_well x0 x4 m0) fun z2 m3 => some (z2, m3)) else (f_X1_ringAt_L60 (f_X1_ringAt_L48 x0 x1 x2 m0 N) x0 x1 x2 (x3 + (-1)) x4 x5 m0 fk_fuel 0)
set_option maxHeartbeats 4000000 in
theorem w_X1_ringAt_L48 {E : fk_E} {l : Launch} {G : fk_G} {b0 n : Nat} {r : Int32} {mF : fk_M} (X : fk_X E l G b0 "FigureKnee" "ringAt" cX1_ringAt 7 5 150 0 0) (Y : fk_Y E (some .int) (some (tI r)) n mF 0 0) (x0 : Option Nat) (x1 : Int32) (x2 : Int32) (m0 : fk_M) : ∀ (N : Nat) (x3 : Int32) (x4 : Int32) (x5 : Int32), f_X1_ringAt_L48 x0 x1 x2 m0 N x3 x4 x5 = some (r, mF) → fk_W E 7 n m0 0 0 48 [(0, tR x0), (1, tI x1), (2, tI x2), (3, tI x3), (4, tI x4), (5, tI x5)] [] := by
  intro N
  induction N with
  | zero =>
    intro x3 x4 x5 hf
    have hf : (none : Option (Int32 × fk_M)) = some _ := hf
    cases hf
  | succ N ih =>
    intro x3 x4 x5 hf
    rw [f_X1_ringAt_L48] at hf
    refine fk_iload X 5 dX1_ringAt_48 rfl ?_
    refine fk_iload_n X 2 dX1_ringAt_50 rfl ?_
    refine fk_icmp_ge' X 102 dX1_ringAt_51 rfl hf (fun hf => ?_) (fun hf => ?_)
    · refine fk_aload_n X 0 dX1_ringAt_102 rfl ?_
      refine fk_iload X 4 dX1_ringAt_103 rfl ?_
      obtain ⟨u1, hq, hf⟩ := bI hf
      obtain ⟨z2, m3, hv, hf⟩ := bn2_eq hf
      refine fk_callV0I (ci := 0) (rest := []) X hq rfl (c_X1_well hv) n_X1_well q1001 q1003 qs25 q122 q1004 rfl dX1_ringAt_105 rfl rfl rfl rfl rfl (Nat.le_refl _) (Nat.le_refl _) ?_
      cases hf
      exact fk_ireturn X Y dX1_ringAt_108 rfl
    · refine fk_iinc X 3 [(3, tI (x3 + (-1))), (0, tR x0), (1, tI x1), (2, tI x2), (4, tI x4), (5, tI x5)] dX1_ringAt_54 rfl rfl rfl rfl ?_
      refine fk_iconst (v := 0) X dX1_ringAt_57 rfl ?_
      refine fk_istore X [(6, tI 0), (3, tI (x3 + (-1))), (0, tR x0), (1, tI x1), (2, tI x2), (4, tI x4), (5, tI x5)] dX1_ringAt_58 rfl rfl ?_
      exact fk_cut' (w_X1_ringAt_L60 X Y x0 x1 x2 (x3 + (-1)) x4 x5 m0 ih fk_fuel 0 hf) [2, 3, 4, 1, 5, 6, 0] rfl
def f_X1_ringAt (a0 : Option Nat) (a1 : Int32) (a2 : Int32) (m0 : fk_M) : Option (Int32 × fk_M) :=
  (isO m0 a0 0).bind fun u1 => (f_X1_isPair a0 a1 m0).bind fun z2 => if z2 = 0 then ((isO m0 a0 0).bind fun u3 => bn2 (f_X1_refused a0 1 m0) fun z4 m5 => some (z4, m5)) else ((isO m0 a0 0).bind fun u6 => (f_X1_pairs a0 m0).bind fun z7 => (isO m0 a0 0).bind fun u8 => (f_X1_debtsTo a0 a1 a1 z7 m0).bind fun z9 => (f_X1_in a2 0 (z9 - 1) m0).bind fun z10 => if z10 = 0 then ((isO m0 a0 0).bind fun u11 => bn2 (f_X1_refused a0 1 m0) fun z12 m13 => some (z12, m13)) else (f_X1_ringAt_L48 a0 a1 a2 m0 fk_fuel z9 a1 0))
set_option maxHeartbeats 4000000 in
theorem c_X1_ringAt {l : Launch} {G : fk_G} {b0 : Nat} {n : Nat} {a0 : Option Nat} {a1 : Int32} {a2 : Int32} {m0 : fk_M} {r : Int32} {mF : fk_M} (hf : f_X1_ringAt a0 a1 a2 m0 = some (r, mF)) : fk_Ct l G b0 yX1_ringAt cX1_ringAt 7 (some .int) 5 150 [tR a0, tI a1, tI a2] n m0 (some (tI r)) n mF 0 0 := by
  refine fk_enter n_X1_ringAt.1 rfl ?_
  intro E X0 Y
  have X : fk_X E l G b0 "FigureKnee" "ringAt" cX1_ringAt 7 5 150 0 0 := X0
  show fk_W E 7 n m0 0 0 0 [(0, tR a0), (1, tI a1), (2, tI a2)] []
  unfold f_X1_ringAt at hf
  refine fk_aload_n X 0 dX1_ringAt_0 rfl ?_
  refine fk_iload_n X 1 dX1_ringAt_1 rfl ?_
  obtain ⟨u1, hq, hf⟩ := bI hf
  obtain ⟨z2, hv, hf⟩ := bI hf
  refine fk_callV0I (ci := 0) (rest := []) X hq rfl (c_X1_isPair hv) n_X1_isPair q1017 q1019 qs26 q122 q1020 rfl dX1_ringAt_2 rfl rfl rfl rfl rfl (Nat.le_refl _) (Nat.le_refl _) ?_
  refine fk_if_ne' X 14 dX1_ringAt_5 rfl hf (fun hf => ?_) (fun hf => ?_)
  · refine fk_aload_n X 0 dX1_ringAt_14 rfl ?_
    refine fk_iload_n X 1 dX1_ringAt_15 rfl ?_
    refine fk_iload_n X 1 dX1_ringAt_16 rfl ?_
    refine fk_aload_n X 0 dX1_ringAt_17 rfl ?_
    obtain ⟨u6, hq, hf⟩ := bI hf
    obtain ⟨z7, hv, hf⟩ := bI hf
    refine fk_callV0I (ci := 0) (rest := [tI a1, tI a1, tR a0]) X hq rfl (c_X1_pairs hv) n_X1_pairs q996 q998 qs24 q122 q999 rfl dX1_ringAt_18 rfl rfl rfl rfl rfl (Nat.le_refl _) (Nat.le_refl _) ?_
    obtain ⟨u8, hq, hf⟩ := bI hf
    obtain ⟨z9, hv, hf⟩ := bI hf
    refine fk_callV0I (ci := 0) (rest := []) X hq rfl (c_X1_debtsTo hv) n_X1_debtsTo q1285 q1287 qs48 q122 q1288 rfl dX1_ringAt_21 rfl rfl rfl rfl rfl (Nat.le_refl _) (Nat.le_refl _) ?_
    refine fk_istore_n X [(3, tI z9), (0, tR a0), (1, tI a1), (2, tI a2)] dX1_ringAt_24 rfl rfl ?_
    refine fk_iload_n X 3 dX1_ringAt_25 rfl ?_
    refine fk_iconst (v := 0) X dX1_ringAt_26 rfl ?_
    refine fk_iload_n X 0 dX1_ringAt_27 rfl ?_
    refine fk_iconst (v := 1) X dX1_ringAt_28 rfl ?_
    refine fk_isub X dX1_ringAt_29 ?_
    obtain ⟨z10, hv, hf⟩ := bI hf
    refine fk_callS0I (rest := []) X (c_X1_in hv) n_X1_in q261 q262 q122 q263 dX1_ringAt_30 rfl rfl rfl rfl rfl (Nat.le_refl _) (Nat.le_refl _) ?_
    refine fk_if_ne' X 42 dX1_ringAt_33 rfl hf (fun hf => ?_) (fun hf => ?_)
    · refine fk_iload_n X 2 dX1_ringAt_42 rfl ?_
      refine fk_istore X [(4, tI a1), (3, tI z9), (0, tR a0), (1, tI a1), (2, tI a2)] dX1_ringAt_43 rfl rfl ?_
      refine fk_iconst (v := 0) X dX1_ringAt_45 rfl ?_
      refine fk_istore X [(5, tI 0), (4, tI a1), (3, tI z9), (0, tR a0), (1, tI a1), (2, tI a2)] dX1_ringAt_46 rfl rfl ?_
      exact fk_cut' (w_X1_ringAt_L48 X Y a0 a1 a2 m0 fk_fuel z9 a1 0 hf) [3, 4, 5, 2, 1, 0] rfl
    · refine fk_aload_n X 1 dX1_ringAt_36 rfl ?_
      refine fk_iconst (v := 1) X dX1_ringAt_37 rfl ?_
      obtain ⟨u11, hq, hf⟩ := bI hf
      obtain ⟨z12, m13, hv, hf⟩ := bn2_eq hf
      refine fk_callV0I (ci := 0) (rest := []) X hq rfl (c_X1_refused hv) n_X1_refused q264 q266 qs0 q122 q267 rfl dX1_ringAt_38 rfl rfl rfl rfl rfl (Nat.le_refl _) (Nat.le_refl _) ?_
      cases hf
      exact fk_ireturn X Y dX1_ringAt_41 rfl
  · refine fk_aload_n X 0 dX1_ringAt_8 rfl ?_
    refine fk_iconst (v := 1) X dX1_ringAt_9 rfl ?_
    obtain ⟨u3, hq, hf⟩ := bI hf
    obtain ⟨z4, m5, hv, hf⟩ := bn2_eq hf
    refine fk_callV0I (ci := 0) (rest := []) X hq rfl (c_X1_refused hv) n_X1_refused q264 q266 qs0 q122 q267 rfl dX1_ringAt_10 rfl rfl rfl rfl rfl (Nat.le_refl _) (Nat.le_refl _) ?_
    cases hf
    exact fk_ireturn X Y dX1_ringAt_13 rfl
/-! FigureKnee whyBreath (I)I -/
theorem n_X1_whyBreath : fk_N yX1_whyBreath 1 := ⟨by decide +kernel, by decide +kernel, by decide +kernel, by decide +kernel⟩
def f_X1_whyBreath (a0 : Option Nat) (a1 : Int32) (m : fk_M) : Option Int32 :=
  (gR m a0 0 5).bind fun z1 => (isO m a0 0).bind fun u2 => (f_X1_why a0 (if z1 = none then (0 : Int32) else 1) a1 0 9 m).bind fun z3 => some z3
set_option maxHeartbeats 4000000 in
theorem c_X1_whyBreath {l : Launch} {G : fk_G} {b0 : Nat} {n : Nat} {a0 : Option Nat} {a1 : Int32} {m : fk_M} {r : Int32} (hf : f_X1_whyBreath a0 a1 m = some r) : fk_Ct l G b0 yX1_whyBreath cX1_whyBreath 2 (some .int) 3 106 [tR a0, tI a1] n m (some (tI r)) n m 0 0 := by
  refine fk_enter n_X1_whyBreath.1 rfl ?_
  intro E X0 Y
  have X : fk_X E l G b0 "FigureKnee" "whyBreath" cX1_whyBreath 2 3 106 0 0 := X0
  show fk_W E 2 n m 0 0 0 [(0, tR a0), (1, tI a1)] []
  unfold f_X1_whyBreath at hf
  refine fk_aload_n X 0 dX1_whyBreath_0 rfl ?_
  refine fk_aload_n X 0 dX1_whyBreath_1 rfl ?_
  refine fk_getR' X fd_0_5 q195 dX1_whyBreath_2 hf (fun z1 hf => ?_)
  have J1 : fk_W E 2 n m 0 0 13 [(1, tI a1)] [tI (if z1 = none then (0 : Int32) else 1), tR a0] := by
    refine fk_iload_n X 0 dX1_whyBreath_13 rfl ?_
    refine fk_iconst (v := 0) X dX1_whyBreath_14 rfl ?_
    refine fk_bipush (v := 9) X dX1_whyBreath_15 rfl ?_
    obtain ⟨u2, hq, hf⟩ := bI hf
    obtain ⟨z3, hv, hf⟩ := bI hf
    refine fk_callV0I (ci := 0) (rest := []) X hq rfl (c_X1_why hv) n_X1_why q1039 q1041 qs30 q122 q1042 rfl dX1_whyBreath_17 rfl rfl rfl rfl rfl (Nat.le_refl _) (Nat.le_refl _) ?_
    cases hf
    exact fk_ireturn X Y dX1_whyBreath_20 rfl
  refine fk_ifnull X 12 dX1_whyBreath_5 rfl (fun hc2 => ?_) (fun hc2 => ?_)
  · refine fk_iconst (v := 0) X dX1_whyBreath_12 rfl ?_
    simp only [if_pos hc2] at J1
    exact fk_cut' J1 [1] rfl
  · refine fk_iconst (v := 1) X dX1_whyBreath_8 rfl ?_
    refine fk_goto X 13 dX1_whyBreath_9 rfl ?_
    simp only [if_neg hc2] at J1
    exact fk_cut' J1 [1] rfl
/-! FigureKnee gets (IZZ)I -/
theorem n_X1_gets : fk_N yX1_gets 3 := ⟨by decide +kernel, by decide +kernel, by decide +kernel, by decide +kernel⟩
def f_X1_gets (a0 : Int32) (a1 : Int32) (a2 : Int32) (m : fk_M) : Option Int32 :=
  some (if a1 = 0 then (if a2 = 0 then (0 : Int32) else (-1)) else (if a2 = 0 then (4 : Int32) else (1 - a0)))
set_option maxHeartbeats 4000000 in
theorem c_X1_gets {l : Launch} {G : fk_G} {b0 : Nat} {n : Nat} {a0 : Int32} {a1 : Int32} {a2 : Int32} {m : fk_M} {r : Int32} (hf : f_X1_gets a0 a1 a2 m = some r) : fk_Ct l G b0 yX1_gets cX1_gets 3 (some .int) 1 60 [tI a0, tI a1, tI a2] n m (some (tI r)) n m 0 0 := by
  refine fk_enter n_X1_gets.1 rfl ?_
  intro E X0 Y
  have X : fk_X E l G b0 "FigureKnee" "gets" cX1_gets 3 1 60 0 0 := X0
  show fk_W E 3 n m 0 0 0 [(0, tI a0), (1, tI a1), (2, tI a2)] []
  unfold f_X1_gets at hf
  refine fk_iload_n X 1 dX1_gets_0 rfl ?_
  have J1 : fk_W E 3 n m 0 0 27 [] [tI (if a1 = 0 then (if a2 = 0 then (0 : Int32) else (-1)) else (if a2 = 0 then (4 : Int32) else (1 - a0)))] := by
    cases hf
    exact fk_ireturn X Y dX1_gets_27 rfl
  refine fk_if_eq X 18 dX1_gets_1 rfl (fun hc2 => ?_) (fun hc2 => ?_)
  · refine fk_iload_n X 2 dX1_gets_18 rfl ?_
    have J3 : fk_W E 3 n m 0 0 27 [] [tI (if a2 = 0 then (0 : Int32) else (-1))] := by
      simp only [if_pos hc2] at J1
      exact fk_cut' J1 [] rfl
    refine fk_if_eq X 26 dX1_gets_19 rfl (fun hc4 => ?_) (fun hc4 => ?_)
    · refine fk_iconst (v := 0) X dX1_gets_26 rfl ?_
      simp only [if_pos hc4] at J3
      exact fk_cut' J3 [] rfl
    · refine fk_iconst (v := (-1)) X dX1_gets_22 rfl ?_
      refine fk_goto X 27 dX1_gets_23 rfl ?_
      simp only [if_neg hc4] at J3
      exact fk_cut' J3 [] rfl
  · refine fk_iload_n X 2 dX1_gets_4 rfl ?_
    have J5 : fk_W E 3 n m 0 0 27 [] [tI (if a2 = 0 then (4 : Int32) else (1 - a0))] := by
      simp only [if_neg hc2] at J1
      exact fk_cut' J1 [] rfl
    refine fk_if_eq X 14 dX1_gets_5 rfl (fun hc6 => ?_) (fun hc6 => ?_)
    · refine fk_iconst (v := 4) X dX1_gets_14 rfl ?_
      refine fk_goto X 27 dX1_gets_15 rfl ?_
      simp only [if_pos hc6] at J5
      exact fk_cut' J5 [] rfl
    · refine fk_iconst (v := 1) X dX1_gets_8 rfl ?_
      refine fk_iload_n X 0 dX1_gets_9 rfl ?_
      refine fk_isub X dX1_gets_10 ?_
      refine fk_goto X 27 dX1_gets_11 rfl ?_
      simp only [if_neg hc6] at J5
      exact fk_cut' J5 [] rfl
/-! FigureKnee talks (IZZZ)I -/
theorem n_X1_talks : fk_N yX1_talks 4 := ⟨by decide +kernel, by decide +kernel, by decide +kernel, by decide +kernel⟩
def f_X1_talks_J44 (y0 : Int32) (y1 : Option Nat) (m0 : fk_M) : Option (Int32 × fk_M) :=
  (isO m0 y1 0).bind fun u1 => bn2 (f_X1_well y1 y0 m0) fun z2 m3 => some (z2, m3)
set_option maxHeartbeats 4000000 in
theorem w_X1_talks_J44 {E : fk_E} {l : Launch} {G : fk_G} {b0 n : Nat} {r : Int32} {mF : fk_M} (X : fk_X E l G b0 "FigureKnee" "talks" cX1_talks 6 4 127 0 0) (Y : fk_Y E (some .int) (some (tI r)) n mF 0 0)  (y0 : Int32) (y1 : Option Nat) (m0 : fk_M) (hf : f_X1_talks_J44 y0 y1 m0 = some (r, mF)) : fk_W E 6 n m0 0 0 44 [] [tI y0, tR y1] := by
  unfold f_X1_talks_J44 at hf
  obtain ⟨u1, hq, hf⟩ := bI hf
  obtain ⟨z2, m3, hv, hf⟩ := bn2_eq hf
  refine fk_callV0I (ci := 0) (rest := []) X hq rfl (c_X1_well hv) n_X1_well q1001 q1003 qs25 q122 q1004 rfl dX1_talks_44 rfl rfl rfl rfl rfl (Nat.le_refl _) (Nat.le_refl _) ?_
  cases hf
  exact fk_ireturn X Y dX1_talks_47 rfl
def f_X1_talks (a0 : Option Nat) (a1 : Int32) (a2 : Int32) (a3 : Int32) (a4 : Int32) (m0 : fk_M) : Option (Int32 × fk_M) :=
  (isO m0 a0 0).bind fun u1 => (f_X1_whyBreath a0 a1 m0).bind fun z2 => if z2 ≤ 0 then (if a4 = 0 then ((f_X1_gets a1 a2 a3 m0).bind fun z3 => f_X1_talks_J44 z3 a0 m0) else ((f_X1_gets a1 a3 a2 m0).bind fun z4 => f_X1_talks_J44 z4 a0 m0)) else ((isO m0 a0 0).bind fun u5 => bn2 (f_X1_refusedBy a0 z2 (-100) m0) fun z6 m7 => some (z6, m7))
set_option maxHeartbeats 4000000 in
theorem c_X1_talks {l : Launch} {G : fk_G} {b0 : Nat} {n : Nat} {a0 : Option Nat} {a1 : Int32} {a2 : Int32} {a3 : Int32} {a4 : Int32} {m0 : fk_M} {r : Int32} {mF : fk_M} (hf : f_X1_talks a0 a1 a2 a3 a4 m0 = some (r, mF)) : fk_Ct l G b0 yX1_talks cX1_talks 6 (some .int) 4 127 [tR a0, tI a1, tI a2, tI a3, tI a4] n m0 (some (tI r)) n mF 0 0 := by
  refine fk_enter n_X1_talks.1 rfl ?_
  intro E X0 Y
  have X : fk_X E l G b0 "FigureKnee" "talks" cX1_talks 6 4 127 0 0 := X0
  show fk_W E 6 n m0 0 0 0 [(0, tR a0), (1, tI a1), (2, tI a2), (3, tI a3), (4, tI a4)] []
  unfold f_X1_talks at hf
  refine fk_aload_n X 0 dX1_talks_0 rfl ?_
  refine fk_iload_n X 1 dX1_talks_1 rfl ?_
  obtain ⟨u1, hq, hf⟩ := bI hf
  obtain ⟨z2, hv, hf⟩ := bI hf
  refine fk_callV0I (ci := 0) (rest := []) X hq rfl (c_X1_whyBreath hv) n_X1_whyBreath q1301 q1303 qs50 q122 q1304 rfl dX1_talks_2 rfl rfl rfl rfl rfl (Nat.le_refl _) (Nat.le_refl _) ?_
  refine fk_istore X [(5, tI z2), (0, tR a0), (1, tI a1), (2, tI a2), (3, tI a3), (4, tI a4)] dX1_talks_5 rfl rfl ?_
  refine fk_iload X 0 dX1_talks_7 rfl ?_
  refine fk_if_le' X 23 dX1_talks_9 rfl hf (fun hf => ?_) (fun hf => ?_)
  · refine fk_aload_n X 1 dX1_talks_23 rfl ?_
    refine fk_iload X 5 dX1_talks_24 rfl ?_
    refine fk_if_eq' X 38 dX1_talks_26 rfl hf (fun hf => ?_) (fun hf => ?_)
    · refine fk_iload_n X 2 dX1_talks_38 rfl ?_
      refine fk_iload_n X 3 dX1_talks_39 rfl ?_
      refine fk_iload_n X 4 dX1_talks_40 rfl ?_
      obtain ⟨z3, hv, hf⟩ := bI hf
      refine fk_callS0I (rest := [tR a0]) X (c_X1_gets hv) n_X1_gets q1305 q1306 q122 q1307 dX1_talks_41 rfl rfl rfl rfl rfl (Nat.le_refl _) (Nat.le_refl _) ?_
      exact fk_cut' (w_X1_talks_J44 X Y z3 a0 m0 hf) [] rfl
    · refine fk_iload_n X 2 dX1_talks_29 rfl ?_
      refine fk_iload_n X 4 dX1_talks_30 rfl ?_
      refine fk_iload_n X 3 dX1_talks_31 rfl ?_
      obtain ⟨z4, hv, hf⟩ := bI hf
      refine fk_callS0I (rest := [tR a0]) X (c_X1_gets hv) n_X1_gets q1305 q1306 q122 q1307 dX1_talks_32 rfl rfl rfl rfl rfl (Nat.le_refl _) (Nat.le_refl _) ?_
      refine fk_goto X 44 dX1_talks_35 rfl ?_
      exact fk_cut' (w_X1_talks_J44 X Y z4 a0 m0 hf) [] rfl
  · refine fk_aload_n X 1 dX1_talks_12 rfl ?_
    refine fk_iload X 0 dX1_talks_13 rfl ?_
    refine fk_bipush (v := (-100)) X dX1_talks_15 rfl ?_
    obtain ⟨u5, hq, hf⟩ := bI hf
    obtain ⟨z6, m7, hv, hf⟩ := bn2_eq hf
    refine fk_callV0I (ci := 0) (rest := []) X hq rfl (c_X1_refusedBy hv) n_X1_refusedBy q1262 q1264 qs47 q122 q1265 rfl dX1_talks_17 rfl rfl rfl rfl rfl (Nat.le_refl _) (Nat.le_refl _) ?_
    refine fk_goto X 47 dX1_talks_20 rfl ?_
    cases hf
    exact fk_ireturn X Y dX1_talks_47 rfl
/-! FigureKnee isRest (II)Z -/
theorem n_X1_isRest : fk_N yX1_isRest 2 := ⟨by decide +kernel, by decide +kernel, by decide +kernel, by decide +kernel⟩
def f_X1_isRest (a0 : Int32) (a1 : Int32) (m : fk_M) : Option Int32 :=
  (f_X1_gets a0 (if (if a1 ≤ 1 then (0 : Int32) else 1) = 0 then (1 : Int32) else 0) (if (i_rem a1 2) = 1 then (1 : Int32) else 0) m).bind fun z1 => (f_X1_gets a0 (if a1 ≤ 1 then (0 : Int32) else 1) (if (i_rem a1 2) = 1 then (1 : Int32) else 0) m).bind fun z2 => if z2 < z1 then (some 0) else ((f_X1_gets a0 (if (if (i_rem a1 2) = 1 then (1 : Int32) else 0) = 0 then (1 : Int32) else 0) (if a1 ≤ 1 then (0 : Int32) else 1) m).bind fun z3 => (f_X1_gets a0 (if (i_rem a1 2) = 1 then (1 : Int32) else 0) (if a1 ≤ 1 then (0 : Int32) else 1) m).bind fun z4 => some (if z4 < z3 then (0 : Int32) else 1))
set_option maxHeartbeats 4000000 in
theorem c_X1_isRest {l : Launch} {G : fk_G} {b0 : Nat} {n : Nat} {a0 : Int32} {a1 : Int32} {m : fk_M} {r : Int32} (hf : f_X1_isRest a0 a1 m = some r) : fk_Ct l G b0 yX1_isRest cX1_isRest 4 (some .boolean) 2 82 [tI a0, tI a1] n m (some (tI r)) n m 0 0 := by
  refine fk_enter n_X1_isRest.1 rfl ?_
  intro E X0 Y
  have X : fk_X E l G b0 "FigureKnee" "isRest" cX1_isRest 4 2 82 0 0 := X0
  show fk_W E 4 n m 0 0 0 [(0, tI a0), (1, tI a1)] []
  unfold f_X1_isRest at hf
  refine fk_iload_n X 1 dX1_isRest_0 rfl ?_
  refine fk_iconst (v := 1) X dX1_isRest_1 rfl ?_
  have J1 : fk_W E 4 n m 0 0 10 [(0, tI a0), (1, tI a1)] [tI (if a1 ≤ 1 then (0 : Int32) else 1)] := by
    refine fk_istore_n X [(2, tI (if a1 ≤ 1 then (0 : Int32) else 1)), (0, tI a0), (1, tI a1)] dX1_isRest_10 rfl rfl ?_
    refine fk_iload_n X 2 dX1_isRest_11 rfl ?_
    refine fk_iconst (v := 2) X dX1_isRest_12 rfl ?_
    refine fk_irem X dX1_isRest_13 (by decide) ?_
    refine fk_iconst (v := 1) X dX1_isRest_14 rfl ?_
    have J2 : fk_W E 4 n m 0 0 23 [(2, tI (if a1 ≤ 1 then (0 : Int32) else 1)), (0, tI a0)] [tI (if (i_rem a1 2) = 1 then (1 : Int32) else 0)] := by
      refine fk_istore_n X [(3, tI (if (i_rem a1 2) = 1 then (1 : Int32) else 0)), (2, tI (if a1 ≤ 1 then (0 : Int32) else 1)), (0, tI a0)] dX1_isRest_23 rfl rfl ?_
      refine fk_iload_n X 2 dX1_isRest_24 rfl ?_
      refine fk_iload_n X 1 dX1_isRest_25 rfl ?_
      have J3 : fk_W E 4 n m 0 0 34 [(3, tI (if (i_rem a1 2) = 1 then (1 : Int32) else 0)), (2, tI (if a1 ≤ 1 then (0 : Int32) else 1)), (0, tI a0)] [tI (if (if a1 ≤ 1 then (0 : Int32) else 1) = 0 then (1 : Int32) else 0), tI a0] := by
        refine fk_iload_n X 0 dX1_isRest_34 rfl ?_
        obtain ⟨z1, hv, hf⟩ := bI hf
        refine fk_callS0I (rest := []) X (c_X1_gets hv) n_X1_gets q1305 q1306 q122 q1307 dX1_isRest_35 rfl rfl rfl rfl rfl (Nat.le_refl _) (Nat.le_refl _) ?_
        refine fk_iload_n X 2 dX1_isRest_38 rfl ?_
        refine fk_iload_n X 1 dX1_isRest_39 rfl ?_
        refine fk_iload_n X 0 dX1_isRest_40 rfl ?_
        obtain ⟨z2, hv, hf⟩ := bI hf
        refine fk_callS0I (rest := [tI z1]) X (c_X1_gets hv) n_X1_gets q1305 q1306 q122 q1307 dX1_isRest_41 rfl rfl rfl rfl rfl (Nat.le_refl _) (Nat.le_refl _) ?_
        refine fk_icmp_gt' X 74 dX1_isRest_44 rfl hf (fun hf => ?_) (fun hf => ?_)
        · refine fk_iconst (v := 0) X dX1_isRest_74 rfl ?_
          cases hf
          exact fk_ireturn X Y dX1_isRest_75 (by decide +kernel)
        · refine fk_iload_n X 2 dX1_isRest_47 rfl ?_
          refine fk_iload_n X 0 dX1_isRest_48 rfl ?_
          have J4 : fk_W E 4 n m 0 0 57 [(3, tI (if (i_rem a1 2) = 1 then (1 : Int32) else 0)), (2, tI (if a1 ≤ 1 then (0 : Int32) else 1)), (0, tI a0)] [tI (if (if (i_rem a1 2) = 1 then (1 : Int32) else 0) = 0 then (1 : Int32) else 0), tI a0] := by
            refine fk_iload_n X 1 dX1_isRest_57 rfl ?_
            obtain ⟨z3, hv, hf⟩ := bI hf
            refine fk_callS0I (rest := []) X (c_X1_gets hv) n_X1_gets q1305 q1306 q122 q1307 dX1_isRest_58 rfl rfl rfl rfl rfl (Nat.le_refl _) (Nat.le_refl _) ?_
            refine fk_iload_n X 2 dX1_isRest_61 rfl ?_
            refine fk_iload_n X 0 dX1_isRest_62 rfl ?_
            refine fk_iload_n X 1 dX1_isRest_63 rfl ?_
            obtain ⟨z4, hv, hf⟩ := bI hf
            refine fk_callS0I (rest := [tI z3]) X (c_X1_gets hv) n_X1_gets q1305 q1306 q122 q1307 dX1_isRest_64 rfl rfl rfl rfl rfl (Nat.le_refl _) (Nat.le_refl _) ?_
            have J5 : fk_W E 4 n m 0 0 75 [] [tI (if z4 < z3 then (0 : Int32) else 1)] := by
              cases hf
              exact fk_ireturn X Y dX1_isRest_75 (by (repeat' split) <;> decide +kernel)
            refine fk_icmp_gt X 74 dX1_isRest_67 rfl (fun hc6 => ?_) (fun hc6 => ?_)
            · refine fk_iconst (v := 0) X dX1_isRest_74 rfl ?_
              simp only [if_pos hc6] at J5
              exact fk_cut' J5 [] rfl
            · refine fk_iconst (v := 1) X dX1_isRest_70 rfl ?_
              refine fk_goto X 75 dX1_isRest_71 rfl ?_
              simp only [if_neg hc6] at J5
              exact fk_cut' J5 [] rfl
          refine fk_if_ne X 56 dX1_isRest_49 rfl (fun hc7 => ?_) (fun hc7 => ?_)
          · refine fk_iconst (v := 0) X dX1_isRest_56 rfl ?_
            simp only [if_neg hc7] at J4
            exact fk_cut' J4 [0, 1, 2] rfl
          · refine fk_iconst (v := 1) X dX1_isRest_52 rfl ?_
            refine fk_goto X 57 dX1_isRest_53 rfl ?_
            simp only [if_pos hc7] at J4
            exact fk_cut' J4 [0, 1, 2] rfl
      refine fk_if_ne X 33 dX1_isRest_26 rfl (fun hc8 => ?_) (fun hc8 => ?_)
      · refine fk_iconst (v := 0) X dX1_isRest_33 rfl ?_
        simp only [if_neg hc8] at J3
        exact fk_cut' J3 [0, 1, 2] rfl
      · refine fk_iconst (v := 1) X dX1_isRest_29 rfl ?_
        refine fk_goto X 34 dX1_isRest_30 rfl ?_
        simp only [if_pos hc8] at J3
        exact fk_cut' J3 [0, 1, 2] rfl
    refine fk_icmp_ne X 22 dX1_isRest_15 rfl (fun hc9 => ?_) (fun hc9 => ?_)
    · refine fk_iconst (v := 0) X dX1_isRest_22 rfl ?_
      simp only [if_neg hc9] at J2
      exact fk_cut' J2 [0, 1] rfl
    · refine fk_iconst (v := 1) X dX1_isRest_18 rfl ?_
      refine fk_goto X 23 dX1_isRest_19 rfl ?_
      simp only [if_pos hc9] at J2
      exact fk_cut' J2 [0, 1] rfl
  refine fk_icmp_le X 9 dX1_isRest_2 rfl (fun hc10 => ?_) (fun hc10 => ?_)
  · refine fk_iconst (v := 0) X dX1_isRest_9 rfl ?_
    simp only [if_pos hc10] at J1
    exact fk_cut' J1 [0, 1] rfl
  · refine fk_iconst (v := 1) X dX1_isRest_5 rfl ?_
    refine fk_goto X 10 dX1_isRest_6 rfl ?_
    simp only [if_neg hc10] at J1
    exact fk_cut' J1 [0, 1] rfl
/-! FigureKnee rests (I)I -/
theorem n_X1_rests : fk_N yX1_rests 1 := ⟨by decide +kernel, by decide +kernel, by decide +kernel, by decide +kernel⟩
def f_X1_rests_L21 (x0 : Option Nat) (x1 : Int32) (m0 : fk_M) : Nat → Int32 → Int32 → Option (Int32 × fk_M)
  | 0, _, _ => none
  | N + 1, x3, x4 =>
  if 4 ≤ x4 then ((isO m0 x0 0).bind fun u1 => bn2 (f_X1_well x0 x3 m0) fun z2 m3 => some (z2, m3)) else ((f_X1_isRest x1 x4 m0).bind fun z4 => f_X1_rests_L21 x0 x1 m0 N (x3 + (if z4 = 0 then (0 : Int32) else 1)) (x4 + 1))
set_option maxHeartbeats 4000000 in
theorem w_X1_rests_L21 {E : fk_E} {l : Launch} {G : fk_G} {b0 n : Nat} {r : Int32} {mF : fk_M} (X : fk_X E l G b0 "FigureKnee" "rests" cX1_rests 5 4 127 0 0) (Y : fk_Y E (some .int) (some (tI r)) n mF 0 0) (x0 : Option Nat) (x1 : Int32) (m0 : fk_M) : ∀ (N : Nat) (x3 : Int32) (x4 : Int32), f_X1_rests_L21 x0 x1 m0 N x3 x4 = some (r, mF) → fk_W E 5 n m0 0 0 21 [(0, tR x0), (1, tI x1), (3, tI x3), (4, tI x4)] [] := by
  intro N
  induction N with
  | zero =>
    intro x3 x4 hf
    have hf : (none : Option (Int32 × fk_M)) = some _ := hf
    cases hf
  | succ N ih =>
    intro x3 x4 hf
    rw [f_X1_rests_L21] at hf
    refine fk_iload X 3 dX1_rests_21 rfl ?_
    refine fk_iconst (v := 4) X dX1_rests_23 rfl ?_
    refine fk_icmp_ge' X 50 dX1_rests_24 rfl hf (fun hf => ?_) (fun hf => ?_)
    · refine fk_aload_n X 0 dX1_rests_50 rfl ?_
      refine fk_iload_n X 2 dX1_rests_51 rfl ?_
      obtain ⟨u1, hq, hf⟩ := bI hf
      obtain ⟨z2, m3, hv, hf⟩ := bn2_eq hf
      refine fk_callV0I (ci := 0) (rest := []) X hq rfl (c_X1_well hv) n_X1_well q1001 q1003 qs25 q122 q1004 rfl dX1_rests_52 rfl rfl rfl rfl rfl (Nat.le_refl _) (Nat.le_refl _) ?_
      cases hf
      exact fk_ireturn X Y dX1_rests_55 rfl
    · refine fk_iload_n X 2 dX1_rests_27 rfl ?_
      refine fk_iload_n X 1 dX1_rests_28 rfl ?_
      refine fk_iload X 3 dX1_rests_29 rfl ?_
      obtain ⟨z4, hv, hf⟩ := bI hf
      refine fk_callS0I (rest := [tI x3]) X (c_X1_isRest hv) n_X1_isRest q1312 q1313 q122 q1314 dX1_rests_31 rfl rfl rfl rfl rfl (Nat.le_refl _) (Nat.le_refl _) ?_
      have J1 : fk_W E 5 n m0 0 0 42 [(0, tR x0), (1, tI x1), (4, tI x4)] [tI (if z4 = 0 then (0 : Int32) else 1), tI x3] := by
        refine fk_iadd X dX1_rests_42 ?_
        refine fk_istore_n X [(3, tI (x3 + (if z4 = 0 then (0 : Int32) else 1))), (0, tR x0), (1, tI x1), (4, tI x4)] dX1_rests_43 rfl rfl ?_
        refine fk_iinc X 3 [(4, tI (x4 + 1)), (3, tI (x3 + (if z4 = 0 then (0 : Int32) else 1))), (0, tR x0), (1, tI x1)] dX1_rests_44 rfl rfl rfl rfl ?_
        refine fk_goto X 21 dX1_rests_47 rfl ?_
        exact fk_cut' (ih (x3 + (if z4 = 0 then (0 : Int32) else 1)) (x4 + 1)  hf) [2, 3, 1, 0] rfl
      refine fk_if_eq X 41 dX1_rests_34 rfl (fun hc2 => ?_) (fun hc2 => ?_)
      · refine fk_iconst (v := 0) X dX1_rests_41 rfl ?_
        simp only [if_pos hc2] at J1
        exact fk_cut' J1 [0, 1, 3] rfl
      · refine fk_iconst (v := 1) X dX1_rests_37 rfl ?_
        refine fk_goto X 42 dX1_rests_38 rfl ?_
        simp only [if_neg hc2] at J1
        exact fk_cut' J1 [0, 1, 3] rfl
def f_X1_rests (a0 : Option Nat) (a1 : Int32) (m0 : fk_M) : Option (Int32 × fk_M) :=
  (isO m0 a0 0).bind fun u1 => (f_X1_whyBreath a0 a1 m0).bind fun z2 => if z2 ≤ 0 then (f_X1_rests_L21 a0 a1 m0 fk_fuel 0 0) else ((isO m0 a0 0).bind fun u3 => bn2 (f_X1_refused a0 z2 m0) fun z4 m5 => some (z4, m5))
set_option maxHeartbeats 4000000 in
theorem c_X1_rests {l : Launch} {G : fk_G} {b0 : Nat} {n : Nat} {a0 : Option Nat} {a1 : Int32} {m0 : fk_M} {r : Int32} {mF : fk_M} (hf : f_X1_rests a0 a1 m0 = some (r, mF)) : fk_Ct l G b0 yX1_rests cX1_rests 5 (some .int) 4 127 [tR a0, tI a1] n m0 (some (tI r)) n mF 0 0 := by
  refine fk_enter n_X1_rests.1 rfl ?_
  intro E X0 Y
  have X : fk_X E l G b0 "FigureKnee" "rests" cX1_rests 5 4 127 0 0 := X0
  show fk_W E 5 n m0 0 0 0 [(0, tR a0), (1, tI a1)] []
  unfold f_X1_rests at hf
  refine fk_aload_n X 0 dX1_rests_0 rfl ?_
  refine fk_iload_n X 1 dX1_rests_1 rfl ?_
  obtain ⟨u1, hq, hf⟩ := bI hf
  obtain ⟨z2, hv, hf⟩ := bI hf
  refine fk_callV0I (ci := 0) (rest := []) X hq rfl (c_X1_whyBreath hv) n_X1_whyBreath q1301 q1303 qs50 q122 q1304 rfl dX1_rests_2 rfl rfl rfl rfl rfl (Nat.le_refl _) (Nat.le_refl _) ?_
  refine fk_istore_n X [(2, tI z2), (0, tR a0), (1, tI a1)] dX1_rests_5 rfl rfl ?_
  refine fk_iload_n X 0 dX1_rests_6 rfl ?_
  refine fk_if_le' X 16 dX1_rests_7 rfl hf (fun hf => ?_) (fun hf => ?_)
  · refine fk_iconst (v := 0) X dX1_rests_16 rfl ?_
    refine fk_istore_n X [(3, tI 0), (2, tI z2), (0, tR a0), (1, tI a1)] dX1_rests_17 rfl rfl ?_
    refine fk_iconst (v := 0) X dX1_rests_18 rfl ?_
    refine fk_istore X [(4, tI 0), (3, tI 0), (2, tI z2), (0, tR a0), (1, tI a1)] dX1_rests_19 rfl rfl ?_
    exact fk_cut' (w_X1_rests_L21 X Y a0 a1 m0 fk_fuel 0 0 hf) [3, 4, 1, 0] rfl
  · refine fk_aload_n X 1 dX1_rests_10 rfl ?_
    refine fk_iload_n X 0 dX1_rests_11 rfl ?_
    obtain ⟨u3, hq, hf⟩ := bI hf
    obtain ⟨z4, m5, hv, hf⟩ := bn2_eq hf
    refine fk_callV0I (ci := 0) (rest := []) X hq rfl (c_X1_refused hv) n_X1_refused q264 q266 qs0 q122 q267 rfl dX1_rests_12 rfl rfl rfl rfl rfl (Nat.le_refl _) (Nat.le_refl _) ?_
    cases hf
    exact fk_ireturn X Y dX1_rests_15 rfl
/-! FigureKnee rest (I)I -/
theorem n_X1_rest : fk_N yX1_rest 1 := ⟨by decide +kernel, by decide +kernel, by decide +kernel, by decide +kernel⟩
def f_X1_rest_L18 (x0 : Option Nat) (x1 : Int32) (m0 : fk_M) : Nat → Int32 → Option (Int32 × fk_M)
  | 0, _ => none
  | N + 1, x3 =>
  if 4 ≤ x3 then ((isO m0 x0 0).bind fun u1 => bn2 (f_X1_well x0 (-2) m0) fun z2 m3 => some (z2, m3)) else ((f_X1_isRest x1 x3 m0).bind fun z4 => if z4 = 0 then (f_X1_rest_L18 x0 x1 m0 N (x3 + 1)) else ((isO m0 x0 0).bind fun u5 => bn2 (f_X1_well x0 ((10 * (x3 / 2)) + (i_rem x3 2)) m0) fun z6 m7 => some (z6, m7)))
set_option maxHeartbeats 4000000 in
theorem w_X1_rest_L18 {E : fk_E} {l : Launch} {G : fk_G} {b0 n : Nat} {r : Int32} {mF : fk_M} (X : fk_X E l G b0 "FigureKnee" "rest" cX1_rest 4 4 127 0 0) (Y : fk_Y E (some .int) (some (tI r)) n mF 0 0) (x0 : Option Nat) (x1 : Int32) (m0 : fk_M) : ∀ (N : Nat) (x3 : Int32), f_X1_rest_L18 x0 x1 m0 N x3 = some (r, mF) → fk_W E 4 n m0 0 0 18 [(0, tR x0), (1, tI x1), (3, tI x3)] [] := by
  intro N
  induction N with
  | zero =>
    intro x3 hf
    have hf : (none : Option (Int32 × fk_M)) = some _ := hf
    cases hf
  | succ N ih =>
    intro x3 hf
    rw [f_X1_rest_L18] at hf
    refine fk_iload_n X 2 dX1_rest_18 rfl ?_
    refine fk_iconst (v := 4) X dX1_rest_19 rfl ?_
    refine fk_icmp_ge' X 52 dX1_rest_20 rfl hf (fun hf => ?_) (fun hf => ?_)
    · refine fk_aload_n X 0 dX1_rest_52 rfl ?_
      refine fk_bipush (v := (-2)) X dX1_rest_53 rfl ?_
      obtain ⟨u1, hq, hf⟩ := bI hf
      obtain ⟨z2, m3, hv, hf⟩ := bn2_eq hf
      refine fk_callV0I (ci := 0) (rest := []) X hq rfl (c_X1_well hv) n_X1_well q1001 q1003 qs25 q122 q1004 rfl dX1_rest_55 rfl rfl rfl rfl rfl (Nat.le_refl _) (Nat.le_refl _) ?_
      cases hf
      exact fk_ireturn X Y dX1_rest_58 rfl
    · refine fk_iload_n X 1 dX1_rest_23 rfl ?_
      refine fk_iload_n X 2 dX1_rest_24 rfl ?_
      obtain ⟨z4, hv, hf⟩ := bI hf
      refine fk_callS0I (rest := []) X (c_X1_isRest hv) n_X1_isRest q1312 q1313 q122 q1314 dX1_rest_25 rfl rfl rfl rfl rfl (Nat.le_refl _) (Nat.le_refl _) ?_
      refine fk_if_eq' X 46 dX1_rest_28 rfl hf (fun hf => ?_) (fun hf => ?_)
      · refine fk_iinc X 2 [(3, tI (x3 + 1)), (0, tR x0), (1, tI x1)] dX1_rest_46 rfl rfl rfl rfl ?_
        refine fk_goto X 18 dX1_rest_49 rfl ?_
        exact fk_cut' (ih (x3 + 1)  hf) [1, 2, 0] rfl
      · refine fk_aload_n X 0 dX1_rest_31 rfl ?_
        refine fk_bipush (v := 10) X dX1_rest_32 rfl ?_
        refine fk_iload_n X 2 dX1_rest_34 rfl ?_
        refine fk_iconst (v := 2) X dX1_rest_35 rfl ?_
        refine fk_idiv X dX1_rest_36 (by decide) ?_
        refine fk_imul X dX1_rest_37 ?_
        refine fk_iload_n X 2 dX1_rest_38 rfl ?_
        refine fk_iconst (v := 2) X dX1_rest_39 rfl ?_
        refine fk_irem X dX1_rest_40 (by decide) ?_
        refine fk_iadd X dX1_rest_41 ?_
        obtain ⟨u5, hq, hf⟩ := bI hf
        obtain ⟨z6, m7, hv, hf⟩ := bn2_eq hf
        refine fk_callV0I (ci := 0) (rest := []) X hq rfl (c_X1_well hv) n_X1_well q1001 q1003 qs25 q122 q1004 rfl dX1_rest_42 rfl rfl rfl rfl rfl (Nat.le_refl _) (Nat.le_refl _) ?_
        cases hf
        exact fk_ireturn X Y dX1_rest_45 rfl
def f_X1_rest (a0 : Option Nat) (a1 : Int32) (m0 : fk_M) : Option (Int32 × fk_M) :=
  (isO m0 a0 0).bind fun u1 => (f_X1_whyBreath a0 a1 m0).bind fun z2 => if z2 ≤ 0 then (f_X1_rest_L18 a0 a1 m0 fk_fuel 0) else ((isO m0 a0 0).bind fun u3 => bn2 (f_X1_refused a0 z2 m0) fun z4 m5 => some (z4, m5))
set_option maxHeartbeats 4000000 in
theorem c_X1_rest {l : Launch} {G : fk_G} {b0 : Nat} {n : Nat} {a0 : Option Nat} {a1 : Int32} {m0 : fk_M} {r : Int32} {mF : fk_M} (hf : f_X1_rest a0 a1 m0 = some (r, mF)) : fk_Ct l G b0 yX1_rest cX1_rest 4 (some .int) 4 127 [tR a0, tI a1] n m0 (some (tI r)) n mF 0 0 := by
  refine fk_enter n_X1_rest.1 rfl ?_
  intro E X0 Y
  have X : fk_X E l G b0 "FigureKnee" "rest" cX1_rest 4 4 127 0 0 := X0
  show fk_W E 4 n m0 0 0 0 [(0, tR a0), (1, tI a1)] []
  unfold f_X1_rest at hf
  refine fk_aload_n X 0 dX1_rest_0 rfl ?_
  refine fk_iload_n X 1 dX1_rest_1 rfl ?_
  obtain ⟨u1, hq, hf⟩ := bI hf
  obtain ⟨z2, hv, hf⟩ := bI hf
  refine fk_callV0I (ci := 0) (rest := []) X hq rfl (c_X1_whyBreath hv) n_X1_whyBreath q1301 q1303 qs50 q122 q1304 rfl dX1_rest_2 rfl rfl rfl rfl rfl (Nat.le_refl _) (Nat.le_refl _) ?_
  refine fk_istore_n X [(2, tI z2), (0, tR a0), (1, tI a1)] dX1_rest_5 rfl rfl ?_
  refine fk_iload_n X 0 dX1_rest_6 rfl ?_
  refine fk_if_le' X 16 dX1_rest_7 rfl hf (fun hf => ?_) (fun hf => ?_)
  · refine fk_iconst (v := 0) X dX1_rest_16 rfl ?_
    refine fk_istore_n X [(3, tI 0), (2, tI z2), (0, tR a0), (1, tI a1)] dX1_rest_17 rfl rfl ?_
    exact fk_cut' (w_X1_rest_L18 X Y a0 a1 m0 fk_fuel 0 hf) [2, 3, 0] rfl
  · refine fk_aload_n X 1 dX1_rest_10 rfl ?_
    refine fk_iload_n X 0 dX1_rest_11 rfl ?_
    obtain ⟨u3, hq, hf⟩ := bI hf
    obtain ⟨z4, m5, hv, hf⟩ := bn2_eq hf
    refine fk_callV0I (ci := 0) (rest := []) X hq rfl (c_X1_refused hv) n_X1_refused q264 q266 qs0 q122 q267 rfl dX1_rest_12 rfl rfl rfl rfl rfl (Nat.le_refl _) (Nat.le_refl _) ?_
    cases hf
    exact fk_ireturn X Y dX1_rest_15 rfl
/-! FigureKnee looksAway ()V -/
theorem n_X1_looksAway : fk_N yX1_looksAway 0 := ⟨by decide +kernel, by decide +kernel, by decide +kernel, by decide +kernel⟩
def f_X1_looksAway_L2 (x0 : Option Nat) : Nat → Int32 → fk_M → Option fk_M
  | 0, _, _ => none
  | N + 1, x1, m0 =>
  if 5 ≤ x1 then (some m0) else ((gR m0 x0 0 19).bind fun z1 => (sI m0 z1 0 x1 0).bind fun m2 => f_X1_looksAway_L2 x0 N (x1 + 1) m2)
set_option maxHeartbeats 4000000 in
theorem w_X1_looksAway_L2 {E : fk_E} {l : Launch} {G : fk_G} {b0 n : Nat} {mF : fk_M} (X : fk_X E l G b0 "FigureKnee" "looksAway" cX1_looksAway 2 1 60 0 0) (Y : fk_Y E none none n mF 0 0) (x0 : Option Nat) : ∀ (N : Nat) (x1 : Int32) (m0 : fk_M), f_X1_looksAway_L2 x0 N x1 m0 = some mF → fk_W E 2 n m0 0 0 2 [(0, tR x0), (1, tI x1)] [] := by
  intro N
  induction N with
  | zero =>
    intro x1 m0 hf
    have hf : (none : Option fk_M) = some _ := hf
    cases hf
  | succ N ih =>
    intro x1 m0 hf
    rw [f_X1_looksAway_L2] at hf
    refine fk_iload_n X 1 dX1_looksAway_2 rfl ?_
    refine fk_iconst (v := 5) X dX1_looksAway_3 rfl ?_
    refine fk_icmp_ge' X 20 dX1_looksAway_4 rfl hf (fun hf => ?_) (fun hf => ?_)
    · cases hf
      exact fk_return X Y dX1_looksAway_20
    · refine fk_aload_n X 0 dX1_looksAway_7 rfl ?_
      refine fk_getR' X fd_0_19 q209 dX1_looksAway_8 hf (fun z1 hf => ?_)
      refine fk_iload_n X 1 dX1_looksAway_11 rfl ?_
      refine fk_iconst (v := 0) X dX1_looksAway_12 rfl ?_
      refine fk_iastore' X dX1_looksAway_13 hf (fun m2 hf => ?_)
      refine fk_iinc X 1 [(1, tI (x1 + 1)), (0, tR x0)] dX1_looksAway_14 rfl rfl rfl rfl ?_
      refine fk_goto X 2 dX1_looksAway_17 rfl ?_
      exact fk_cut' (ih (x1 + 1) m2  hf) [1, 0] rfl
def f_X1_looksAway (a0 : Option Nat) (m0 : fk_M) : Option fk_M :=
  f_X1_looksAway_L2 a0 fk_fuel 0 m0
set_option maxHeartbeats 4000000 in
theorem c_X1_looksAway {l : Launch} {G : fk_G} {b0 : Nat} {n : Nat} {a0 : Option Nat} {m0 : fk_M} {mF : fk_M} (hf : f_X1_looksAway a0 m0 = some mF) : fk_Ct l G b0 yX1_looksAway cX1_looksAway 2 none 1 60 [tR a0] n m0 none n mF 0 0 := by
  refine fk_enter n_X1_looksAway.1 rfl ?_
  intro E X0 Y
  have X : fk_X E l G b0 "FigureKnee" "looksAway" cX1_looksAway 2 1 60 0 0 := X0
  show fk_W E 2 n m0 0 0 0 [(0, tR a0)] []
  unfold f_X1_looksAway at hf
  refine fk_iconst (v := 0) X dX1_looksAway_0 rfl ?_
  refine fk_istore_n X [(1, tI 0), (0, tR a0)] dX1_looksAway_1 rfl rfl ?_
  exact fk_cut' (w_X1_looksAway_L2 X Y a0 fk_fuel 0 m0 hf) [1, 0] rfl
/-! FigureKnee mostLooked ()I -/
theorem n_X1_mostLooked : fk_N yX1_mostLooked 0 := ⟨by decide +kernel, by decide +kernel, by decide +kernel, by decide +kernel⟩
def f_X1_mostLooked_L4 (x0 : Option Nat) (m : fk_M) : Nat → Int32 → Int32 → Option Int32
  | 0, _, _ => none
  | N + 1, x1, x2 =>
  (isO m x0 0).bind fun u1 => (f_X1_pairs x0 m).bind fun z2 => if z2 ≤ x2 then (some x1) else ((gR m x0 0 19).bind fun z3 => (aI m z3 0 x2).bind fun z4 => (gR m x0 0 19).bind fun z5 => (aI m z5 0 x1).bind fun z6 => f_X1_mostLooked_L4 x0 m N (if z4 ≤ z6 then x1 else x2) (x2 + 1))
set_option maxHeartbeats 4000000 in
theorem w_X1_mostLooked_L4 {E : fk_E} {l : Launch} {G : fk_G} {b0 n : Nat} {m : fk_M} {r : Int32} (X : fk_X E l G b0 "FigureKnee" "mostLooked" cX1_mostLooked 3 3 100 0 0) (Y : fk_Y E (some .int) (some (tI r)) n m 0 0) (x0 : Option Nat) : ∀ (N : Nat) (x1 : Int32) (x2 : Int32), f_X1_mostLooked_L4 x0 m N x1 x2 = some r → fk_W E 3 n m 0 0 4 [(0, tR x0), (1, tI x1), (2, tI x2)] [] := by
  intro N
  induction N with
  | zero =>
    intro x1 x2 hf
    have hf : (none : Option Int32) = some _ := hf
    cases hf
  | succ N ih =>
    intro x1 x2 hf
    rw [f_X1_mostLooked_L4] at hf
    refine fk_iload_n X 2 dX1_mostLooked_4 rfl ?_
    refine fk_aload_n X 0 dX1_mostLooked_5 rfl ?_
    obtain ⟨u1, hq, hf⟩ := bI hf
    obtain ⟨z2, hv, hf⟩ := bI hf
    refine fk_callV0I (ci := 0) (rest := [tI x2]) X hq rfl (c_X1_pairs hv) n_X1_pairs q996 q998 qs24 q122 q999 rfl dX1_mostLooked_6 rfl rfl rfl rfl rfl (Nat.le_refl _) (Nat.le_refl _) ?_
    refine fk_icmp_ge' X 35 dX1_mostLooked_9 rfl hf (fun hf => ?_) (fun hf => ?_)
    · refine fk_iload_n X 1 dX1_mostLooked_35 rfl ?_
      cases hf
      exact fk_ireturn X Y dX1_mostLooked_36 rfl
    · refine fk_aload_n X 0 dX1_mostLooked_12 rfl ?_
      refine fk_getR' X fd_0_19 q209 dX1_mostLooked_13 hf (fun z3 hf => ?_)
      refine fk_iload_n X 2 dX1_mostLooked_16 rfl ?_
      refine fk_iaload' X dX1_mostLooked_17 hf (fun z4 hf => ?_)
      refine fk_aload_n X 0 dX1_mostLooked_18 rfl ?_
      refine fk_getR' X fd_0_19 q209 dX1_mostLooked_19 hf (fun z5 hf => ?_)
      refine fk_iload_n X 1 dX1_mostLooked_22 rfl ?_
      refine fk_iaload' X dX1_mostLooked_23 hf (fun z6 hf => ?_)
      have J1 : fk_W E 3 n m 0 0 29 [(0, tR x0), (1, tI (if z4 ≤ z6 then x1 else x2)), (2, tI x2)] [] := by
        refine fk_iinc X 2 [(2, tI (x2 + 1)), (0, tR x0), (1, tI (if z4 ≤ z6 then x1 else x2))] dX1_mostLooked_29 rfl rfl rfl rfl ?_
        refine fk_goto X 4 dX1_mostLooked_32 rfl ?_
        exact fk_cut' (ih (if z4 ≤ z6 then x1 else x2) (x2 + 1)  hf) [1, 2, 0] rfl
      refine fk_icmp_le X 29 dX1_mostLooked_24 rfl (fun hc2 => ?_) (fun hc2 => ?_)
      · simp only [if_pos hc2] at J1
        exact fk_cut' J1 [0, 1, 2] rfl
      · refine fk_iload_n X 2 dX1_mostLooked_27 rfl ?_
        refine fk_istore_n X [(1, tI x2), (0, tR x0), (2, tI x2)] dX1_mostLooked_28 rfl rfl ?_
        simp only [if_neg hc2] at J1
        exact fk_cut' J1 [1, 0, 2] rfl
def f_X1_mostLooked (a0 : Option Nat) (m : fk_M) : Option Int32 :=
  f_X1_mostLooked_L4 a0 m fk_fuel 0 1
set_option maxHeartbeats 4000000 in
theorem c_X1_mostLooked {l : Launch} {G : fk_G} {b0 : Nat} {n : Nat} {a0 : Option Nat} {m : fk_M} {r : Int32} (hf : f_X1_mostLooked a0 m = some r) : fk_Ct l G b0 yX1_mostLooked cX1_mostLooked 3 (some .int) 3 100 [tR a0] n m (some (tI r)) n m 0 0 := by
  refine fk_enter n_X1_mostLooked.1 rfl ?_
  intro E X0 Y
  have X : fk_X E l G b0 "FigureKnee" "mostLooked" cX1_mostLooked 3 3 100 0 0 := X0
  show fk_W E 3 n m 0 0 0 [(0, tR a0)] []
  unfold f_X1_mostLooked at hf
  refine fk_iconst (v := 0) X dX1_mostLooked_0 rfl ?_
  refine fk_istore_n X [(1, tI 0), (0, tR a0)] dX1_mostLooked_1 rfl rfl ?_
  refine fk_iconst (v := 1) X dX1_mostLooked_2 rfl ?_
  refine fk_istore_n X [(2, tI 1), (1, tI 0), (0, tR a0)] dX1_mostLooked_3 rfl rfl ?_
  exact fk_cut' (w_X1_mostLooked_L4 X Y a0 fk_fuel 0 1 hf) [2, 1, 0] rfl
/-! FigureKnee common (JJ)J -/
theorem n_X1_common : fk_N yX1_common 2 := ⟨by decide +kernel, by decide +kernel, by decide +kernel, by decide +kernel⟩
def f_X1_common_L6 (m : fk_M) : Nat → Int64 → Int64 → Option Int64
  | 0, _, _ => none
  | N + 1, x4, x6 =>
  if (lg_cmp x6 0) = 0 then (some x4) else (if x6 = 0 then none else (f_X1_common_L6 m N x6 (l_rem x4 x6)))
set_option maxHeartbeats 4000000 in
theorem w_X1_common_L6 {E : fk_E} {l : Launch} {G : fk_G} {b0 n : Nat} {m : fk_M} {r : Int64} (X : fk_X E l G b0 "FigureKnee" "common" cX1_common 10 1 60 0 0) (Y : fk_Y E (some .long) (some (tL r)) n m 0 0)  : ∀ (N : Nat) (x4 : Int64) (x6 : Int64), f_X1_common_L6 m N x4 x6 = some r → fk_W E 10 n m 0 0 6 [(4, tL x4), (6, tL x6)] [] := by
  intro N
  induction N with
  | zero =>
    intro x4 x6 hf
    have hf : (none : Option Int64) = some _ := hf
    cases hf
  | succ N ih =>
    intro x4 x6 hf
    rw [f_X1_common_L6] at hf
    refine fk_lload X 1 dX1_common_6 rfl ?_
    refine fk_lconst (v := 0) X dX1_common_8 rfl ?_
    refine fk_lcmp X dX1_common_9 ?_
    refine fk_if_eq' X 31 dX1_common_10 rfl hf (fun hf => ?_) (fun hf => ?_)
    · refine fk_lload X 0 dX1_common_31 rfl ?_
      cases hf
      exact fk_lreturn X Y dX1_common_33
    · refine fk_lload X 0 dX1_common_13 rfl ?_
      refine fk_lload X 1 dX1_common_15 rfl ?_
      refine fk_lrem' X dX1_common_17 hf (fun hf => ?_)
      refine fk_lstore X [(8, tL (l_rem x4 x6)), (4, tL x4), (6, tL x6)] dX1_common_18 rfl rfl ?_
      refine fk_lload X 2 dX1_common_20 rfl ?_
      refine fk_lstore X [(4, tL x6), (8, tL (l_rem x4 x6)), (6, tL x6)] dX1_common_22 rfl rfl ?_
      refine fk_lload X 1 dX1_common_24 rfl ?_
      refine fk_lstore X [(6, tL (l_rem x4 x6)), (4, tL x6), (8, tL (l_rem x4 x6))] dX1_common_26 rfl rfl ?_
      refine fk_goto X 6 dX1_common_28 rfl ?_
      exact fk_cut' (ih x6 (l_rem x4 x6)  hf) [1, 0] rfl
def f_X1_common (a0 : Int64) (a2 : Int64) (m : fk_M) : Option Int64 :=
  f_X1_common_L6 m fk_fuel a0 a2
set_option maxHeartbeats 4000000 in
theorem c_X1_common {l : Launch} {G : fk_G} {b0 : Nat} {n : Nat} {a0 : Int64} {a2 : Int64} {m : fk_M} {r : Int64} (hf : f_X1_common a0 a2 m = some r) : fk_Ct l G b0 yX1_common cX1_common 10 (some .long) 1 60 [tL a0, tL a2] n m (some (tL r)) n m 0 0 := by
  refine fk_enter n_X1_common.1 rfl ?_
  intro E X0 Y
  have X : fk_X E l G b0 "FigureKnee" "common" cX1_common 10 1 60 0 0 := X0
  show fk_W E 10 n m 0 0 0 [(0, tL a0), (2, tL a2)] []
  unfold f_X1_common at hf
  refine fk_lload_n X 0 dX1_common_0 rfl ?_
  refine fk_lstore X [(4, tL a0), (0, tL a0), (2, tL a2)] dX1_common_1 rfl rfl ?_
  refine fk_lload_n X 2 dX1_common_3 rfl ?_
  refine fk_lstore X [(6, tL a2), (4, tL a0), (0, tL a0), (2, tL a2)] dX1_common_4 rfl rfl ?_
  exact fk_cut' (w_X1_common_L6 X Y fk_fuel a0 a2 hf) [1, 0] rfl
/-! FigureKnee fraction (JJZ)J -/
theorem n_X1_fraction : fk_N yX1_fraction 3 := ⟨by decide +kernel, by decide +kernel, by decide +kernel, by decide +kernel⟩
def f_X1_fraction (a0 : Option Nat) (a1 : Int64) (a3 : Int64) (a5 : Int32) (m0 : fk_M) : Option (Int64 × fk_M) :=
  (isO m0 a0 0).bind fun u1 => bn2 (f_X1_well a0 0 m0) fun z2 m3 => (f_X1_common a1 a3 m3).bind fun z4 => if z4 = 0 then none else (some (((if a5 = 0 then a1 else a3) / z4), m3))
set_option maxHeartbeats 4000000 in
theorem c_X1_fraction {l : Launch} {G : fk_G} {b0 : Nat} {n : Nat} {a0 : Option Nat} {a1 : Int64} {a3 : Int64} {a5 : Int32} {m0 : fk_M} {r : Int64} {mF : fk_M} (hf : f_X1_fraction a0 a1 a3 a5 m0 = some (r, mF)) : fk_Ct l G b0 yX1_fraction cX1_fraction 6 (some .long) 2 89 [tR a0, tL a1, tL a3, tI a5] n m0 (some (tL r)) n mF 0 0 := by
  refine fk_enter n_X1_fraction.1 rfl ?_
  intro E X0 Y
  have X : fk_X E l G b0 "FigureKnee" "fraction" cX1_fraction 6 2 89 0 0 := X0
  show fk_W E 6 n m0 0 0 0 [(0, tR a0), (1, tL a1), (3, tL a3), (5, tI a5)] []
  unfold f_X1_fraction at hf
  refine fk_aload_n X 0 dX1_fraction_0 rfl ?_
  refine fk_iconst (v := 0) X dX1_fraction_1 rfl ?_
  obtain ⟨u1, hq, hf⟩ := bI hf
  obtain ⟨z2, m3, hv, hf⟩ := bn2_eq hf
  refine fk_callV0I (ci := 0) (rest := []) X hq rfl (c_X1_well hv) n_X1_well q1001 q1003 qs25 q122 q1004 rfl dX1_fraction_2 rfl rfl rfl rfl rfl (Nat.le_refl _) (Nat.le_refl _) ?_
  refine fk_pop X dX1_fraction_5 rfl ?_
  refine fk_iload X 3 dX1_fraction_6 rfl ?_
  have J1 : fk_W E 6 n m3 0 0 16 [(1, tL a1), (3, tL a3)] [tL (if a5 = 0 then a1 else a3)] := by
    refine fk_lload_n X 0 dX1_fraction_16 rfl ?_
    refine fk_lload_n X 1 dX1_fraction_17 rfl ?_
    obtain ⟨z4, hv, hf⟩ := bI hf
    refine fk_callS0J (rest := [tL (if a5 = 0 then a1 else a3)]) X (c_X1_common hv) n_X1_common q1335 q1336 q122 q1337 dX1_fraction_18 rfl rfl rfl rfl rfl (Nat.le_refl _) (Nat.le_refl _) ?_
    refine fk_ldiv' X dX1_fraction_21 hf (fun hf => ?_)
    cases hf
    exact fk_lreturn X Y dX1_fraction_22
  refine fk_if_eq X 15 dX1_fraction_8 rfl (fun hc2 => ?_) (fun hc2 => ?_)
  · refine fk_lload_n X 1 dX1_fraction_15 rfl ?_
    simp only [if_pos hc2] at J1
    exact fk_cut' J1 [1, 2] rfl
  · refine fk_lload_n X 2 dX1_fraction_11 rfl ?_
    refine fk_goto X 16 dX1_fraction_12 rfl ?_
    simp only [if_neg hc2] at J1
    exact fk_cut' J1 [1, 2] rfl
/-! FigureKnee verdictOdds (IIZ)J -/
theorem n_X1_verdictOdds : fk_N yX1_verdictOdds 3 := ⟨by decide +kernel, by decide +kernel, by decide +kernel, by decide +kernel⟩
def f_X1_verdictOdds_L78 (R60 : Int32 → Int32 → fk_M → Option (Int64 × fk_M)) (x0 : Option Nat) (x1 : Int32) (x2 : Int32) (x3 : Int32) (x5 : Int32) (x6 : Int32) (x7 : Int32) : Nat → Int32 → Int32 → fk_M → Option (Int64 × fk_M)
  | 0, _, _, _ => none
  | N + 1, x8, x9, m0 =>
  if x2 ≤ x9 then ((isO m0 x0 0).bind fun u1 => (f_X1_mostLooked x0 m0).bind fun z2 => R60 (x6 + (if z2 = x1 then (1 : Int32) else 0)) (x7 + 1) m0) else ((gR m0 x0 0 19).bind fun z3 => (isO m0 x0 0).bind fun u4 => (f_X1_pairs x0 m0).bind fun z5 => if z5 = 0 then none else ((aI m0 z3 0 (i_rem x8 z5)).bind fun z6 => (sI m0 z3 0 (i_rem x8 z5) (z6 + 1)).bind fun m7 => (isO m7 x0 0).bind fun u8 => (f_X1_pairs x0 m7).bind fun z9 => if z9 = 0 then none else (f_X1_verdictOdds_L78 R60 x0 x1 x2 x3 x5 x6 x7 N (x8 / z9) (x9 + 1) m7)))
set_option maxHeartbeats 4000000 in
theorem w_X1_verdictOdds_L78 {E : fk_E} {l : Launch} {G : fk_G} {b0 n : Nat} {r : Int64} {mF : fk_M} (X : fk_X E l G b0 "FigureKnee" "verdictOdds" cX1_verdictOdds 10 4 122 0 0) (Y : fk_Y E (some .long) (some (tL r)) n mF 0 0) (x0 : Option Nat) (x1 : Int32) (x2 : Int32) (x3 : Int32) (x5 : Int32) (x6 : Int32) (x7 : Int32) {R60 : Int32 → Int32 → fk_M → Option (Int64 × fk_M)} (hR60 : ∀ (v6 : Int32) (v7 : Int32) (m9 : fk_M), R60 v6 v7 m9 = some (r, mF) → fk_W E 10 n m9 0 0 60 [(0, tR x0), (1, tI x1), (2, tI x2), (3, tI x3), (5, tI x5), (6, tI v6), (7, tI v7)] []) : ∀ (N : Nat) (x8 : Int32) (x9 : Int32) (m0 : fk_M), f_X1_verdictOdds_L78 R60 x0 x1 x2 x3 x5 x6 x7 N x8 x9 m0 = some (r, mF) → fk_W E 10 n m0 0 0 78 [(0, tR x0), (1, tI x1), (2, tI x2), (3, tI x3), (5, tI x5), (6, tI x6), (7, tI x7), (8, tI x8), (9, tI x9)] [] := by
  intro N
  induction N with
  | zero =>
    intro x8 x9 m0 hf
    have hf : (none : Option (Int64 × fk_M)) = some _ := hf
    cases hf
  | succ N ih =>
    intro x8 x9 m0 hf
    rw [f_X1_verdictOdds_L78] at hf
    refine fk_iload X 8 dX1_verdictOdds_78 rfl ?_
    refine fk_iload_n X 2 dX1_verdictOdds_80 rfl ?_
    refine fk_icmp_ge' X 115 dX1_verdictOdds_81 rfl hf (fun hf => ?_) (fun hf => ?_)
    · refine fk_iload X 5 dX1_verdictOdds_115 rfl ?_
      refine fk_aload_n X 0 dX1_verdictOdds_117 rfl ?_
      obtain ⟨u1, hq, hf⟩ := bI hf
      obtain ⟨z2, hv, hf⟩ := bI hf
      refine fk_callV0I (ci := 0) (rest := [tI x6]) X hq rfl (c_X1_mostLooked hv) n_X1_mostLooked q1327 q1329 qs52 q122 q1330 rfl dX1_verdictOdds_118 rfl rfl rfl rfl rfl (Nat.le_refl _) (Nat.le_refl _) ?_
      refine fk_iload_n X 1 dX1_verdictOdds_121 rfl ?_
      have J1 : fk_W E 10 n m0 0 0 130 [(0, tR x0), (1, tI x1), (2, tI x2), (3, tI x3), (5, tI x5), (7, tI x7)] [tI (if z2 = x1 then (1 : Int32) else 0), tI x6] := by
        refine fk_iadd X dX1_verdictOdds_130 ?_
        refine fk_istore X [(6, tI (x6 + (if z2 = x1 then (1 : Int32) else 0))), (0, tR x0), (1, tI x1), (2, tI x2), (3, tI x3), (5, tI x5), (7, tI x7)] dX1_verdictOdds_131 rfl rfl ?_
        refine fk_iinc X 6 [(7, tI (x7 + 1)), (6, tI (x6 + (if z2 = x1 then (1 : Int32) else 0))), (0, tR x0), (1, tI x1), (2, tI x2), (3, tI x3), (5, tI x5)] dX1_verdictOdds_133 rfl rfl rfl rfl ?_
        refine fk_goto X 60 dX1_verdictOdds_136 rfl ?_
        exact fk_cut' (hR60 (x6 + (if z2 = x1 then (1 : Int32) else 0)) (x7 + 1) m0  hf) [2, 3, 4, 5, 6, 1, 0] rfl
      refine fk_icmp_ne X 129 dX1_verdictOdds_122 rfl (fun hc2 => ?_) (fun hc2 => ?_)
      · refine fk_iconst (v := 0) X dX1_verdictOdds_129 rfl ?_
        simp only [if_neg hc2] at J1
        exact fk_cut' J1 [0, 1, 2, 3, 4, 6] rfl
      · refine fk_iconst (v := 1) X dX1_verdictOdds_125 rfl ?_
        refine fk_goto X 130 dX1_verdictOdds_126 rfl ?_
        simp only [if_pos hc2] at J1
        exact fk_cut' J1 [0, 1, 2, 3, 4, 6] rfl
    · refine fk_aload_n X 0 dX1_verdictOdds_84 rfl ?_
      refine fk_getR' X fd_0_19 q209 dX1_verdictOdds_85 hf (fun z3 hf => ?_)
      refine fk_iload X 7 dX1_verdictOdds_88 rfl ?_
      refine fk_aload_n X 0 dX1_verdictOdds_90 rfl ?_
      obtain ⟨u4, hq, hf⟩ := bI hf
      obtain ⟨z5, hv, hf⟩ := bI hf
      refine fk_callV0I (ci := 0) (rest := [tI x8, tR z3]) X hq rfl (c_X1_pairs hv) n_X1_pairs q996 q998 qs24 q122 q999 rfl dX1_verdictOdds_91 rfl rfl rfl rfl rfl (Nat.le_refl _) (Nat.le_refl _) ?_
      refine fk_irem' X dX1_verdictOdds_94 hf (fun hf => ?_)
      refine fk_dup2 X dX1_verdictOdds_95 rfl rfl ?_
      refine fk_iaload' X dX1_verdictOdds_96 hf (fun z6 hf => ?_)
      refine fk_iconst (v := 1) X dX1_verdictOdds_97 rfl ?_
      refine fk_iadd X dX1_verdictOdds_98 ?_
      refine fk_iastore' X dX1_verdictOdds_99 hf (fun m7 hf => ?_)
      refine fk_iload X 7 dX1_verdictOdds_100 rfl ?_
      refine fk_aload_n X 0 dX1_verdictOdds_102 rfl ?_
      obtain ⟨u8, hq, hf⟩ := bI hf
      obtain ⟨z9, hv, hf⟩ := bI hf
      refine fk_callV0I (ci := 0) (rest := [tI x8]) X hq rfl (c_X1_pairs hv) n_X1_pairs q996 q998 qs24 q122 q999 rfl dX1_verdictOdds_103 rfl rfl rfl rfl rfl (Nat.le_refl _) (Nat.le_refl _) ?_
      refine fk_idiv' X dX1_verdictOdds_106 hf (fun hf => ?_)
      refine fk_istore X [(8, tI (x8 / z9)), (0, tR x0), (1, tI x1), (2, tI x2), (3, tI x3), (5, tI x5), (6, tI x6), (7, tI x7), (9, tI x9)] dX1_verdictOdds_107 rfl rfl ?_
      refine fk_iinc X 8 [(9, tI (x9 + 1)), (8, tI (x8 / z9)), (0, tR x0), (1, tI x1), (2, tI x2), (3, tI x3), (5, tI x5), (6, tI x6), (7, tI x7)] dX1_verdictOdds_109 rfl rfl rfl rfl ?_
      refine fk_goto X 78 dX1_verdictOdds_112 rfl ?_
      exact fk_cut' (ih (x8 / z9) (x9 + 1) m7  hf) [2, 3, 4, 5, 6, 7, 8, 1, 0] rfl
def f_X1_verdictOdds_L60 (x0 : Option Nat) (x1 : Int32) (x2 : Int32) (x3 : Int32) (x5 : Int32) : Nat → Int32 → Int32 → fk_M → Option (Int64 × fk_M)
  | 0, _, _, _ => none
  | N + 1, x6, x7, m0 =>
  if x5 ≤ x7 then ((isO m0 x0 0).bind fun u1 => bn2 (f_X1_fraction x0 (Int32.toInt64 x6) (Int32.toInt64 x5) x3 m0) fun z2 m3 => some (z2, m3)) else ((isO m0 x0 0).bind fun u4 => (f_X1_looksAway x0 m0).bind fun m5 => f_X1_verdictOdds_L78 (f_X1_verdictOdds_L60 x0 x1 x2 x3 x5 N) x0 x1 x2 x3 x5 x6 x7 fk_fuel x7 0 m5)
set_option maxHeartbeats 4000000 in
theorem w_X1_verdictOdds_L60 {E : fk_E} {l : Launch} {G : fk_G} {b0 n : Nat} {r : Int64} {mF : fk_M} (X : fk_X E l G b0 "FigureKnee" "verdictOdds" cX1_verdictOdds 10 4 122 0 0) (Y : fk_Y E (some .long) (some (tL r)) n mF 0 0) (x0 : Option Nat) (x1 : Int32) (x2 : Int32) (x3 : Int32) (x5 : Int32) : ∀ (N : Nat) (x6 : Int32) (x7 : Int32) (m0 : fk_M), f_X1_verdictOdds_L60 x0 x1 x2 x3 x5 N x6 x7 m0 = some (r, mF) → fk_W E 10 n m0 0 0 60 [(0, tR x0), (1, tI x1), (2, tI x2), (3, tI x3), (5, tI x5), (6, tI x6), (7, tI x7)] [] := by
  intro N
  induction N with
  | zero =>
    intro x6 x7 m0 hf
    have hf : (none : Option (Int64 × fk_M)) = some _ := hf
    cases hf
  | succ N ih =>
    intro x6 x7 m0 hf
    rw [f_X1_verdictOdds_L60] at hf
    refine fk_iload X 6 dX1_verdictOdds_60 rfl ?_
    refine fk_iload X 4 dX1_verdictOdds_62 rfl ?_
    refine fk_icmp_ge' X 139 dX1_verdictOdds_64 rfl hf (fun hf => ?_) (fun hf => ?_)
    · refine fk_aload_n X 0 dX1_verdictOdds_139 rfl ?_
      refine fk_iload X 5 dX1_verdictOdds_140 rfl ?_
      refine fk_i2l X dX1_verdictOdds_142 ?_
      refine fk_iload X 4 dX1_verdictOdds_143 rfl ?_
      refine fk_i2l X dX1_verdictOdds_145 ?_
      refine fk_iload_n X 3 dX1_verdictOdds_146 rfl ?_
      obtain ⟨u1, hq, hf⟩ := bI hf
      obtain ⟨z2, m3, hv, hf⟩ := bn2_eq hf
      refine fk_callV0J (ci := 0) (rest := []) X hq rfl (c_X1_fraction hv) n_X1_fraction q1331 q1333 qs53 q122 q1334 rfl dX1_verdictOdds_147 rfl rfl rfl rfl rfl (Nat.le_refl _) (Nat.le_refl _) ?_
      cases hf
      exact fk_lreturn X Y dX1_verdictOdds_150
    · refine fk_aload_n X 0 dX1_verdictOdds_67 rfl ?_
      obtain ⟨u4, hq, hf⟩ := bI hf
      obtain ⟨m5, hv, hf⟩ := bI hf
      refine fk_callV0V (ci := 0) (rest := []) X hq rfl (c_X1_looksAway hv) n_X1_looksAway q1323 q1325 qs51 q122 q1326 rfl dX1_verdictOdds_68 rfl rfl rfl rfl rfl (Nat.le_refl _) (Nat.le_refl _) ?_
      refine fk_iload X 6 dX1_verdictOdds_71 rfl ?_
      refine fk_istore X [(8, tI x7), (0, tR x0), (1, tI x1), (2, tI x2), (3, tI x3), (5, tI x5), (6, tI x6), (7, tI x7)] dX1_verdictOdds_73 rfl rfl ?_
      refine fk_iconst (v := 0) X dX1_verdictOdds_75 rfl ?_
      refine fk_istore X [(9, tI 0), (8, tI x7), (0, tR x0), (1, tI x1), (2, tI x2), (3, tI x3), (5, tI x5), (6, tI x6), (7, tI x7)] dX1_verdictOdds_76 rfl rfl ?_
      exact fk_cut' (w_X1_verdictOdds_L78 X Y x0 x1 x2 x3 x5 x6 x7 ih fk_fuel x7 0 m5 hf) [2, 3, 4, 5, 6, 7, 8, 1, 0] rfl
def f_X1_verdictOdds_L36 (x0 : Option Nat) (x1 : Int32) (x2 : Int32) (x3 : Int32) (x6 : Int32) (m0 : fk_M) : Nat → Int32 → Int32 → Option (Int64 × fk_M)
  | 0, _, _ => none
  | N + 1, x5, x7 =>
  if x2 ≤ x7 then (f_X1_verdictOdds_L60 x0 x1 x2 x3 x5 fk_fuel x6 0 m0) else ((isO m0 x0 0).bind fun u1 => (f_X1_pairs x0 m0).bind fun z2 => f_X1_verdictOdds_L36 x0 x1 x2 x3 x6 m0 N (x5 * z2) (x7 + 1))
set_option maxHeartbeats 4000000 in
theorem w_X1_verdictOdds_L36 {E : fk_E} {l : Launch} {G : fk_G} {b0 n : Nat} {r : Int64} {mF : fk_M} (X : fk_X E l G b0 "FigureKnee" "verdictOdds" cX1_verdictOdds 10 4 122 0 0) (Y : fk_Y E (some .long) (some (tL r)) n mF 0 0) (x0 : Option Nat) (x1 : Int32) (x2 : Int32) (x3 : Int32) (x6 : Int32) (m0 : fk_M) : ∀ (N : Nat) (x5 : Int32) (x7 : Int32), f_X1_verdictOdds_L36 x0 x1 x2 x3 x6 m0 N x5 x7 = some (r, mF) → fk_W E 10 n m0 0 0 36 [(0, tR x0), (1, tI x1), (2, tI x2), (3, tI x3), (5, tI x5), (6, tI x6), (7, tI x7)] [] := by
  intro N
  induction N with
  | zero =>
    intro x5 x7 hf
    have hf : (none : Option (Int64 × fk_M)) = some _ := hf
    cases hf
  | succ N ih =>
    intro x5 x7 hf
    rw [f_X1_verdictOdds_L36] at hf
    refine fk_iload X 6 dX1_verdictOdds_36 rfl ?_
    refine fk_iload_n X 2 dX1_verdictOdds_38 rfl ?_
    refine fk_icmp_ge' X 57 dX1_verdictOdds_39 rfl hf (fun hf => ?_) (fun hf => ?_)
    · refine fk_iconst (v := 0) X dX1_verdictOdds_57 rfl ?_
      refine fk_istore X [(7, tI 0), (0, tR x0), (1, tI x1), (2, tI x2), (3, tI x3), (5, tI x5), (6, tI x6)] dX1_verdictOdds_58 rfl rfl ?_
      exact fk_cut' (w_X1_verdictOdds_L60 X Y x0 x1 x2 x3 x5 fk_fuel x6 0 m0 hf) [1, 2, 3, 4, 5, 6, 0] rfl
    · refine fk_iload X 4 dX1_verdictOdds_42 rfl ?_
      refine fk_aload_n X 0 dX1_verdictOdds_44 rfl ?_
      obtain ⟨u1, hq, hf⟩ := bI hf
      obtain ⟨z2, hv, hf⟩ := bI hf
      refine fk_callV0I (ci := 0) (rest := [tI x5]) X hq rfl (c_X1_pairs hv) n_X1_pairs q996 q998 qs24 q122 q999 rfl dX1_verdictOdds_45 rfl rfl rfl rfl rfl (Nat.le_refl _) (Nat.le_refl _) ?_
      refine fk_imul X dX1_verdictOdds_48 ?_
      refine fk_istore X [(5, tI (x5 * z2)), (0, tR x0), (1, tI x1), (2, tI x2), (3, tI x3), (6, tI x6), (7, tI x7)] dX1_verdictOdds_49 rfl rfl ?_
      refine fk_iinc X 6 [(7, tI (x7 + 1)), (5, tI (x5 * z2)), (0, tR x0), (1, tI x1), (2, tI x2), (3, tI x3), (6, tI x6)] dX1_verdictOdds_51 rfl rfl rfl rfl ?_
      refine fk_goto X 36 dX1_verdictOdds_54 rfl ?_
      exact fk_cut' (ih (x5 * z2) (x7 + 1)  hf) [2, 3, 4, 5, 1, 6, 0] rfl
def f_X1_verdictOdds (a0 : Option Nat) (a1 : Int32) (a2 : Int32) (a3 : Int32) (m0 : fk_M) : Option (Int64 × fk_M) :=
  (isO m0 a0 0).bind fun u1 => (f_X1_isPair a0 a1 m0).bind fun z2 => (isO m0 a0 0).bind fun u3 => (f_X1_why a0 z2 a2 0 4 m0).bind fun z4 => if z4 ≤ 0 then (f_X1_verdictOdds_L36 a0 a1 a2 a3 0 m0 fk_fuel 1 0) else ((isO m0 a0 0).bind fun u5 => bn2 (f_X1_refused a0 z4 m0) fun z6 m7 => some ((Int32.toInt64 z6), m7))
set_option maxHeartbeats 4000000 in
theorem c_X1_verdictOdds {l : Launch} {G : fk_G} {b0 : Nat} {n : Nat} {a0 : Option Nat} {a1 : Int32} {a2 : Int32} {a3 : Int32} {m0 : fk_M} {r : Int64} {mF : fk_M} (hf : f_X1_verdictOdds a0 a1 a2 a3 m0 = some (r, mF)) : fk_Ct l G b0 yX1_verdictOdds cX1_verdictOdds 10 (some .long) 4 122 [tR a0, tI a1, tI a2, tI a3] n m0 (some (tL r)) n mF 0 0 := by
  refine fk_enter n_X1_verdictOdds.1 rfl ?_
  intro E X0 Y
  have X : fk_X E l G b0 "FigureKnee" "verdictOdds" cX1_verdictOdds 10 4 122 0 0 := X0
  show fk_W E 10 n m0 0 0 0 [(0, tR a0), (1, tI a1), (2, tI a2), (3, tI a3)] []
  unfold f_X1_verdictOdds at hf
  refine fk_aload_n X 0 dX1_verdictOdds_0 rfl ?_
  refine fk_aload_n X 0 dX1_verdictOdds_1 rfl ?_
  refine fk_iload_n X 1 dX1_verdictOdds_2 rfl ?_
  obtain ⟨u1, hq, hf⟩ := bI hf
  obtain ⟨z2, hv, hf⟩ := bI hf
  refine fk_callV0I (ci := 0) (rest := [tR a0]) X hq rfl (c_X1_isPair hv) n_X1_isPair q1017 q1019 qs26 q122 q1020 rfl dX1_verdictOdds_3 rfl rfl rfl rfl rfl (Nat.le_refl _) (Nat.le_refl _) ?_
  refine fk_iload_n X 2 dX1_verdictOdds_6 rfl ?_
  refine fk_iconst (v := 0) X dX1_verdictOdds_7 rfl ?_
  refine fk_iconst (v := 4) X dX1_verdictOdds_8 rfl ?_
  obtain ⟨u3, hq, hf⟩ := bI hf
  obtain ⟨z4, hv, hf⟩ := bI hf
  refine fk_callV0I (ci := 0) (rest := []) X hq rfl (c_X1_why hv) n_X1_why q1039 q1041 qs30 q122 q1042 rfl dX1_verdictOdds_9 rfl rfl rfl rfl rfl (Nat.le_refl _) (Nat.le_refl _) ?_
  refine fk_istore X [(4, tI z4), (0, tR a0), (1, tI a1), (2, tI a2), (3, tI a3)] dX1_verdictOdds_12 rfl rfl ?_
  refine fk_iload X 0 dX1_verdictOdds_14 rfl ?_
  refine fk_if_le' X 27 dX1_verdictOdds_16 rfl hf (fun hf => ?_) (fun hf => ?_)
  · refine fk_iconst (v := 1) X dX1_verdictOdds_27 rfl ?_
    refine fk_istore X [(5, tI 1), (4, tI z4), (0, tR a0), (1, tI a1), (2, tI a2), (3, tI a3)] dX1_verdictOdds_28 rfl rfl ?_
    refine fk_iconst (v := 0) X dX1_verdictOdds_30 rfl ?_
    refine fk_istore X [(6, tI 0), (5, tI 1), (4, tI z4), (0, tR a0), (1, tI a1), (2, tI a2), (3, tI a3)] dX1_verdictOdds_31 rfl rfl ?_
    refine fk_iconst (v := 0) X dX1_verdictOdds_33 rfl ?_
    refine fk_istore X [(7, tI 0), (6, tI 0), (5, tI 1), (4, tI z4), (0, tR a0), (1, tI a1), (2, tI a2), (3, tI a3)] dX1_verdictOdds_34 rfl rfl ?_
    exact fk_cut' (w_X1_verdictOdds_L36 X Y a0 a1 a2 a3 0 m0 fk_fuel 1 0 hf) [4, 5, 6, 7, 2, 1, 0] rfl
  · refine fk_aload_n X 1 dX1_verdictOdds_19 rfl ?_
    refine fk_iload X 0 dX1_verdictOdds_20 rfl ?_
    obtain ⟨u5, hq, hf⟩ := bI hf
    obtain ⟨z6, m7, hv, hf⟩ := bn2_eq hf
    refine fk_callV0I (ci := 0) (rest := []) X hq rfl (c_X1_refused hv) n_X1_refused q264 q266 qs0 q122 q267 rfl dX1_verdictOdds_22 rfl rfl rfl rfl rfl (Nat.le_refl _) (Nat.le_refl _) ?_
    refine fk_i2l X dX1_verdictOdds_25 ?_
    cases hf
    exact fk_lreturn X Y dX1_verdictOdds_26
/-! FigureKnee whyLooks (ZII)I -/
theorem n_X1_whyLooks : fk_N yX1_whyLooks 3 := ⟨by decide +kernel, by decide +kernel, by decide +kernel, by decide +kernel⟩
def f_X1_whyLooks (a0 : Option Nat) (a1 : Int32) (a2 : Int32) (a3 : Int32) (m : fk_M) : Option Int32 :=
  (isO m a0 0).bind fun u1 => (f_X1_why a0 a1 a2 0 65536 m).bind fun z2 => if z2 ≤ 0 then ((isO m a0 0).bind fun u3 => (f_X1_why a0 a1 a3 0 200 m).bind fun z4 => some z4) else (some z2)
set_option maxHeartbeats 4000000 in
theorem c_X1_whyLooks {l : Launch} {G : fk_G} {b0 : Nat} {n : Nat} {a0 : Option Nat} {a1 : Int32} {a2 : Int32} {a3 : Int32} {m : fk_M} {r : Int32} (hf : f_X1_whyLooks a0 a1 a2 a3 m = some r) : fk_Ct l G b0 yX1_whyLooks cX1_whyLooks 5 (some .int) 3 106 [tR a0, tI a1, tI a2, tI a3] n m (some (tI r)) n m 0 0 := by
  refine fk_enter n_X1_whyLooks.1 rfl ?_
  intro E X0 Y
  have X : fk_X E l G b0 "FigureKnee" "whyLooks" cX1_whyLooks 5 3 106 0 0 := X0
  show fk_W E 5 n m 0 0 0 [(0, tR a0), (1, tI a1), (2, tI a2), (3, tI a3)] []
  unfold f_X1_whyLooks at hf
  refine fk_aload_n X 0 dX1_whyLooks_0 rfl ?_
  refine fk_iload_n X 1 dX1_whyLooks_1 rfl ?_
  refine fk_iload_n X 2 dX1_whyLooks_2 rfl ?_
  refine fk_iconst (v := 0) X dX1_whyLooks_3 rfl ?_
  refine fk_ldcw X q1346 dX1_whyLooks_4 ?_
  obtain ⟨u1, hq, hf⟩ := bI hf
  obtain ⟨z2, hv, hf⟩ := bI hf
  refine fk_callV0I (ci := 0) (rest := []) X hq rfl (c_X1_why hv) n_X1_why q1039 q1041 qs30 q122 q1042 rfl dX1_whyLooks_7 rfl rfl rfl rfl rfl (Nat.le_refl _) (Nat.le_refl _) ?_
  refine fk_istore X [(4, tI z2), (0, tR a0), (1, tI a1), (2, tI a2), (3, tI a3)] dX1_whyLooks_10 rfl rfl ?_
  refine fk_iload X 0 dX1_whyLooks_12 rfl ?_
  refine fk_if_le' X 22 dX1_whyLooks_14 rfl hf (fun hf => ?_) (fun hf => ?_)
  · refine fk_aload_n X 1 dX1_whyLooks_22 rfl ?_
    refine fk_iload_n X 2 dX1_whyLooks_23 rfl ?_
    refine fk_iload_n X 4 dX1_whyLooks_24 rfl ?_
    refine fk_iconst (v := 0) X dX1_whyLooks_25 rfl ?_
    refine fk_sipush (v := 200) X dX1_whyLooks_26 rfl ?_
    obtain ⟨u3, hq, hf⟩ := bI hf
    obtain ⟨z4, hv, hf⟩ := bI hf
    refine fk_callV0I (ci := 0) (rest := []) X hq rfl (c_X1_why hv) n_X1_why q1039 q1041 qs30 q122 q1042 rfl dX1_whyLooks_29 rfl rfl rfl rfl rfl (Nat.le_refl _) (Nat.le_refl _) ?_
    cases hf
    exact fk_ireturn X Y dX1_whyLooks_32 rfl
  · refine fk_iload X 0 dX1_whyLooks_17 rfl ?_
    refine fk_goto X 32 dX1_whyLooks_19 rfl ?_
    cases hf
    exact fk_ireturn X Y dX1_whyLooks_32 rfl
/-! FigureKnee drawOf (I)I -/
theorem n_X1_drawOf : fk_N yX1_drawOf 1 := ⟨by decide +kernel, by decide +kernel, by decide +kernel, by decide +kernel⟩
def f_X1_drawOf (a0 : Int32) (m : fk_M) : Option Int32 :=
  some (Int64.toInt32 (l_rem ((75 * (Int32.toInt64 a0)) + 74) 65537))
set_option maxHeartbeats 4000000 in
theorem c_X1_drawOf {l : Launch} {G : fk_G} {b0 : Nat} {n : Nat} {a0 : Int32} {m : fk_M} {r : Int32} (hf : f_X1_drawOf a0 m = some r) : fk_Ct l G b0 yX1_drawOf cX1_drawOf 1 (some .int) 1 60 [tI a0] n m (some (tI r)) n m 0 0 := by
  refine fk_enter n_X1_drawOf.1 rfl ?_
  intro E X0 Y
  have X : fk_X E l G b0 "FigureKnee" "drawOf" cX1_drawOf 1 1 60 0 0 := X0
  show fk_W E 1 n m 0 0 0 [(0, tI a0)] []
  unfold f_X1_drawOf at hf
  refine fk_ldc2 X q1354 dX1_drawOf_0 ?_
  refine fk_iload_n X 0 dX1_drawOf_3 rfl ?_
  refine fk_i2l X dX1_drawOf_4 ?_
  refine fk_lmul X dX1_drawOf_5 ?_
  refine fk_ldc2 X q1355 dX1_drawOf_6 ?_
  refine fk_ladd X dX1_drawOf_9 ?_
  refine fk_ldc2 X q1356 dX1_drawOf_10 ?_
  refine fk_lrem X dX1_drawOf_13 (by decide) ?_
  refine fk_l2i X dX1_drawOf_14 ?_
  cases hf
  exact fk_ireturn X Y dX1_drawOf_15 rfl
/-! FigureKnee looksBy (II)V -/
theorem n_X1_looksBy : fk_N yX1_looksBy 2 := ⟨by decide +kernel, by decide +kernel, by decide +kernel, by decide +kernel⟩
def f_X1_looksBy_L9 (x0 : Option Nat) (x2 : Int32) : Nat → Int32 → Int32 → fk_M → Option fk_M
  | 0, _, _, _ => none
  | N + 1, x3, x4, m0 =>
  if x2 ≤ x4 then (some m0) else ((f_X1_drawOf x3 m0).bind fun z1 => (gR m0 x0 0 19).bind fun z2 => (isO m0 x0 0).bind fun u3 => (f_X1_pairs x0 m0).bind fun z4 => if z4 = 0 then none else ((aI m0 z2 0 (i_rem z1 z4)).bind fun z5 => (sI m0 z2 0 (i_rem z1 z4) (z5 + 1)).bind fun m6 => f_X1_looksBy_L9 x0 x2 N z1 (x4 + 1) m6))
set_option maxHeartbeats 4000000 in
theorem w_X1_looksBy_L9 {E : fk_E} {l : Launch} {G : fk_G} {b0 n : Nat} {mF : fk_M} (X : fk_X E l G b0 "FigureKnee" "looksBy" cX1_looksBy 5 3 100 0 0) (Y : fk_Y E none none n mF 0 0) (x0 : Option Nat) (x2 : Int32) : ∀ (N : Nat) (x3 : Int32) (x4 : Int32) (m0 : fk_M), f_X1_looksBy_L9 x0 x2 N x3 x4 m0 = some mF → fk_W E 5 n m0 0 0 9 [(0, tR x0), (2, tI x2), (3, tI x3), (4, tI x4)] [] := by
  intro N
  induction N with
  | zero =>
    intro x3 x4 m0 hf
    have hf : (none : Option fk_M) = some _ := hf
    cases hf
  | succ N ih =>
    intro x3 x4 m0 hf
    rw [f_X1_looksBy_L9] at hf
    refine fk_iload X 3 dX1_looksBy_9 rfl ?_
    refine fk_iload_n X 1 dX1_looksBy_11 rfl ?_
    refine fk_icmp_ge' X 41 dX1_looksBy_12 rfl hf (fun hf => ?_) (fun hf => ?_)
    · cases hf
      exact fk_return X Y dX1_looksBy_41
    · refine fk_iload_n X 2 dX1_looksBy_15 rfl ?_
      obtain ⟨z1, hv, hf⟩ := bI hf
      refine fk_callS0I (rest := []) X (c_X1_drawOf hv) n_X1_drawOf q1351 q1352 q122 q1353 dX1_looksBy_16 rfl rfl rfl rfl rfl (Nat.le_refl _) (Nat.le_refl _) ?_
      refine fk_istore_n X [(3, tI z1), (0, tR x0), (2, tI x2), (4, tI x4)] dX1_looksBy_19 rfl rfl ?_
      refine fk_aload_n X 1 dX1_looksBy_20 rfl ?_
      refine fk_getR' X fd_0_19 q209 dX1_looksBy_21 hf (fun z2 hf => ?_)
      refine fk_iload_n X 0 dX1_looksBy_24 rfl ?_
      refine fk_aload_n X 1 dX1_looksBy_25 rfl ?_
      obtain ⟨u3, hq, hf⟩ := bI hf
      obtain ⟨z4, hv, hf⟩ := bI hf
      refine fk_callV0I (ci := 0) (rest := [tI z1, tR z2]) X hq rfl (c_X1_pairs hv) n_X1_pairs q996 q998 qs24 q122 q999 rfl dX1_looksBy_26 rfl rfl rfl rfl rfl (Nat.le_refl _) (Nat.le_refl _) ?_
      refine fk_irem' X dX1_looksBy_29 hf (fun hf => ?_)
      refine fk_dup2 X dX1_looksBy_30 rfl rfl ?_
      refine fk_iaload' X dX1_looksBy_31 hf (fun z5 hf => ?_)
      refine fk_iconst (v := 1) X dX1_looksBy_32 rfl ?_
      refine fk_iadd X dX1_looksBy_33 ?_
      refine fk_iastore' X dX1_looksBy_34 hf (fun m6 hf => ?_)
      refine fk_iinc X 3 [(4, tI (x4 + 1)), (3, tI z1), (0, tR x0), (2, tI x2)] dX1_looksBy_35 rfl rfl rfl rfl ?_
      refine fk_goto X 9 dX1_looksBy_38 rfl ?_
      exact fk_cut' (ih z1 (x4 + 1) m6  hf) [2, 3, 1, 0] rfl
def f_X1_looksBy (a0 : Option Nat) (a1 : Int32) (a2 : Int32) (m0 : fk_M) : Option fk_M :=
  (isO m0 a0 0).bind fun u1 => (f_X1_looksAway a0 m0).bind fun m2 => f_X1_looksBy_L9 a0 a2 fk_fuel a1 0 m2
set_option maxHeartbeats 4000000 in
theorem c_X1_looksBy {l : Launch} {G : fk_G} {b0 : Nat} {n : Nat} {a0 : Option Nat} {a1 : Int32} {a2 : Int32} {m0 : fk_M} {mF : fk_M} (hf : f_X1_looksBy a0 a1 a2 m0 = some mF) : fk_Ct l G b0 yX1_looksBy cX1_looksBy 5 none 3 100 [tR a0, tI a1, tI a2] n m0 none n mF 0 0 := by
  refine fk_enter n_X1_looksBy.1 rfl ?_
  intro E X0 Y
  have X : fk_X E l G b0 "FigureKnee" "looksBy" cX1_looksBy 5 3 100 0 0 := X0
  show fk_W E 5 n m0 0 0 0 [(0, tR a0), (1, tI a1), (2, tI a2)] []
  unfold f_X1_looksBy at hf
  refine fk_iload_n X 1 dX1_looksBy_0 rfl ?_
  refine fk_istore_n X [(3, tI a1), (0, tR a0), (1, tI a1), (2, tI a2)] dX1_looksBy_1 rfl rfl ?_
  refine fk_aload_n X 1 dX1_looksBy_2 rfl ?_
  obtain ⟨u1, hq, hf⟩ := bI hf
  obtain ⟨m2, hv, hf⟩ := bI hf
  refine fk_callV0V (ci := 0) (rest := []) X hq rfl (c_X1_looksAway hv) n_X1_looksAway q1323 q1325 qs51 q122 q1326 rfl dX1_looksBy_3 rfl rfl rfl rfl rfl (Nat.le_refl _) (Nat.le_refl _) ?_
  refine fk_iconst (v := 0) X dX1_looksBy_6 rfl ?_
  refine fk_istore X [(4, tI 0), (3, tI a1), (0, tR a0), (1, tI a1), (2, tI a2)] dX1_looksBy_7 rfl rfl ?_
  exact fk_cut' (w_X1_looksBy_L9 X Y a0 a2 fk_fuel a1 0 m2 hf) [2, 4, 1, 0] rfl
/-! FigureKnee looks (III)I -/
theorem n_X1_looks : fk_N yX1_looks 3 := ⟨by decide +kernel, by decide +kernel, by decide +kernel, by decide +kernel⟩
def f_X1_looks (a0 : Option Nat) (a1 : Int32) (a2 : Int32) (a3 : Int32) (m0 : fk_M) : Option (Int32 × fk_M) :=
  (isO m0 a0 0).bind fun u1 => (f_X1_isPair a0 a1 m0).bind fun z2 => (isO m0 a0 0).bind fun u3 => (f_X1_whyLooks a0 z2 a2 a3 m0).bind fun z4 => if z4 ≤ 0 then ((isO m0 a0 0).bind fun u5 => (f_X1_looksBy a0 a2 a3 m0).bind fun m6 => (gR m6 a0 0 19).bind fun z7 => (aI m6 z7 0 a1).bind fun z8 => (isO m6 a0 0).bind fun u9 => bn2 (f_X1_well a0 z8 m6) fun z10 m11 => some (z10, m11)) else ((isO m0 a0 0).bind fun u12 => bn2 (f_X1_refused a0 z4 m0) fun z13 m14 => some (z13, m14))
set_option maxHeartbeats 4000000 in
theorem c_X1_looks {l : Launch} {G : fk_G} {b0 : Nat} {n : Nat} {a0 : Option Nat} {a1 : Int32} {a2 : Int32} {a3 : Int32} {m0 : fk_M} {r : Int32} {mF : fk_M} (hf : f_X1_looks a0 a1 a2 a3 m0 = some (r, mF)) : fk_Ct l G b0 yX1_looks cX1_looks 5 (some .int) 4 130 [tR a0, tI a1, tI a2, tI a3] n m0 (some (tI r)) n mF 0 0 := by
  refine fk_enter n_X1_looks.1 rfl ?_
  intro E X0 Y
  have X : fk_X E l G b0 "FigureKnee" "looks" cX1_looks 5 4 130 0 0 := X0
  show fk_W E 5 n m0 0 0 0 [(0, tR a0), (1, tI a1), (2, tI a2), (3, tI a3)] []
  unfold f_X1_looks at hf
  refine fk_aload_n X 0 dX1_looks_0 rfl ?_
  refine fk_aload_n X 0 dX1_looks_1 rfl ?_
  refine fk_iload_n X 1 dX1_looks_2 rfl ?_
  obtain ⟨u1, hq, hf⟩ := bI hf
  obtain ⟨z2, hv, hf⟩ := bI hf
  refine fk_callV0I (ci := 0) (rest := [tR a0]) X hq rfl (c_X1_isPair hv) n_X1_isPair q1017 q1019 qs26 q122 q1020 rfl dX1_looks_3 rfl rfl rfl rfl rfl (Nat.le_refl _) (Nat.le_refl _) ?_
  refine fk_iload_n X 2 dX1_looks_6 rfl ?_
  refine fk_iload_n X 3 dX1_looks_7 rfl ?_
  obtain ⟨u3, hq, hf⟩ := bI hf
  obtain ⟨z4, hv, hf⟩ := bI hf
  refine fk_callV0I (ci := 0) (rest := []) X hq rfl (c_X1_whyLooks hv) n_X1_whyLooks q1342 q1344 qs54 q122 q1345 rfl dX1_looks_8 rfl rfl rfl rfl rfl (Nat.le_refl _) (Nat.le_refl _) ?_
  refine fk_istore X [(4, tI z4), (0, tR a0), (1, tI a1), (2, tI a2), (3, tI a3)] dX1_looks_11 rfl rfl ?_
  refine fk_iload X 0 dX1_looks_13 rfl ?_
  refine fk_if_le' X 25 dX1_looks_15 rfl hf (fun hf => ?_) (fun hf => ?_)
  · refine fk_aload_n X 1 dX1_looks_25 rfl ?_
    refine fk_iload_n X 3 dX1_looks_26 rfl ?_
    refine fk_iload_n X 4 dX1_looks_27 rfl ?_
    obtain ⟨u5, hq, hf⟩ := bI hf
    obtain ⟨m6, hv, hf⟩ := bI hf
    refine fk_callV0V (ci := 0) (rest := []) X hq rfl (c_X1_looksBy hv) n_X1_looksBy q1347 q1349 qs55 q122 q1350 rfl dX1_looks_28 rfl rfl rfl rfl rfl (Nat.le_refl _) (Nat.le_refl _) ?_
    refine fk_aload_n X 1 dX1_looks_31 rfl ?_
    refine fk_aload_n X 1 dX1_looks_32 rfl ?_
    refine fk_getR' X fd_0_19 q209 dX1_looks_33 hf (fun z7 hf => ?_)
    refine fk_iload_n X 2 dX1_looks_36 rfl ?_
    refine fk_iaload' X dX1_looks_37 hf (fun z8 hf => ?_)
    obtain ⟨u9, hq, hf⟩ := bI hf
    obtain ⟨z10, m11, hv, hf⟩ := bn2_eq hf
    refine fk_callV0I (ci := 0) (rest := []) X hq rfl (c_X1_well hv) n_X1_well q1001 q1003 qs25 q122 q1004 rfl dX1_looks_38 rfl rfl rfl rfl rfl (Nat.le_refl _) (Nat.le_refl _) ?_
    cases hf
    exact fk_ireturn X Y dX1_looks_41 rfl
  · refine fk_aload_n X 1 dX1_looks_18 rfl ?_
    refine fk_iload X 0 dX1_looks_19 rfl ?_
    obtain ⟨u12, hq, hf⟩ := bI hf
    obtain ⟨z13, m14, hv, hf⟩ := bn2_eq hf
    refine fk_callV0I (ci := 0) (rest := []) X hq rfl (c_X1_refused hv) n_X1_refused q264 q266 qs0 q122 q267 rfl dX1_looks_21 rfl rfl rfl rfl rfl (Nat.le_refl _) (Nat.le_refl _) ?_
    cases hf
    exact fk_ireturn X Y dX1_looks_24 rfl
/-! FigureKnee verdict (II)I -/
theorem n_X1_verdict : fk_N yX1_verdict 2 := ⟨by decide +kernel, by decide +kernel, by decide +kernel, by decide +kernel⟩
def f_X1_verdict (a0 : Option Nat) (a1 : Int32) (a2 : Int32) (m0 : fk_M) : Option (Int32 × fk_M) :=
  (gR m0 a0 0 5).bind fun z1 => (isO m0 a0 0).bind fun u2 => (f_X1_whyLooks a0 (if z1 = none then (0 : Int32) else 1) a1 a2 m0).bind fun z3 => if z3 ≤ 0 then ((isO m0 a0 0).bind fun u4 => (f_X1_looksBy a0 a1 a2 m0).bind fun m5 => (isO m5 a0 0).bind fun u6 => (f_X1_mostLooked a0 m5).bind fun z7 => (isO m5 a0 0).bind fun u8 => bn2 (f_X1_well a0 z7 m5) fun z9 m10 => some (z9, m10)) else ((isO m0 a0 0).bind fun u11 => bn2 (f_X1_refused a0 z3 m0) fun z12 m13 => some (z12, m13))
set_option maxHeartbeats 4000000 in
theorem c_X1_verdict {l : Launch} {G : fk_G} {b0 : Nat} {n : Nat} {a0 : Option Nat} {a1 : Int32} {a2 : Int32} {m0 : fk_M} {r : Int32} {mF : fk_M} (hf : f_X1_verdict a0 a1 a2 m0 = some (r, mF)) : fk_Ct l G b0 yX1_verdict cX1_verdict 4 (some .int) 4 130 [tR a0, tI a1, tI a2] n m0 (some (tI r)) n mF 0 0 := by
  refine fk_enter n_X1_verdict.1 rfl ?_
  intro E X0 Y
  have X : fk_X E l G b0 "FigureKnee" "verdict" cX1_verdict 4 4 130 0 0 := X0
  show fk_W E 4 n m0 0 0 0 [(0, tR a0), (1, tI a1), (2, tI a2)] []
  unfold f_X1_verdict at hf
  refine fk_aload_n X 0 dX1_verdict_0 rfl ?_
  refine fk_aload_n X 0 dX1_verdict_1 rfl ?_
  refine fk_getR' X fd_0_5 q195 dX1_verdict_2 hf (fun z1 hf => ?_)
  have J1 : fk_W E 4 n m0 0 0 13 [(0, tR a0), (1, tI a1), (2, tI a2)] [tI (if z1 = none then (0 : Int32) else 1), tR a0] := by
    refine fk_iload_n X 1 dX1_verdict_13 rfl ?_
    refine fk_iload_n X 2 dX1_verdict_14 rfl ?_
    obtain ⟨u2, hq, hf⟩ := bI hf
    obtain ⟨z3, hv, hf⟩ := bI hf
    refine fk_callV0I (ci := 0) (rest := []) X hq rfl (c_X1_whyLooks hv) n_X1_whyLooks q1342 q1344 qs54 q122 q1345 rfl dX1_verdict_15 rfl rfl rfl rfl rfl (Nat.le_refl _) (Nat.le_refl _) ?_
    refine fk_istore_n X [(3, tI z3), (0, tR a0), (1, tI a1), (2, tI a2)] dX1_verdict_18 rfl rfl ?_
    refine fk_iload_n X 0 dX1_verdict_19 rfl ?_
    refine fk_if_le' X 29 dX1_verdict_20 rfl hf (fun hf => ?_) (fun hf => ?_)
    · refine fk_aload_n X 1 dX1_verdict_29 rfl ?_
      refine fk_iload_n X 2 dX1_verdict_30 rfl ?_
      refine fk_iload_n X 3 dX1_verdict_31 rfl ?_
      obtain ⟨u4, hq, hf⟩ := bI hf
      obtain ⟨m5, hv, hf⟩ := bI hf
      refine fk_callV0V (ci := 0) (rest := []) X hq rfl (c_X1_looksBy hv) n_X1_looksBy q1347 q1349 qs55 q122 q1350 rfl dX1_verdict_32 rfl rfl rfl rfl rfl (Nat.le_refl _) (Nat.le_refl _) ?_
      refine fk_aload_n X 1 dX1_verdict_35 rfl ?_
      refine fk_aload_n X 1 dX1_verdict_36 rfl ?_
      obtain ⟨u6, hq, hf⟩ := bI hf
      obtain ⟨z7, hv, hf⟩ := bI hf
      refine fk_callV0I (ci := 0) (rest := [tR a0]) X hq rfl (c_X1_mostLooked hv) n_X1_mostLooked q1327 q1329 qs52 q122 q1330 rfl dX1_verdict_37 rfl rfl rfl rfl rfl (Nat.le_refl _) (Nat.le_refl _) ?_
      obtain ⟨u8, hq, hf⟩ := bI hf
      obtain ⟨z9, m10, hv, hf⟩ := bn2_eq hf
      refine fk_callV0I (ci := 0) (rest := []) X hq rfl (c_X1_well hv) n_X1_well q1001 q1003 qs25 q122 q1004 rfl dX1_verdict_40 rfl rfl rfl rfl rfl (Nat.le_refl _) (Nat.le_refl _) ?_
      cases hf
      exact fk_ireturn X Y dX1_verdict_43 rfl
    · refine fk_aload_n X 1 dX1_verdict_23 rfl ?_
      refine fk_iload_n X 0 dX1_verdict_24 rfl ?_
      obtain ⟨u11, hq, hf⟩ := bI hf
      obtain ⟨z12, m13, hv, hf⟩ := bn2_eq hf
      refine fk_callV0I (ci := 0) (rest := []) X hq rfl (c_X1_refused hv) n_X1_refused q264 q266 qs0 q122 q267 rfl dX1_verdict_25 rfl rfl rfl rfl rfl (Nat.le_refl _) (Nat.le_refl _) ?_
      cases hf
      exact fk_ireturn X Y dX1_verdict_28 rfl
  refine fk_ifnull X 12 dX1_verdict_5 rfl (fun hc2 => ?_) (fun hc2 => ?_)
  · refine fk_iconst (v := 0) X dX1_verdict_12 rfl ?_
    simp only [if_pos hc2] at J1
    exact fk_cut' J1 [0, 1, 2] rfl
  · refine fk_iconst (v := 1) X dX1_verdict_8 rfl ?_
    refine fk_goto X 13 dX1_verdict_9 rfl ?_
    simp only [if_neg hc2] at J1
    exact fk_cut' J1 [0, 1, 2] rfl
/-! FigureKnee saysBy (III)I -/
theorem n_X1_saysBy : fk_N yX1_saysBy 3 := ⟨by decide +kernel, by decide +kernel, by decide +kernel, by decide +kernel⟩
def f_X1_saysBy_L14 (x0 : Option Nat) (x1 : Int32) (x2 : Int32) (x3 : Int32) (m : fk_M) : Nat → Int32 → Int32 → Option Int32
  | 0, _, _ => none
  | N + 1, x4, x5 =>
  if x2 < x5 then (some x4) else ((gR m x0 0 6).bind fun z1 => (gR m z1 13 2).bind fun z2 => (aI m z2 1 x1).bind fun z3 => (isO m x0 0).bind fun u4 => (f_X1_at x0 x1 m).bind fun z5 => (gI m z5 6 4).bind fun z6 => (gR m x0 0 6).bind fun z7 => (gI m z7 13 4).bind fun z8 => (f_X1_has x3 (x5 - 1) m).bind fun z9 => (isO m x0 0).bind fun u10 => (f_X1_then x0 x1 x4 z3 z6 (z8 + x5) z9 m).bind fun z11 => f_X1_saysBy_L14 x0 x1 x2 x3 m N z11 (x5 + 1))
set_option maxHeartbeats 4000000 in
theorem w_X1_saysBy_L14 {E : fk_E} {l : Launch} {G : fk_G} {b0 n : Nat} {m : fk_M} {r : Int32} (X : fk_X E l G b0 "FigureKnee" "saysBy" cX1_saysBy 6 6 172 0 0) (Y : fk_Y E (some .int) (some (tI r)) n m 0 0) (x0 : Option Nat) (x1 : Int32) (x2 : Int32) (x3 : Int32) : ∀ (N : Nat) (x4 : Int32) (x5 : Int32), f_X1_saysBy_L14 x0 x1 x2 x3 m N x4 x5 = some r → fk_W E 6 n m 0 0 14 [(0, tR x0), (1, tI x1), (2, tI x2), (3, tI x3), (4, tI x4), (5, tI x5)] [] := by
  intro N
  induction N with
  | zero =>
    intro x4 x5 hf
    have hf : (none : Option Int32) = some _ := hf
    cases hf
  | succ N ih =>
    intro x4 x5 hf
    rw [f_X1_saysBy_L14] at hf
    refine fk_iload X 5 dX1_saysBy_14 rfl ?_
    refine fk_iload_n X 2 dX1_saysBy_16 rfl ?_
    refine fk_icmp_gt' X 70 dX1_saysBy_17 rfl hf (fun hf => ?_) (fun hf => ?_)
    · refine fk_iload X 4 dX1_saysBy_70 rfl ?_
      cases hf
      exact fk_ireturn X Y dX1_saysBy_72 rfl
    · refine fk_aload_n X 0 dX1_saysBy_20 rfl ?_
      refine fk_iload_n X 1 dX1_saysBy_21 rfl ?_
      refine fk_iload X 4 dX1_saysBy_22 rfl ?_
      refine fk_aload_n X 0 dX1_saysBy_24 rfl ?_
      refine fk_getR' X fd_0_6 q196 dX1_saysBy_25 hf (fun z1 hf => ?_)
      refine fk_getR' X fd_13_2 q968 dX1_saysBy_28 hf (fun z2 hf => ?_)
      refine fk_iload_n X 1 dX1_saysBy_31 rfl ?_
      refine fk_baload' X dX1_saysBy_32 hf (fun z3 hf => ?_)
      refine fk_aload_n X 0 dX1_saysBy_33 rfl ?_
      refine fk_iload_n X 1 dX1_saysBy_34 rfl ?_
      obtain ⟨u4, hq, hf⟩ := bI hf
      obtain ⟨z5, hv, hf⟩ := bI hf
      refine fk_callV0R (ci := 0) (rest := [tI z3, tI x4, tI x1, tR x0]) X hq rfl (c_X1_at hv) n_X1_at q1021 q1023 qs27 q122 q1024 rfl dX1_saysBy_35 rfl rfl rfl rfl rfl (Nat.le_refl _) (Nat.le_refl _) ?_
      refine fk_getI' X fd_6_4 q753 dX1_saysBy_38 hf (fun z6 hf => ?_)
      refine fk_aload_n X 0 dX1_saysBy_41 rfl ?_
      refine fk_getR' X fd_0_6 q196 dX1_saysBy_42 hf (fun z7 hf => ?_)
      refine fk_getI' X fd_13_4 q972 dX1_saysBy_45 hf (fun z8 hf => ?_)
      refine fk_iload X 5 dX1_saysBy_48 rfl ?_
      refine fk_iadd X dX1_saysBy_50 ?_
      refine fk_iload_n X 3 dX1_saysBy_51 rfl ?_
      refine fk_iload X 5 dX1_saysBy_52 rfl ?_
      refine fk_iconst (v := 1) X dX1_saysBy_54 rfl ?_
      refine fk_isub X dX1_saysBy_55 ?_
      obtain ⟨z9, hv, hf⟩ := bI hf
      refine fk_callS0I (rest := [tI (z8 + x5), tI z6, tI z3, tI x4, tI x1, tR x0]) X (c_X1_has hv) n_X1_has q1210 q1211 q122 q1212 dX1_saysBy_56 rfl rfl rfl rfl rfl (Nat.le_refl _) (Nat.le_refl _) ?_
      obtain ⟨u10, hq, hf⟩ := bI hf
      obtain ⟨z11, hv, hf⟩ := bI hf
      refine fk_callV0I (ci := 0) (rest := []) X hq rfl (c_X1_then hv) n_X1_then q1051 q1053 qs33 q122 q1054 rfl dX1_saysBy_59 rfl rfl rfl rfl rfl (Nat.le_refl _) (Nat.le_refl _) ?_
      refine fk_istore X [(4, tI z11), (0, tR x0), (1, tI x1), (2, tI x2), (3, tI x3), (5, tI x5)] dX1_saysBy_62 rfl rfl ?_
      refine fk_iinc X 5 [(5, tI (x5 + 1)), (4, tI z11), (0, tR x0), (1, tI x1), (2, tI x2), (3, tI x3)] dX1_saysBy_64 rfl rfl rfl rfl ?_
      refine fk_goto X 14 dX1_saysBy_67 rfl ?_
      exact fk_cut' (ih z11 (x5 + 1)  hf) [2, 3, 4, 5, 1, 0] rfl
def f_X1_saysBy (a0 : Option Nat) (a1 : Int32) (a2 : Int32) (a3 : Int32) (m : fk_M) : Option Int32 :=
  (gR m a0 0 6).bind fun z1 => (gR m z1 13 1).bind fun z2 => (aI m z2 1 a1).bind fun z3 => f_X1_saysBy_L14 a0 a1 a2 a3 m fk_fuel z3 1
set_option maxHeartbeats 4000000 in
theorem c_X1_saysBy {l : Launch} {G : fk_G} {b0 : Nat} {n : Nat} {a0 : Option Nat} {a1 : Int32} {a2 : Int32} {a3 : Int32} {m : fk_M} {r : Int32} (hf : f_X1_saysBy a0 a1 a2 a3 m = some r) : fk_Ct l G b0 yX1_saysBy cX1_saysBy 6 (some .int) 6 172 [tR a0, tI a1, tI a2, tI a3] n m (some (tI r)) n m 0 0 := by
  refine fk_enter n_X1_saysBy.1 rfl ?_
  intro E X0 Y
  have X : fk_X E l G b0 "FigureKnee" "saysBy" cX1_saysBy 6 6 172 0 0 := X0
  show fk_W E 6 n m 0 0 0 [(0, tR a0), (1, tI a1), (2, tI a2), (3, tI a3)] []
  unfold f_X1_saysBy at hf
  refine fk_aload_n X 0 dX1_saysBy_0 rfl ?_
  refine fk_getR' X fd_0_6 q196 dX1_saysBy_1 hf (fun z1 hf => ?_)
  refine fk_getR' X fd_13_1 q966 dX1_saysBy_4 hf (fun z2 hf => ?_)
  refine fk_iload_n X 1 dX1_saysBy_7 rfl ?_
  refine fk_baload' X dX1_saysBy_8 hf (fun z3 hf => ?_)
  refine fk_istore X [(4, tI z3), (0, tR a0), (1, tI a1), (2, tI a2), (3, tI a3)] dX1_saysBy_9 rfl rfl ?_
  refine fk_iconst (v := 1) X dX1_saysBy_11 rfl ?_
  refine fk_istore X [(5, tI 1), (4, tI z3), (0, tR a0), (1, tI a1), (2, tI a2), (3, tI a3)] dX1_saysBy_12 rfl rfl ?_
  exact fk_cut' (w_X1_saysBy_L14 X Y a0 a1 a2 a3 fk_fuel z3 1 hf) [2, 3, 4, 5, 1, 0] rfl
/-! FigureKnee partOf (II)J -/
theorem n_X1_partOf : fk_N yX1_partOf 2 := ⟨by decide +kernel, by decide +kernel, by decide +kernel, by decide +kernel⟩
def f_X1_partOf_J43 (R5 : Int64 → Int32 → Option Int64) (x0 : Option Nat) (x1 : Int32) (x2 : Int32) (x5 : Int32) (y0 : Int64) (y1 : Int64) (m : fk_M) : Option Int64 :=
  R5 (y1 * y0) (x5 + 1)
set_option maxHeartbeats 4000000 in
theorem w_X1_partOf_J43 {E : fk_E} {l : Launch} {G : fk_G} {b0 n : Nat} {m : fk_M} {r : Int64} (X : fk_X E l G b0 "FigureKnee" "partOf" cX1_partOf 6 2 81 0 0) (Y : fk_Y E (some .long) (some (tL r)) n m 0 0) (x0 : Option Nat) (x1 : Int32) (x2 : Int32) (x5 : Int32) (y0 : Int64) (y1 : Int64) {R5 : Int64 → Int32 → Option Int64} (hR5 : ∀ (v3 : Int64) (v5 : Int32), R5 v3 v5 = some r → fk_W E 6 n m 0 0 5 [(0, tR x0), (1, tI x1), (2, tI x2), (3, tL v3), (5, tI v5)] []) (hf : f_X1_partOf_J43 R5 x0 x1 x2 x5 y0 y1 m = some r) : fk_W E 6 n m 0 0 43 [(0, tR x0), (1, tI x1), (2, tI x2), (5, tI x5)] [tL y0, tL y1] := by
  unfold f_X1_partOf_J43 at hf
  refine fk_lmul X dX1_partOf_43 ?_
  refine fk_lstore_n X [(3, tL (y1 * y0)), (0, tR x0), (1, tI x1), (2, tI x2), (5, tI x5)] dX1_partOf_44 rfl rfl ?_
  refine fk_iinc X 4 [(5, tI (x5 + 1)), (3, tL (y1 * y0)), (0, tR x0), (1, tI x1), (2, tI x2)] dX1_partOf_45 rfl rfl rfl rfl ?_
  refine fk_goto X 5 dX1_partOf_48 rfl ?_
  exact fk_cut' (hR5 (y1 * y0) (x5 + 1)  hf) [2, 3, 4, 1, 0] rfl
def f_X1_partOf_L5 (x0 : Option Nat) (x1 : Int32) (x2 : Int32) (m : fk_M) : Nat → Int64 → Int32 → Option Int64
  | 0, _, _ => none
  | N + 1, x3, x5 =>
  if x1 ≤ x5 then (some x3) else ((f_X1_has x2 x5 m).bind fun z1 => if z1 = 0 then ((gR m x0 0 5).bind fun z2 => (gI m z2 4 1).bind fun z3 => f_X1_partOf_J43 (f_X1_partOf_L5 x0 x1 x2 m N) x0 x1 x2 x5 (Int32.toInt64 (100 - z3)) x3 m) else ((gR m x0 0 5).bind fun z4 => (gI m z4 4 1).bind fun z5 => f_X1_partOf_J43 (f_X1_partOf_L5 x0 x1 x2 m N) x0 x1 x2 x5 (Int32.toInt64 z5) x3 m))
set_option maxHeartbeats 4000000 in
theorem w_X1_partOf_L5 {E : fk_E} {l : Launch} {G : fk_G} {b0 n : Nat} {m : fk_M} {r : Int64} (X : fk_X E l G b0 "FigureKnee" "partOf" cX1_partOf 6 2 81 0 0) (Y : fk_Y E (some .long) (some (tL r)) n m 0 0) (x0 : Option Nat) (x1 : Int32) (x2 : Int32) : ∀ (N : Nat) (x3 : Int64) (x5 : Int32), f_X1_partOf_L5 x0 x1 x2 m N x3 x5 = some r → fk_W E 6 n m 0 0 5 [(0, tR x0), (1, tI x1), (2, tI x2), (3, tL x3), (5, tI x5)] [] := by
  intro N
  induction N with
  | zero =>
    intro x3 x5 hf
    have hf : (none : Option Int64) = some _ := hf
    cases hf
  | succ N ih =>
    intro x3 x5 hf
    rw [f_X1_partOf_L5] at hf
    refine fk_iload X 4 dX1_partOf_5 rfl ?_
    refine fk_iload_n X 1 dX1_partOf_7 rfl ?_
    refine fk_icmp_ge' X 51 dX1_partOf_8 rfl hf (fun hf => ?_) (fun hf => ?_)
    · refine fk_lload_n X 3 dX1_partOf_51 rfl ?_
      cases hf
      exact fk_lreturn X Y dX1_partOf_52
    · refine fk_lload_n X 3 dX1_partOf_11 rfl ?_
      refine fk_iload_n X 2 dX1_partOf_12 rfl ?_
      refine fk_iload X 4 dX1_partOf_13 rfl ?_
      obtain ⟨z1, hv, hf⟩ := bI hf
      refine fk_callS0I (rest := [tL x3]) X (c_X1_has hv) n_X1_has q1210 q1211 q122 q1212 dX1_partOf_15 rfl rfl rfl rfl rfl (Nat.le_refl _) (Nat.le_refl _) ?_
      refine fk_if_eq' X 32 dX1_partOf_18 rfl hf (fun hf => ?_) (fun hf => ?_)
      · refine fk_bipush (v := 100) X dX1_partOf_32 rfl ?_
        refine fk_aload_n X 0 dX1_partOf_34 rfl ?_
        refine fk_getR' X fd_0_5 q195 dX1_partOf_35 hf (fun z2 hf => ?_)
        refine fk_getI' X fd_4_1 q302 dX1_partOf_38 hf (fun z3 hf => ?_)
        refine fk_isub X dX1_partOf_41 ?_
        refine fk_i2l X dX1_partOf_42 ?_
        exact fk_cut' (w_X1_partOf_J43 X Y x0 x1 x2 x5 (Int32.toInt64 (100 - z3)) x3 ih hf) [0, 1, 2, 4] rfl
      · refine fk_aload_n X 0 dX1_partOf_21 rfl ?_
        refine fk_getR' X fd_0_5 q195 dX1_partOf_22 hf (fun z4 hf => ?_)
        refine fk_getI' X fd_4_1 q302 dX1_partOf_25 hf (fun z5 hf => ?_)
        refine fk_i2l X dX1_partOf_28 ?_
        refine fk_goto X 43 dX1_partOf_29 rfl ?_
        exact fk_cut' (w_X1_partOf_J43 X Y x0 x1 x2 x5 (Int32.toInt64 z5) x3 ih hf) [0, 1, 2, 4] rfl
def f_X1_partOf (a0 : Option Nat) (a1 : Int32) (a2 : Int32) (m : fk_M) : Option Int64 :=
  f_X1_partOf_L5 a0 a1 a2 m fk_fuel 1 0
set_option maxHeartbeats 4000000 in
theorem c_X1_partOf {l : Launch} {G : fk_G} {b0 : Nat} {n : Nat} {a0 : Option Nat} {a1 : Int32} {a2 : Int32} {m : fk_M} {r : Int64} (hf : f_X1_partOf a0 a1 a2 m = some r) : fk_Ct l G b0 yX1_partOf cX1_partOf 6 (some .long) 2 81 [tR a0, tI a1, tI a2] n m (some (tL r)) n m 0 0 := by
  refine fk_enter n_X1_partOf.1 rfl ?_
  intro E X0 Y
  have X : fk_X E l G b0 "FigureKnee" "partOf" cX1_partOf 6 2 81 0 0 := X0
  show fk_W E 6 n m 0 0 0 [(0, tR a0), (1, tI a1), (2, tI a2)] []
  unfold f_X1_partOf at hf
  refine fk_lconst (v := 1) X dX1_partOf_0 rfl ?_
  refine fk_lstore_n X [(3, tL 1), (0, tR a0), (1, tI a1), (2, tI a2)] dX1_partOf_1 rfl rfl ?_
  refine fk_iconst (v := 0) X dX1_partOf_2 rfl ?_
  refine fk_istore X [(5, tI 0), (3, tL 1), (0, tR a0), (1, tI a1), (2, tI a2)] dX1_partOf_3 rfl rfl ?_
  exact fk_cut' (w_X1_partOf_L5 X Y a0 a1 a2 fk_fuel 1 0 hf) [2, 3, 4, 1, 0] rfl
/-! FigureKnee whole (I)J -/
theorem n_X1_whole : fk_N yX1_whole 1 := ⟨by decide +kernel, by decide +kernel, by decide +kernel, by decide +kernel⟩
def f_X1_whole_L4 (x0 : Int32) (m : fk_M) : Nat → Int64 → Int32 → Option Int64
  | 0, _, _ => none
  | N + 1, x1, x3 =>
  if x0 ≤ x3 then (some x1) else (f_X1_whole_L4 x0 m N (x1 * 100) (x3 + 1))
set_option maxHeartbeats 4000000 in
theorem w_X1_whole_L4 {E : fk_E} {l : Launch} {G : fk_G} {b0 n : Nat} {m : fk_M} {r : Int64} (X : fk_X E l G b0 "FigureKnee" "whole" cX1_whole 4 1 60 0 0) (Y : fk_Y E (some .long) (some (tL r)) n m 0 0) (x0 : Int32) : ∀ (N : Nat) (x1 : Int64) (x3 : Int32), f_X1_whole_L4 x0 m N x1 x3 = some r → fk_W E 4 n m 0 0 4 [(0, tI x0), (1, tL x1), (3, tI x3)] [] := by
  intro N
  induction N with
  | zero =>
    intro x1 x3 hf
    have hf : (none : Option Int64) = some _ := hf
    cases hf
  | succ N ih =>
    intro x1 x3 hf
    rw [f_X1_whole_L4] at hf
    refine fk_iload_n X 2 dX1_whole_4 rfl ?_
    refine fk_iload_n X 0 dX1_whole_5 rfl ?_
    refine fk_icmp_ge' X 21 dX1_whole_6 rfl hf (fun hf => ?_) (fun hf => ?_)
    · refine fk_lload_n X 1 dX1_whole_21 rfl ?_
      cases hf
      exact fk_lreturn X Y dX1_whole_22
    · refine fk_lload_n X 1 dX1_whole_9 rfl ?_
      refine fk_ldc2 X q1376 dX1_whole_10 ?_
      refine fk_lmul X dX1_whole_13 ?_
      refine fk_lstore_n X [(1, tL (x1 * 100)), (0, tI x0), (3, tI x3)] dX1_whole_14 rfl rfl ?_
      refine fk_iinc X 2 [(3, tI (x3 + 1)), (1, tL (x1 * 100)), (0, tI x0)] dX1_whole_15 rfl rfl rfl rfl ?_
      refine fk_goto X 4 dX1_whole_18 rfl ?_
      exact fk_cut' (ih (x1 * 100) (x3 + 1)  hf) [2, 1, 0] rfl
def f_X1_whole (a0 : Int32) (m : fk_M) : Option Int64 :=
  f_X1_whole_L4 a0 m fk_fuel 1 0
set_option maxHeartbeats 4000000 in
theorem c_X1_whole {l : Launch} {G : fk_G} {b0 : Nat} {n : Nat} {a0 : Int32} {m : fk_M} {r : Int64} (hf : f_X1_whole a0 m = some r) : fk_Ct l G b0 yX1_whole cX1_whole 4 (some .long) 1 60 [tI a0] n m (some (tL r)) n m 0 0 := by
  refine fk_enter n_X1_whole.1 rfl ?_
  intro E X0 Y
  have X : fk_X E l G b0 "FigureKnee" "whole" cX1_whole 4 1 60 0 0 := X0
  show fk_W E 4 n m 0 0 0 [(0, tI a0)] []
  unfold f_X1_whole at hf
  refine fk_lconst (v := 1) X dX1_whole_0 rfl ?_
  refine fk_lstore_n X [(1, tL 1), (0, tI a0)] dX1_whole_1 rfl rfl ?_
  refine fk_iconst (v := 0) X dX1_whole_2 rfl ?_
  refine fk_istore_n X [(3, tI 0), (1, tL 1), (0, tI a0)] dX1_whole_3 rfl rfl ?_
  exact fk_cut' (w_X1_whole_L4 X Y a0 fk_fuel 1 0 hf) [2, 1, 0] rfl
/-! FigureKnee odds (IIIZ)J -/
theorem n_X1_odds : fk_N yX1_odds 4 := ⟨by decide +kernel, by decide +kernel, by decide +kernel, by decide +kernel⟩
def f_X1_odds_J82 (R49 : Int64 → Int32 → Option (Int64 × fk_M)) (x0 : Option Nat) (x1 : Int32) (x2 : Int32) (x3 : Int32) (x4 : Int32) (x8 : Int32) (y0 : Int64) (y1 : Int64) (m0 : fk_M) : Option (Int64 × fk_M) :=
  R49 (y1 + y0) (x8 + 1)
set_option maxHeartbeats 4000000 in
theorem w_X1_odds_J82 {E : fk_E} {l : Launch} {G : fk_G} {b0 n : Nat} {r : Int64} {mF : fk_M} (X : fk_X E l G b0 "FigureKnee" "odds" cX1_odds 9 7 197 0 0) (Y : fk_Y E (some .long) (some (tL r)) n mF 0 0) (x0 : Option Nat) (x1 : Int32) (x2 : Int32) (x3 : Int32) (x4 : Int32) (x8 : Int32) (y0 : Int64) (y1 : Int64) (m0 : fk_M) {R49 : Int64 → Int32 → Option (Int64 × fk_M)} (hR49 : ∀ (v6 : Int64) (v8 : Int32), R49 v6 v8 = some (r, mF) → fk_W E 9 n m0 0 0 49 [(0, tR x0), (1, tI x1), (2, tI x2), (3, tI x3), (4, tI x4), (6, tL v6), (8, tI v8)] []) (hf : f_X1_odds_J82 R49 x0 x1 x2 x3 x4 x8 y0 y1 m0 = some (r, mF)) : fk_W E 9 n m0 0 0 82 [(0, tR x0), (1, tI x1), (2, tI x2), (3, tI x3), (4, tI x4), (8, tI x8)] [tL y0, tL y1] := by
  unfold f_X1_odds_J82 at hf
  refine fk_ladd X dX1_odds_82 ?_
  refine fk_lstore X [(6, tL (y1 + y0)), (0, tR x0), (1, tI x1), (2, tI x2), (3, tI x3), (4, tI x4), (8, tI x8)] dX1_odds_83 rfl rfl ?_
  refine fk_iinc X 6 [(8, tI (x8 + 1)), (6, tL (y1 + y0)), (0, tR x0), (1, tI x1), (2, tI x2), (3, tI x3), (4, tI x4)] dX1_odds_85 rfl rfl rfl rfl ?_
  refine fk_goto X 49 dX1_odds_88 rfl ?_
  exact fk_cut' (hR49 (y1 + y0) (x8 + 1)  hf) [2, 3, 4, 5, 6, 1, 0] rfl
def f_X1_odds_L49 (x0 : Option Nat) (x1 : Int32) (x2 : Int32) (x3 : Int32) (x4 : Int32) (m0 : fk_M) : Nat → Int64 → Int32 → Option (Int64 × fk_M)
  | 0, _, _ => none
  | N + 1, x6, x8 =>
  if (i_shl 1 x2) ≤ x8 then ((f_X1_whole x2 m0).bind fun z1 => (isO m0 x0 0).bind fun u2 => bn2 (f_X1_fraction x0 x6 z1 x4 m0) fun z3 m4 => some (z3, m4)) else ((isO m0 x0 0).bind fun u5 => (f_X1_saysBy x0 x1 x2 x8 m0).bind fun z6 => if z6 < x3 then (f_X1_odds_J82 (f_X1_odds_L49 x0 x1 x2 x3 x4 m0 N) x0 x1 x2 x3 x4 x8 0 x6 m0) else ((isO m0 x0 0).bind fun u7 => (f_X1_partOf x0 x2 x8 m0).bind fun z8 => f_X1_odds_J82 (f_X1_odds_L49 x0 x1 x2 x3 x4 m0 N) x0 x1 x2 x3 x4 x8 z8 x6 m0))
set_option maxHeartbeats 4000000 in
theorem w_X1_odds_L49 {E : fk_E} {l : Launch} {G : fk_G} {b0 n : Nat} {r : Int64} {mF : fk_M} (X : fk_X E l G b0 "FigureKnee" "odds" cX1_odds 9 7 197 0 0) (Y : fk_Y E (some .long) (some (tL r)) n mF 0 0) (x0 : Option Nat) (x1 : Int32) (x2 : Int32) (x3 : Int32) (x4 : Int32) (m0 : fk_M) : ∀ (N : Nat) (x6 : Int64) (x8 : Int32), f_X1_odds_L49 x0 x1 x2 x3 x4 m0 N x6 x8 = some (r, mF) → fk_W E 9 n m0 0 0 49 [(0, tR x0), (1, tI x1), (2, tI x2), (3, tI x3), (4, tI x4), (6, tL x6), (8, tI x8)] [] := by
  intro N
  induction N with
  | zero =>
    intro x6 x8 hf
    have hf : (none : Option (Int64 × fk_M)) = some _ := hf
    cases hf
  | succ N ih =>
    intro x6 x8 hf
    rw [f_X1_odds_L49] at hf
    refine fk_iload X 6 dX1_odds_49 rfl ?_
    refine fk_iconst (v := 1) X dX1_odds_51 rfl ?_
    refine fk_iload_n X 2 dX1_odds_52 rfl ?_
    refine fk_ishl X dX1_odds_53 ?_
    refine fk_icmp_ge' X 91 dX1_odds_54 rfl hf (fun hf => ?_) (fun hf => ?_)
    · refine fk_aload_n X 0 dX1_odds_91 rfl ?_
      refine fk_lload X 5 dX1_odds_92 rfl ?_
      refine fk_iload_n X 2 dX1_odds_94 rfl ?_
      obtain ⟨z1, hv, hf⟩ := bI hf
      refine fk_callS0J (rest := [tL x6, tR x0]) X (c_X1_whole hv) n_X1_whole q1373 q1374 q122 q1375 dX1_odds_95 rfl rfl rfl rfl rfl (Nat.le_refl _) (Nat.le_refl _) ?_
      refine fk_iload X 4 dX1_odds_98 rfl ?_
      obtain ⟨u2, hq, hf⟩ := bI hf
      obtain ⟨z3, m4, hv, hf⟩ := bn2_eq hf
      refine fk_callV0J (ci := 0) (rest := []) X hq rfl (c_X1_fraction hv) n_X1_fraction q1331 q1333 qs53 q122 q1334 rfl dX1_odds_100 rfl rfl rfl rfl rfl (Nat.le_refl _) (Nat.le_refl _) ?_
      cases hf
      exact fk_lreturn X Y dX1_odds_103
    · refine fk_lload X 5 dX1_odds_57 rfl ?_
      refine fk_aload_n X 0 dX1_odds_59 rfl ?_
      refine fk_iload_n X 1 dX1_odds_60 rfl ?_
      refine fk_iload_n X 2 dX1_odds_61 rfl ?_
      refine fk_iload X 6 dX1_odds_62 rfl ?_
      obtain ⟨u5, hq, hf⟩ := bI hf
      obtain ⟨z6, hv, hf⟩ := bI hf
      refine fk_callV0I (ci := 0) (rest := [tL x6]) X hq rfl (c_X1_saysBy hv) n_X1_saysBy q1365 q1367 qs56 q122 q1368 rfl dX1_odds_64 rfl rfl rfl rfl rfl (Nat.le_refl _) (Nat.le_refl _) ?_
      refine fk_iload_n X 3 dX1_odds_67 rfl ?_
      refine fk_icmp_lt' X 81 dX1_odds_68 rfl hf (fun hf => ?_) (fun hf => ?_)
      · refine fk_lconst (v := 0) X dX1_odds_81 rfl ?_
        exact fk_cut' (w_X1_odds_J82 X Y x0 x1 x2 x3 x4 x8 0 x6 m0 ih hf) [0, 1, 2, 3, 4, 6] rfl
      · refine fk_aload_n X 0 dX1_odds_71 rfl ?_
        refine fk_iload_n X 2 dX1_odds_72 rfl ?_
        refine fk_iload X 6 dX1_odds_73 rfl ?_
        obtain ⟨u7, hq, hf⟩ := bI hf
        obtain ⟨z8, hv, hf⟩ := bI hf
        refine fk_callV0J (ci := 0) (rest := [tL x6]) X hq rfl (c_X1_partOf hv) n_X1_partOf q1369 q1371 qs57 q122 q1372 rfl dX1_odds_75 rfl rfl rfl rfl rfl (Nat.le_refl _) (Nat.le_refl _) ?_
        refine fk_goto X 82 dX1_odds_78 rfl ?_
        exact fk_cut' (w_X1_odds_J82 X Y x0 x1 x2 x3 x4 x8 z8 x6 m0 ih hf) [0, 1, 2, 3, 4, 6] rfl
def f_X1_odds_J30 (x0 : Option Nat) (x1 : Int32) (x2 : Int32) (x3 : Int32) (x4 : Int32) (x5 : Int32) (m0 : fk_M) : Option (Int64 × fk_M) :=
  if x5 ≤ 0 then (f_X1_odds_L49 x0 x1 x2 x3 x4 m0 fk_fuel 0 0) else ((isO m0 x0 0).bind fun u1 => bn2 (f_X1_refused x0 x5 m0) fun z2 m3 => some ((Int32.toInt64 z2), m3))
set_option maxHeartbeats 4000000 in
theorem w_X1_odds_J30 {E : fk_E} {l : Launch} {G : fk_G} {b0 n : Nat} {r : Int64} {mF : fk_M} (X : fk_X E l G b0 "FigureKnee" "odds" cX1_odds 9 7 197 0 0) (Y : fk_Y E (some .long) (some (tL r)) n mF 0 0) (x0 : Option Nat) (x1 : Int32) (x2 : Int32) (x3 : Int32) (x4 : Int32) (x5 : Int32)  (m0 : fk_M) (hf : f_X1_odds_J30 x0 x1 x2 x3 x4 x5 m0 = some (r, mF)) : fk_W E 9 n m0 0 0 30 [(0, tR x0), (1, tI x1), (2, tI x2), (3, tI x3), (4, tI x4), (5, tI x5)] [] := by
  unfold f_X1_odds_J30 at hf
  refine fk_iload X 5 dX1_odds_30 rfl ?_
  refine fk_if_le' X 43 dX1_odds_32 rfl hf (fun hf => ?_) (fun hf => ?_)
  · refine fk_lconst (v := 0) X dX1_odds_43 rfl ?_
    refine fk_lstore X [(6, tL 0), (0, tR x0), (1, tI x1), (2, tI x2), (3, tI x3), (4, tI x4), (5, tI x5)] dX1_odds_44 rfl rfl ?_
    refine fk_iconst (v := 0) X dX1_odds_46 rfl ?_
    refine fk_istore X [(8, tI 0), (6, tL 0), (0, tR x0), (1, tI x1), (2, tI x2), (3, tI x3), (4, tI x4), (5, tI x5)] dX1_odds_47 rfl rfl ?_
    exact fk_cut' (w_X1_odds_L49 X Y x0 x1 x2 x3 x4 m0 fk_fuel 0 0 hf) [2, 3, 4, 5, 6, 1, 0] rfl
  · refine fk_aload_n X 0 dX1_odds_35 rfl ?_
    refine fk_iload X 5 dX1_odds_36 rfl ?_
    obtain ⟨u1, hq, hf⟩ := bI hf
    obtain ⟨z2, m3, hv, hf⟩ := bn2_eq hf
    refine fk_callV0I (ci := 0) (rest := []) X hq rfl (c_X1_refused hv) n_X1_refused q264 q266 qs0 q122 q267 rfl dX1_odds_38 rfl rfl rfl rfl rfl (Nat.le_refl _) (Nat.le_refl _) ?_
    refine fk_i2l X dX1_odds_41 ?_
    cases hf
    exact fk_lreturn X Y dX1_odds_42
def f_X1_odds (a0 : Option Nat) (a1 : Int32) (a2 : Int32) (a3 : Int32) (a4 : Int32) (m0 : fk_M) : Option (Int64 × fk_M) :=
  (isO m0 a0 0).bind fun u1 => (f_X1_isPair a0 a1 m0).bind fun z2 => (isO m0 a0 0).bind fun u3 => (f_X1_why a0 z2 a2 0 5 m0).bind fun z4 => if z4 = 0 then ((isO m0 a0 0).bind fun u5 => (f_X1_why a0 1 a3 0 99 m0).bind fun z6 => f_X1_odds_J30 a0 a1 a2 a3 a4 z6 m0) else (f_X1_odds_J30 a0 a1 a2 a3 a4 z4 m0)
set_option maxHeartbeats 4000000 in
theorem c_X1_odds {l : Launch} {G : fk_G} {b0 : Nat} {n : Nat} {a0 : Option Nat} {a1 : Int32} {a2 : Int32} {a3 : Int32} {a4 : Int32} {m0 : fk_M} {r : Int64} {mF : fk_M} (hf : f_X1_odds a0 a1 a2 a3 a4 m0 = some (r, mF)) : fk_Ct l G b0 yX1_odds cX1_odds 9 (some .long) 7 197 [tR a0, tI a1, tI a2, tI a3, tI a4] n m0 (some (tL r)) n mF 0 0 := by
  refine fk_enter n_X1_odds.1 rfl ?_
  intro E X0 Y
  have X : fk_X E l G b0 "FigureKnee" "odds" cX1_odds 9 7 197 0 0 := X0
  show fk_W E 9 n m0 0 0 0 [(0, tR a0), (1, tI a1), (2, tI a2), (3, tI a3), (4, tI a4)] []
  unfold f_X1_odds at hf
  refine fk_aload_n X 0 dX1_odds_0 rfl ?_
  refine fk_aload_n X 0 dX1_odds_1 rfl ?_
  refine fk_iload_n X 1 dX1_odds_2 rfl ?_
  obtain ⟨u1, hq, hf⟩ := bI hf
  obtain ⟨z2, hv, hf⟩ := bI hf
  refine fk_callV0I (ci := 0) (rest := [tR a0]) X hq rfl (c_X1_isPair hv) n_X1_isPair q1017 q1019 qs26 q122 q1020 rfl dX1_odds_3 rfl rfl rfl rfl rfl (Nat.le_refl _) (Nat.le_refl _) ?_
  refine fk_iload_n X 2 dX1_odds_6 rfl ?_
  refine fk_iconst (v := 0) X dX1_odds_7 rfl ?_
  refine fk_iconst (v := 5) X dX1_odds_8 rfl ?_
  obtain ⟨u3, hq, hf⟩ := bI hf
  obtain ⟨z4, hv, hf⟩ := bI hf
  refine fk_callV0I (ci := 0) (rest := []) X hq rfl (c_X1_why hv) n_X1_why q1039 q1041 qs30 q122 q1042 rfl dX1_odds_9 rfl rfl rfl rfl rfl (Nat.le_refl _) (Nat.le_refl _) ?_
  refine fk_istore X [(5, tI z4), (0, tR a0), (1, tI a1), (2, tI a2), (3, tI a3), (4, tI a4)] dX1_odds_12 rfl rfl ?_
  refine fk_iload X 0 dX1_odds_14 rfl ?_
  refine fk_if_ne' X 30 dX1_odds_16 rfl hf (fun hf => ?_) (fun hf => ?_)
  · exact fk_cut' (w_X1_odds_J30 X Y a0 a1 a2 a3 a4 z4 m0 hf) [1, 2, 3, 4, 5, 0] rfl
  · refine fk_aload_n X 1 dX1_odds_19 rfl ?_
    refine fk_iconst (v := 1) X dX1_odds_20 rfl ?_
    refine fk_iload_n X 4 dX1_odds_21 rfl ?_
    refine fk_iconst (v := 0) X dX1_odds_22 rfl ?_
    refine fk_bipush (v := 99) X dX1_odds_23 rfl ?_
    obtain ⟨u5, hq, hf⟩ := bI hf
    obtain ⟨z6, hv, hf⟩ := bI hf
    refine fk_callV0I (ci := 0) (rest := []) X hq rfl (c_X1_why hv) n_X1_why q1039 q1041 qs30 q122 q1042 rfl dX1_odds_25 rfl rfl rfl rfl rfl (Nat.le_refl _) (Nat.le_refl _) ?_
    refine fk_istore X [(5, tI z6), (0, tR a0), (1, tI a1), (2, tI a2), (3, tI a3), (4, tI a4)] dX1_odds_28 rfl rfl ?_
    exact fk_cut' (w_X1_odds_J30 X Y a0 a1 a2 a3 a4 z6 m0 hf) [1, 2, 3, 4, 5, 0] rfl
