set_option maxRecDepth 100000
/-! FigureKnee in (III)Z -/
theorem n_X1_in : fk_N yX1_in 3 := ⟨by decide +kernel, by decide +kernel, by decide +kernel, by decide +kernel⟩
def f_X1_in (a0 : Int32) (a1 : Int32) (a2 : Int32) (m : fk_M) : Option Int32 :=
  some (if a0 < a1 then (0 : Int32) else (if a2 < a0 then (0 : Int32) else 1))
set_option maxHeartbeats 4000000 in
theorem c_X1_in {l : Launch} {G : fk_G} {b0 : Nat} {n : Nat} {a0 : Int32} {a1 : Int32} {a2 : Int32} {m : fk_M} {r : Int32} (hf : f_X1_in a0 a1 a2 m = some r) : fk_Ct l G b0 yX1_in cX1_in 3 (some .boolean) 1 60 [tI a0, tI a1, tI a2] n m (some (tI r)) n m 0 0 := by
  refine fk_enter n_X1_in.1 rfl ?_
  intro E X0 Y
  have X : fk_X E l G b0 "FigureKnee" "in" cX1_in 3 1 60 0 0 := X0
  show fk_W E 3 n m 0 0 0 [(0, tI a0), (1, tI a1), (2, tI a2)] []
  unfold f_X1_in at hf
  refine fk_iload_n X 0 dX1_in_0 rfl ?_
  refine fk_iload_n X 1 dX1_in_1 rfl ?_
  have J1 : fk_W E 3 n m 0 0 15 [] [tI (if a0 < a1 then (0 : Int32) else (if a2 < a0 then (0 : Int32) else 1))] := by
    cases hf
    exact fk_ireturn X Y dX1_in_15 (by (repeat' split) <;> decide +kernel)
  refine fk_icmp_lt X 14 dX1_in_2 rfl (fun hc2 => ?_) (fun hc2 => ?_)
  · refine fk_iconst (v := 0) X dX1_in_14 rfl ?_
    simp only [if_pos hc2] at J1
    exact fk_cut' J1 [] rfl
  · refine fk_iload_n X 0 dX1_in_5 rfl ?_
    refine fk_iload_n X 2 dX1_in_6 rfl ?_
    have J3 : fk_W E 3 n m 0 0 15 [] [tI (if a2 < a0 then (0 : Int32) else 1)] := by
      simp only [if_neg hc2] at J1
      exact fk_cut' J1 [] rfl
    refine fk_icmp_gt X 14 dX1_in_7 rfl (fun hc4 => ?_) (fun hc4 => ?_)
    · refine fk_iconst (v := 0) X dX1_in_14 rfl ?_
      simp only [if_pos hc4] at J3
      exact fk_cut' J3 [] rfl
    · refine fk_iconst (v := 1) X dX1_in_10 rfl ?_
      refine fk_goto X 15 dX1_in_11 rfl ?_
      simp only [if_neg hc4] at J3
      exact fk_cut' J3 [] rfl
/-! FigureKnee$Tokens <init> ([BI)V -/
theorem n_X4_init : fk_N yX4_init 2 := ⟨by decide +kernel, by decide +kernel, by decide +kernel, by decide +kernel⟩
def f_X4_init (a0 : Option Nat) (a1 : Option Nat) (a2 : Int32) (m0 : fk_M) : Option fk_M :=
  (isS a0).bind fun _ => (pV m0 a0 3 0 (tR a1)).bind fun m1 => (pV m1 a0 3 1 (tI a2)).bind fun m2 => some m2
set_option maxHeartbeats 4000000 in
theorem c_X4_init {l : Launch} {G : fk_G} {b0 : Nat} {n : Nat} {a0 : Option Nat} {a1 : Option Nat} {a2 : Int32} {m0 : fk_M} {mF : fk_M} (hf : f_X4_init a0 a1 a2 m0 = some mF) : fk_Ct l G b0 yX4_init cX4_init 3 none 1 60 [tR a0, tR a1, tI a2] n m0 none n mF 0 0 := by
  refine fk_enter n_X4_init.1 rfl ?_
  intro E X0 Y
  have X : fk_X E l G b0 "FigureKnee$Tokens" "<init>" cX4_init 3 1 60 0 0 := X0
  show fk_W E 3 n m0 0 0 0 [(0, tR a0), (1, tR a1), (2, tI a2)] []
  unfold f_X4_init at hf
  refine fk_aload_n X 0 dX4_init_0 rfl ?_
  refine fk_objInit' X q275 q161 q162 dX4_init_1 rfl rfl hf (fun hf => ?_)
  refine fk_aload_n X 0 dX4_init_4 rfl ?_
  refine fk_aload_n X 1 dX4_init_5 rfl ?_
  refine fk_putFR' X fd_3_0 q276 dX4_init_6 (fit_A _) hf (fun m1 hf => ?_)
  refine fk_aload_n X 0 dX4_init_9 rfl ?_
  refine fk_iload_n X 2 dX4_init_10 rfl ?_
  refine fk_putFI' X fd_3_1 q277 dX4_init_11 (fit_I _) hf (fun m2 hf => ?_)
  cases hf
  exact fk_return X Y dX4_init_14
/-! FigureKnee$Pier <init> ()V -/
theorem n_X5_init : fk_N yX5_init 0 := ⟨by decide +kernel, by decide +kernel, by decide +kernel, by decide +kernel⟩
def f_X5_init (g : Nat → Nat) (a0 : Option Nat) (n1 k1 : Nat) (m0 : fk_M) : Option (Nat × Nat × fk_M) :=
  (isS a0).bind fun _ => (pV m0 a0 4 0 (tI (-1))).bind fun m1 => (isS (some n1)).bind fun u3 => (f_J2_init g (some n1) (fk_up m1 n1 (oB 14 (fk_V0 tyJ2)))).bind fun m4 => (pV m4 a0 4 4 (tR (some n1))).bind fun m5 => (isS (some (n1 + 1))).bind fun u7 => (f_J2_init g (some (n1 + 1)) (fk_up m5 (n1 + 1) (oB 14 (fk_V0 tyJ2)))).bind fun m8 => (pV m8 a0 4 5 (tR (some (n1 + 1)))).bind fun m9 => (isS (some ((n1 + 1) + 1))).bind fun u11 => (f_J2_init g (some ((n1 + 1) + 1)) (fk_up m9 ((n1 + 1) + 1) (oB 14 (fk_V0 tyJ2)))).bind fun m12 => (pV m12 a0 4 6 (tR (some ((n1 + 1) + 1)))).bind fun m13 => (nA (((n1 + 1) + 1) + 1) m13 0 4).bind fun m14 => (pV m14 a0 4 7 (tR (some (((n1 + 1) + 1) + 1)))).bind fun m15 => some (((((n1 + 1) + 1) + 1) + 1), ((((k1 + 3) + 3) + 3) + (Int32.toNatClampNeg 4)), m15)
theorem mo_X5_init (g : Nat → Nat) (a0 : Option Nat) (n1 k1 : Nat) (m0 : fk_M) : Mo3 n1 k1 (f_X5_init g a0 n1 k1 m0) := by
  unfold f_X5_init
  exact Mo3.bind (fun _ => Mo3.bind (fun m1 => Mo3.le (n1 := (n1 + 1)) (k1 := (k1 + 3)) (Mo3.bind (fun u3 => Mo3.bind (fun m4 => Mo3.bind (fun m5 => Mo3.le (n1 := ((n1 + 1) + 1)) (k1 := ((k1 + 3) + 3)) (Mo3.bind (fun u7 => Mo3.bind (fun m8 => Mo3.bind (fun m9 => Mo3.le (n1 := (((n1 + 1) + 1) + 1)) (k1 := (((k1 + 3) + 3) + 3)) (Mo3.bind (fun u11 => Mo3.bind (fun m12 => Mo3.bind (fun m13 => Mo3.bind (fun m14 => Mo3.le (n1 := ((((n1 + 1) + 1) + 1) + 1)) (k1 := ((((k1 + 3) + 3) + 3) + (Int32.toNatClampNeg 4))) (Mo3.bind (fun m15 => Mo3.ok (by omega) (by omega))) (by omega) (by omega)))))) (by omega) (by omega))))) (by omega) (by omega))))) (by omega) (by omega)))
set_option maxHeartbeats 4000000 in
theorem c_X5_init {l : Launch} {G : fk_G} {b0 : Nat} {n1 k1 nF kF : Nat} {a0 : Option Nat} {m0 : fk_M} {mF : fk_M} (hf : f_X5_init G.2.2 a0 n1 k1 m0 = some (nF, kF, mF)) : fk_Ct l G b0 yX5_init cX5_init 1 none 4 120 [tR a0] n1 m0 none nF mF (nF - n1) (kF - k1) := by
  refine fk_enter n_X5_init.1 rfl ?_
  intro E X0 Y
  have X : fk_X E l G b0 "FigureKnee$Pier" "<init>" cX5_init 1 4 120 (nF - n1) (kF - k1) := X0
  show fk_W E 1 n1 m0 0 0 0 [(0, tR a0)] []
  refine fk_widen (cs2 := n1 - n1) (sl2 := k1 - k1) (Nat.zero_le _) (Nat.zero_le _) ?_
  unfold f_X5_init at hf
  have h01 : n1 ≤ n1 := Nat.le_refl _
  have h02 : k1 ≤ k1 := Nat.le_refl _
  refine fk_aload_n X 0 dX5_init_0 rfl ?_
  refine fk_objInit' X q295 q161 q162 dX5_init_1 rfl rfl hf (fun hf => ?_)
  refine fk_aload_n X 0 dX5_init_4 rfl ?_
  refine fk_iconst (v := (-1)) X dX5_init_5 rfl ?_
  refine fk_putI' X fd_4_0 q298 dX5_init_6 (fit_I _) hf (fun m1 hf => ?_)
  refine fk_aload_n X 0 dX5_init_9 rfl ?_
  have hm : (n1 + 1) ≤ nF ∧ (k1 + 3) ≤ kF := Mo3.use hf (Mo3.bind (fun u3 => Mo3.bind (fun m4 => Mo3.bind (fun m5 => Mo3.le (n1 := ((n1 + 1) + 1)) (k1 := ((k1 + 3) + 3)) (Mo3.bind (fun u7 => Mo3.bind (fun m8 => Mo3.bind (fun m9 => Mo3.le (n1 := (((n1 + 1) + 1) + 1)) (k1 := (((k1 + 3) + 3) + 3)) (Mo3.bind (fun u11 => Mo3.bind (fun m12 => Mo3.bind (fun m13 => Mo3.bind (fun m14 => Mo3.le (n1 := ((((n1 + 1) + 1) + 1) + 1)) (k1 := ((((k1 + 3) + 3) + 3) + (Int32.toNatClampNeg 4))) (Mo3.bind (fun m15 => Mo3.ok (by omega) (by omega))) (by omega) (by omega)))))) (by omega) (by omega))))) (by omega) (by omega)))))
  refine fk_new (cs2 := (n1 + 1) - n1) (sl2 := (k1 + 3) - k1) X cl_14 q296 dX5_init_10 (by omega) (by omega) (by omega) (by omega) ?_
  refine fk_dup X dX5_init_13 rfl ?_
  obtain ⟨u3, hq, hf⟩ := bI hf
  obtain ⟨m4, hv, hf⟩ := bI hf
  have hm : (n1 + 1) ≤ nF ∧ (k1 + 3) ≤ kF := Mo3.use hf (Mo3.bind (fun m5 => Mo3.le (n1 := ((n1 + 1) + 1)) (k1 := ((k1 + 3) + 3)) (Mo3.bind (fun u7 => Mo3.bind (fun m8 => Mo3.bind (fun m9 => Mo3.le (n1 := (((n1 + 1) + 1) + 1)) (k1 := (((k1 + 3) + 3) + 3)) (Mo3.bind (fun u11 => Mo3.bind (fun m12 => Mo3.bind (fun m13 => Mo3.bind (fun m14 => Mo3.le (n1 := ((((n1 + 1) + 1) + 1) + 1)) (k1 := ((((k1 + 3) + 3) + 3) + (Int32.toNatClampNeg 4))) (Mo3.bind (fun m15 => Mo3.ok (by omega) (by omega))) (by omega) (by omega)))))) (by omega) (by omega))))) (by omega) (by omega)))
  refine fk_callI0V (rest := [tR (some n1), tR a0]) X hq (c_J2_init hv) n_J2_init rfl q297 q166 q125 q167 dX5_init_14 rfl rfl rfl rfl rfl (by omega) (by omega) ?_
  refine fk_putFR' X fd_4_4 q307 dX5_init_17 (fit_R _) hf (fun m5 hf => ?_)
  refine fk_aload_n X 0 dX5_init_20 rfl ?_
  have hm : ((n1 + 1) + 1) ≤ nF ∧ ((k1 + 3) + 3) ≤ kF := Mo3.use hf (Mo3.bind (fun u7 => Mo3.bind (fun m8 => Mo3.bind (fun m9 => Mo3.le (n1 := (((n1 + 1) + 1) + 1)) (k1 := (((k1 + 3) + 3) + 3)) (Mo3.bind (fun u11 => Mo3.bind (fun m12 => Mo3.bind (fun m13 => Mo3.bind (fun m14 => Mo3.le (n1 := ((((n1 + 1) + 1) + 1) + 1)) (k1 := ((((k1 + 3) + 3) + 3) + (Int32.toNatClampNeg 4))) (Mo3.bind (fun m15 => Mo3.ok (by omega) (by omega))) (by omega) (by omega)))))) (by omega) (by omega)))))
  refine fk_new (cs2 := ((n1 + 1) + 1) - n1) (sl2 := ((k1 + 3) + 3) - k1) X cl_14 q296 dX5_init_21 (by omega) (by omega) (by omega) (by omega) ?_
  refine fk_dup X dX5_init_24 rfl ?_
  obtain ⟨u7, hq, hf⟩ := bI hf
  obtain ⟨m8, hv, hf⟩ := bI hf
  have hm : ((n1 + 1) + 1) ≤ nF ∧ ((k1 + 3) + 3) ≤ kF := Mo3.use hf (Mo3.bind (fun m9 => Mo3.le (n1 := (((n1 + 1) + 1) + 1)) (k1 := (((k1 + 3) + 3) + 3)) (Mo3.bind (fun u11 => Mo3.bind (fun m12 => Mo3.bind (fun m13 => Mo3.bind (fun m14 => Mo3.le (n1 := ((((n1 + 1) + 1) + 1) + 1)) (k1 := ((((k1 + 3) + 3) + 3) + (Int32.toNatClampNeg 4))) (Mo3.bind (fun m15 => Mo3.ok (by omega) (by omega))) (by omega) (by omega)))))) (by omega) (by omega)))
  refine fk_callI0V (rest := [tR (some (n1 + 1)), tR a0]) X hq (c_J2_init hv) n_J2_init rfl q297 q166 q125 q167 dX5_init_25 rfl rfl rfl rfl rfl (by omega) (by omega) ?_
  refine fk_putFR' X fd_4_5 q311 dX5_init_28 (fit_R _) hf (fun m9 hf => ?_)
  refine fk_aload_n X 0 dX5_init_31 rfl ?_
  have hm : (((n1 + 1) + 1) + 1) ≤ nF ∧ (((k1 + 3) + 3) + 3) ≤ kF := Mo3.use hf (Mo3.bind (fun u11 => Mo3.bind (fun m12 => Mo3.bind (fun m13 => Mo3.bind (fun m14 => Mo3.le (n1 := ((((n1 + 1) + 1) + 1) + 1)) (k1 := ((((k1 + 3) + 3) + 3) + (Int32.toNatClampNeg 4))) (Mo3.bind (fun m15 => Mo3.ok (by omega) (by omega))) (by omega) (by omega))))))
  refine fk_new (cs2 := (((n1 + 1) + 1) + 1) - n1) (sl2 := (((k1 + 3) + 3) + 3) - k1) X cl_14 q296 dX5_init_32 (by omega) (by omega) (by omega) (by omega) ?_
  refine fk_dup X dX5_init_35 rfl ?_
  obtain ⟨u11, hq, hf⟩ := bI hf
  obtain ⟨m12, hv, hf⟩ := bI hf
  have hm : (((n1 + 1) + 1) + 1) ≤ nF ∧ (((k1 + 3) + 3) + 3) ≤ kF := Mo3.use hf (Mo3.bind (fun m13 => Mo3.bind (fun m14 => Mo3.le (n1 := ((((n1 + 1) + 1) + 1) + 1)) (k1 := ((((k1 + 3) + 3) + 3) + (Int32.toNatClampNeg 4))) (Mo3.bind (fun m15 => Mo3.ok (by omega) (by omega))) (by omega) (by omega))))
  refine fk_callI0V (rest := [tR (some ((n1 + 1) + 1)), tR a0]) X hq (c_J2_init hv) n_J2_init rfl q297 q166 q125 q167 dX5_init_36 rfl rfl rfl rfl rfl (by omega) (by omega) ?_
  refine fk_putFR' X fd_4_6 q315 dX5_init_39 (fit_R _) hf (fun m13 hf => ?_)
  refine fk_aload_n X 0 dX5_init_42 rfl ?_
  refine fk_iconst (v := 4) X dX5_init_43 rfl ?_
  obtain ⟨m14, hv, hf⟩ := bI hf
  have hm : ((((n1 + 1) + 1) + 1) + 1) ≤ nF ∧ ((((k1 + 3) + 3) + 3) + (Int32.toNatClampNeg 4)) ≤ kF := Mo3.use hf (Mo3.bind (fun m15 => Mo3.ok (by omega) (by omega)))
  refine fk_newI 0 (by decide) (cs2 := ((((n1 + 1) + 1) + 1) + 1) - n1) (sl2 := ((((k1 + 3) + 3) + 3) + (Int32.toNatClampNeg 4)) - k1) X q252 dX5_init_44 hv (by omega) (by omega) (by omega) (by omega) ?_
  refine fk_putFR' X fd_4_7 q318 dX5_init_46 (fit_A _) hf (fun m15 hf => ?_)
  cases hf
  exact fk_return X Y dX5_init_49
/-! FigureKnee$Tokens look ()I -/
theorem n_X4_look : fk_N yX4_look 0 := ⟨by decide +kernel, by decide +kernel, by decide +kernel, by decide +kernel⟩
def f_X4_look (a0 : Option Nat) (m : fk_M) : Option Int32 :=
  (gI m a0 3 2).bind fun z1 => (gI m a0 3 1).bind fun z2 => if z2 ≤ z1 then (some (-1)) else ((gR m a0 3 0).bind fun z3 => (gI m a0 3 2).bind fun z4 => (aI m z3 1 z4).bind fun z5 => some (z5 &&& 255))
set_option maxHeartbeats 4000000 in
theorem c_X4_look {l : Launch} {G : fk_G} {b0 : Nat} {n : Nat} {a0 : Option Nat} {m : fk_M} {r : Int32} (hf : f_X4_look a0 m = some r) : fk_Ct l G b0 yX4_look cX4_look 1 (some .int) 1 60 [tR a0] n m (some (tI r)) n m 0 0 := by
  refine fk_enter n_X4_look.1 rfl ?_
  intro E X0 Y
  have X : fk_X E l G b0 "FigureKnee$Tokens" "look" cX4_look 1 1 60 0 0 := X0
  show fk_W E 1 n m 0 0 0 [(0, tR a0)] []
  unfold f_X4_look at hf
  refine fk_aload_n X 0 dX4_look_0 rfl ?_
  refine fk_getI' X fd_3_2 q278 dX4_look_1 hf (fun z1 hf => ?_)
  refine fk_aload_n X 0 dX4_look_4 rfl ?_
  refine fk_getI' X fd_3_1 q277 dX4_look_5 hf (fun z2 hf => ?_)
  refine fk_icmp_ge' X 27 dX4_look_8 rfl hf (fun hf => ?_) (fun hf => ?_)
  · refine fk_iconst (v := (-1)) X dX4_look_27 rfl ?_
    cases hf
    exact fk_ireturn X Y dX4_look_28 rfl
  · refine fk_aload_n X 0 dX4_look_11 rfl ?_
    refine fk_getR' X fd_3_0 q276 dX4_look_12 hf (fun z3 hf => ?_)
    refine fk_aload_n X 0 dX4_look_15 rfl ?_
    refine fk_getI' X fd_3_2 q278 dX4_look_16 hf (fun z4 hf => ?_)
    refine fk_baload' X dX4_look_19 hf (fun z5 hf => ?_)
    refine fk_sipush (v := 255) X dX4_look_20 rfl ?_
    refine fk_iand X dX4_look_23 ?_
    refine fk_goto X 28 dX4_look_24 rfl ?_
    cases hf
    exact fk_ireturn X Y dX4_look_28 rfl
/-! FigureKnee$Token <init> (IIILjava/lang/String;)V -/
theorem n_X6_init : fk_N yX6_init 4 := ⟨by decide +kernel, by decide +kernel, by decide +kernel, by decide +kernel⟩
def f_X6_init (a0 : Option Nat) (a1 : Int32) (a2 : Int32) (a3 : Int32) (a4 : Option Nat) (m0 : fk_M) : Option fk_M :=
  (isS a0).bind fun _ => (pV m0 a0 5 0 (tI a1)).bind fun m1 => (pV m1 a0 5 1 (tI a2)).bind fun m2 => (pV m2 a0 5 2 (tI a3)).bind fun m3 => (pV m3 a0 5 3 (tR a4)).bind fun m4 => some m4
set_option maxHeartbeats 4000000 in
theorem c_X6_init {l : Launch} {G : fk_G} {b0 : Nat} {n : Nat} {a0 : Option Nat} {a1 : Int32} {a2 : Int32} {a3 : Int32} {a4 : Option Nat} {m0 : fk_M} {mF : fk_M} (hf : f_X6_init a0 a1 a2 a3 a4 m0 = some mF) : fk_Ct l G b0 yX6_init cX6_init 5 none 1 60 [tR a0, tI a1, tI a2, tI a3, tR a4] n m0 none n mF 0 0 := by
  refine fk_enter n_X6_init.1 rfl ?_
  intro E X0 Y
  have X : fk_X E l G b0 "FigureKnee$Token" "<init>" cX6_init 5 1 60 0 0 := X0
  show fk_W E 5 n m0 0 0 0 [(0, tR a0), (1, tI a1), (2, tI a2), (3, tI a3), (4, tR a4)] []
  unfold f_X6_init at hf
  refine fk_aload_n X 0 dX6_init_0 rfl ?_
  refine fk_objInit' X q352 q161 q162 dX6_init_1 rfl rfl hf (fun hf => ?_)
  refine fk_aload_n X 0 dX6_init_4 rfl ?_
  refine fk_iload_n X 1 dX6_init_5 rfl ?_
  refine fk_putFI' X fd_5_0 q353 dX6_init_6 (fit_I _) hf (fun m1 hf => ?_)
  refine fk_aload_n X 0 dX6_init_9 rfl ?_
  refine fk_iload_n X 2 dX6_init_10 rfl ?_
  refine fk_putFI' X fd_5_1 q355 dX6_init_11 (fit_I _) hf (fun m2 hf => ?_)
  refine fk_aload_n X 0 dX6_init_14 rfl ?_
  refine fk_iload_n X 3 dX6_init_15 rfl ?_
  refine fk_putFI' X fd_5_2 q357 dX6_init_16 (fit_I _) hf (fun m3 hf => ?_)
  refine fk_aload_n X 0 dX6_init_19 rfl ?_
  refine fk_aload X 4 dX6_init_20 rfl ?_
  refine fk_putFR' X fd_5_3 q359 dX6_init_22 (fit_R _) hf (fun m4 hf => ?_)
  cases hf
  exact fk_return X Y dX6_init_25
/-! FigureKnee$Tokens next ()LFigureKnee$Token; -/
theorem n_X4_next : fk_N yX4_next 0 := ⟨by decide +kernel, by decide +kernel, by decide +kernel, by decide +kernel⟩
def f_X4_next_J204 (g : Nat → Nat) (R167 : Int32 → fk_M → Option ((Option Nat) × Nat × Nat × fk_M)) (x0 : Option Nat) (x1 : Int32) (x2 : Int32) (n1 k1 : Nat) (m0 : fk_M) : Option ((Option Nat) × Nat × Nat × fk_M) :=
  (gI m0 x0 3 2).bind fun z1 => (pV m0 x0 3 2 (tI (z1 + 1))).bind fun m2 => R167 x2 m2
theorem mo_X4_next_J204 (g : Nat → Nat) (R167 : Int32 → fk_M → Option ((Option Nat) × Nat × Nat × fk_M)) (x0 : Option Nat) (x1 : Int32) (x2 : Int32) (n1 k1 : Nat) (m0 : fk_M) (hM167 : ∀ (v2 : Int32) (m9 : fk_M), Mo4 n1 k1 (R167 v2 m9)) : Mo4 n1 k1 (f_X4_next_J204 g R167 x0 x1 x2 n1 k1 m0) := by
  unfold f_X4_next_J204
  exact Mo4.bind (fun z1 => Mo4.bind (fun m2 => (hM167 x2 m2)))
set_option maxHeartbeats 4000000 in
theorem w_X4_next_J204 {E : fk_E} {l : Launch} {G : fk_G} {b0 n0 k0 nF kF : Nat} {r : Option Nat} {mF : fk_M} (X : fk_X E l G b0 "FigureKnee$Tokens" "next" cX4_next 3 7 192 (nF - n0) (kF - k0)) (Y : fk_Y E (some (.object "FigureKnee$Token")) (some (tR r)) nF mF (nF - n0) (kF - k0)) (x0 : Option Nat) (x1 : Int32) (x2 : Int32)  (n1 k1 : Nat) (hn1 : n0 ≤ n1) (hk1 : k0 ≤ k1) (m0 : fk_M) {R167 : Int32 → fk_M → Option ((Option Nat) × Nat × Nat × fk_M)} (hR167 : ∀ (v2 : Int32) (m9 : fk_M), R167 v2 m9 = some (r, nF, kF, mF) → fk_W E 3 n1 m9 (n1 - n0) (k1 - k0) 167 [(0, tR x0), (1, tI x1), (2, tI v2)] []) (hM167 : ∀ (v2 : Int32) (m9 : fk_M), Mo4 n1 k1 (R167 v2 m9)) (hf : f_X4_next_J204 G.2.2 R167 x0 x1 x2 n1 k1 m0 = some (r, nF, kF, mF)) : fk_W E 3 n1 m0 (n1 - n0) (k1 - k0) 204 [(0, tR x0), (1, tI x1), (2, tI x2)] [] := by
  unfold f_X4_next_J204 at hf
  refine fk_aload_n X 0 dX4_next_204 rfl ?_
  refine fk_dup X dX4_next_205 rfl ?_
  refine fk_getI' X fd_3_2 q278 dX4_next_206 hf (fun z1 hf => ?_)
  refine fk_iconst (v := 1) X dX4_next_209 rfl ?_
  refine fk_iadd X dX4_next_210 ?_
  refine fk_putI' X fd_3_2 q278 dX4_next_211 (fit_I _) hf (fun m2 hf => ?_)
  refine fk_goto X 167 dX4_next_214 rfl ?_
  exact fk_cut' (hR167 x2 m2  hf) [0, 1, 2] rfl
def f_X4_next_L167 (g : Nat → Nat) (x0 : Option Nat) (x1 : Int32) (n1 k1 : Nat) : Nat → Int32 → fk_M → Option ((Option Nat) × Nat × Nat × fk_M)
  | 0, _, _ => none
  | N + 1, x2, m0 =>
  (isO m0 x0 3).bind fun u1 => (f_X4_look x0 m0).bind fun z2 => (f_X1_in z2 48 57 m0).bind fun z3 => if z3 = 0 then ((gI (fk_up m0 n1 (oB 5 (fk_V0 tyX6))) x0 3 2).bind fun z5 => (isS (some n1)).bind fun u6 => (f_X6_init (some n1) (if (z5 - x1) ≤ 3 then (3 : Int32) else 0) x1 x2 (some (g 0)) (fk_up m0 n1 (oB 5 (fk_V0 tyX6)))).bind fun m7 => some ((some n1), (n1 + 1), (k1 + 4), m7)) else ((gI m0 x0 3 2).bind fun z8 => if 3 ≤ (z8 - x1) then (f_X4_next_J204 g (f_X4_next_L167 g x0 x1 n1 k1 N) x0 x1 x2 n1 k1 m0) else ((isO m0 x0 3).bind fun u9 => (f_X4_look x0 m0).bind fun z10 => f_X4_next_J204 g (f_X4_next_L167 g x0 x1 n1 k1 N) x0 x1 (((10 * x2) + z10) - 48) n1 k1 m0))
theorem mo_X4_next_L167 (g : Nat → Nat) (x0 : Option Nat) (x1 : Int32) (n1 k1 : Nat) : ∀ (N : Nat) (x2 : Int32) (m0 : fk_M), Mo4 n1 k1 (f_X4_next_L167 g x0 x1 n1 k1 N x2 m0) := by
  intro N
  induction N with
  | zero => intro x2 m0; exact Mo4.no
  | succ N ih =>
    intro x2 m0
    rw [f_X4_next_L167]
    exact Mo4.bind (fun u1 => Mo4.bind (fun z2 => Mo4.bind (fun z3 => Mo4.ite (Mo4.le (n1 := (n1 + 1)) (k1 := (k1 + 4)) (Mo4.bind (fun z5 => Mo4.bind (fun u6 => Mo4.bind (fun m7 => Mo4.ok (by omega) (by omega))))) (by omega) (by omega)) (Mo4.bind (fun z8 => Mo4.ite ((mo_X4_next_J204 g (f_X4_next_L167 g x0 x1 n1 k1 N) x0 x1 x2 n1 k1 m0 ih)) (Mo4.bind (fun u9 => Mo4.bind (fun z10 => (mo_X4_next_J204 g (f_X4_next_L167 g x0 x1 n1 k1 N) x0 x1 (((10 * x2) + z10) - 48) n1 k1 m0 ih)))))))))
set_option maxHeartbeats 4000000 in
theorem w_X4_next_L167 {E : fk_E} {l : Launch} {G : fk_G} {b0 n0 k0 nF kF : Nat} {r : Option Nat} {mF : fk_M} (X : fk_X E l G b0 "FigureKnee$Tokens" "next" cX4_next 3 7 192 (nF - n0) (kF - k0)) (Y : fk_Y E (some (.object "FigureKnee$Token")) (some (tR r)) nF mF (nF - n0) (kF - k0)) (x0 : Option Nat) (x1 : Int32) (n1 k1 : Nat) (hn1 : n0 ≤ n1) (hk1 : k0 ≤ k1) : ∀ (N : Nat) (x2 : Int32) (m0 : fk_M), f_X4_next_L167 G.2.2 x0 x1 n1 k1 N x2 m0 = some (r, nF, kF, mF) → fk_W E 3 n1 m0 (n1 - n0) (k1 - k0) 167 [(0, tR x0), (1, tI x1), (2, tI x2)] [] := by
  intro N
  induction N with
  | zero =>
    intro x2 m0 hf
    have hf : (none : Option ((Option Nat) × Nat × Nat × fk_M)) = some _ := hf
    cases hf
  | succ N ih =>
    intro x2 m0 hf
    rw [f_X4_next_L167] at hf
    refine fk_aload_n X 0 dX4_next_167 rfl ?_
    obtain ⟨u1, hq, hf⟩ := bI hf
    obtain ⟨z2, hv, hf⟩ := bI hf
    have hm : n1 ≤ nF ∧ k1 ≤ kF := Mo4.use hf (Mo4.bind (fun z3 => Mo4.ite (Mo4.le (n1 := (n1 + 1)) (k1 := (k1 + 4)) (Mo4.bind (fun z5 => Mo4.bind (fun u6 => Mo4.bind (fun m7 => Mo4.ok (by omega) (by omega))))) (by omega) (by omega)) (Mo4.bind (fun z8 => Mo4.ite ((mo_X4_next_J204 G.2.2 (f_X4_next_L167 G.2.2 x0 x1 n1 k1 N) x0 x1 x2 n1 k1 m0 (mo_X4_next_L167 G.2.2 x0 x1 n1 k1 N))) (Mo4.bind (fun u9 => Mo4.bind (fun z10 => (mo_X4_next_J204 G.2.2 (f_X4_next_L167 G.2.2 x0 x1 n1 k1 N) x0 x1 (((10 * x2) + z10) - 48) n1 k1 m0 (mo_X4_next_L167 G.2.2 x0 x1 n1 k1 N)))))))))
    refine fk_callV0I (ci := 3) (rest := []) X hq rfl (c_X4_look hv) n_X4_look q342 q344 qs1 q128 q345 rfl dX4_next_168 rfl rfl rfl rfl rfl (by omega) (by omega) ?_
    refine fk_bipush (v := 48) X dX4_next_171 rfl ?_
    refine fk_bipush (v := 57) X dX4_next_173 rfl ?_
    obtain ⟨z3, hv, hf⟩ := bI hf
    have hm : n1 ≤ nF ∧ k1 ≤ kF := Mo4.use hf (Mo4.ite (Mo4.le (n1 := (n1 + 1)) (k1 := (k1 + 4)) (Mo4.bind (fun z5 => Mo4.bind (fun u6 => Mo4.bind (fun m7 => Mo4.ok (by omega) (by omega))))) (by omega) (by omega)) (Mo4.bind (fun z8 => Mo4.ite ((mo_X4_next_J204 G.2.2 (f_X4_next_L167 G.2.2 x0 x1 n1 k1 N) x0 x1 x2 n1 k1 m0 (mo_X4_next_L167 G.2.2 x0 x1 n1 k1 N))) (Mo4.bind (fun u9 => Mo4.bind (fun z10 => (mo_X4_next_J204 G.2.2 (f_X4_next_L167 G.2.2 x0 x1 n1 k1 N) x0 x1 (((10 * x2) + z10) - 48) n1 k1 m0 (mo_X4_next_L167 G.2.2 x0 x1 n1 k1 N))))))))
    refine fk_callSN0I (rest := []) (host := "FigureKnee") X (c_X1_in hv) n_X1_in (List.mem_of_getElem? (i := 1) rfl) q262 q122 q263 dX4_next_175 rfl rfl rfl rfl rfl (by omega) (by omega) ?_
    refine fk_if_eq' X 217 dX4_next_178 rfl hf (fun hf => ?_) (fun hf => ?_)
    · have hm : (n1 + 1) ≤ nF ∧ (k1 + 4) ≤ kF := Mo4.use hf (Mo4.bind (fun z5 => Mo4.bind (fun u6 => Mo4.bind (fun m7 => Mo4.ok (by omega) (by omega)))))
      refine fk_new (cs2 := (n1 + 1) - n0) (sl2 := (k1 + 4) - k0) X cl_5 q346 dX4_next_217 (by omega) (by omega) (by omega) (by omega) ?_
      refine fk_dup X dX4_next_220 rfl ?_
      refine fk_aload_n X 0 dX4_next_221 rfl ?_
      refine fk_getI' X fd_3_2 q278 dX4_next_222 hf (fun z5 hf => ?_)
      refine fk_iload_n X 1 dX4_next_225 rfl ?_
      refine fk_isub X dX4_next_226 ?_
      refine fk_iconst (v := 3) X dX4_next_227 rfl ?_
      have J1 : fk_W E 3 (n1 + 1) (fk_up m0 n1 (oB 5 (fk_V0 tyX6))) ((n1 + 1) - n0) ((k1 + 4) - k0) 236 [(1, tI x1), (2, tI x2)] [tI (if (z5 - x1) ≤ 3 then (3 : Int32) else 0), tR (some n1), tR (some n1)] := by
        refine fk_iload_n X 0 dX4_next_236 rfl ?_
        refine fk_iload_n X 1 dX4_next_237 rfl ?_
        refine fk_ldcS (i := 0) X rfl dX4_next_238 ?_
        obtain ⟨u6, hq, hf⟩ := bI hf
        obtain ⟨m7, hv, hf⟩ := bI hf
        have hm : (n1 + 1) ≤ nF ∧ (k1 + 4) ≤ kF := Mo4.use hf (Mo4.ok (by omega) (by omega))
        refine fk_callI0V (rest := [tR (some n1)]) X hq (c_X6_init hv) n_X6_init rfl q349 q350 q130 q351 dX4_next_240 rfl rfl rfl rfl rfl (by omega) (by omega) ?_
        cases hf
        exact fk_areturn X Y dX4_next_243 (by first | exact Or.inl ⟨_, rfl⟩ | exact Or.inr ⟨_, rfl⟩)
      refine fk_icmp_le X 235 dX4_next_228 rfl (fun hc2 => ?_) (fun hc2 => ?_)
      · refine fk_iconst (v := 3) X dX4_next_235 rfl ?_
        simp only [if_pos hc2] at J1
        exact fk_cut' J1 [1, 2] rfl
      · refine fk_iconst (v := 0) X dX4_next_231 rfl ?_
        refine fk_goto X 236 dX4_next_232 rfl ?_
        simp only [if_neg hc2] at J1
        exact fk_cut' J1 [1, 2] rfl
    · refine fk_aload_n X 0 dX4_next_181 rfl ?_
      refine fk_getI' X fd_3_2 q278 dX4_next_182 hf (fun z8 hf => ?_)
      refine fk_iload_n X 1 dX4_next_185 rfl ?_
      refine fk_isub X dX4_next_186 ?_
      refine fk_iconst (v := 3) X dX4_next_187 rfl ?_
      refine fk_icmp_ge' X 204 dX4_next_188 rfl hf (fun hf => ?_) (fun hf => ?_)
      · have hn : n0 ≤ n1 := by omega
        have hk : k0 ≤ k1 := by omega
        exact fk_cut' (w_X4_next_J204 X Y x0 x1 x2 n1 k1 hn hk m0 ih (mo_X4_next_L167 G.2.2 x0 x1 n1 k1 N) hf) [0, 1, 2] rfl
      · refine fk_bipush (v := 10) X dX4_next_191 rfl ?_
        refine fk_iload_n X 2 dX4_next_193 rfl ?_
        refine fk_imul X dX4_next_194 ?_
        refine fk_aload_n X 0 dX4_next_195 rfl ?_
        obtain ⟨u9, hq, hf⟩ := bI hf
        obtain ⟨z10, hv, hf⟩ := bI hf
        have hm : n1 ≤ nF ∧ k1 ≤ kF := Mo4.use hf ((mo_X4_next_J204 G.2.2 (f_X4_next_L167 G.2.2 x0 x1 n1 k1 N) x0 x1 (((10 * x2) + z10) - 48) n1 k1 m0 (mo_X4_next_L167 G.2.2 x0 x1 n1 k1 N)))
        refine fk_callV0I (ci := 3) (rest := [tI (10 * x2)]) X hq rfl (c_X4_look hv) n_X4_look q342 q344 qs1 q128 q345 rfl dX4_next_196 rfl rfl rfl rfl rfl (by omega) (by omega) ?_
        refine fk_iadd X dX4_next_199 ?_
        refine fk_bipush (v := 48) X dX4_next_200 rfl ?_
        refine fk_isub X dX4_next_202 ?_
        refine fk_istore_n X [(2, tI (((10 * x2) + z10) - 48)), (0, tR x0), (1, tI x1)] dX4_next_203 rfl rfl ?_
        have hn : n0 ≤ n1 := by omega
        have hk : k0 ≤ k1 := by omega
        exact fk_cut' (w_X4_next_J204 X Y x0 x1 (((10 * x2) + z10) - 48) n1 k1 hn hk m0 ih (mo_X4_next_L167 G.2.2 x0 x1 n1 k1 N) hf) [1, 2, 0] rfl
def f_X4_next_J108 (g : Nat → Nat) (R73 : fk_M → Option ((Option Nat) × Nat × Nat × fk_M)) (x0 : Option Nat) (x1 : Int32) (x2 : Option Nat) (n1 k1 : Nat) (m0 : fk_M) : Option ((Option Nat) × Nat × Nat × fk_M) :=
  (gI m0 x0 3 2).bind fun z1 => (pV m0 x0 3 2 (tI (z1 + 1))).bind fun m2 => R73 m2
theorem mo_X4_next_J108 (g : Nat → Nat) (R73 : fk_M → Option ((Option Nat) × Nat × Nat × fk_M)) (x0 : Option Nat) (x1 : Int32) (x2 : Option Nat) (n1 k1 : Nat) (m0 : fk_M) (hM73 : ∀  (m9 : fk_M), Mo4 n1 k1 (R73 m9)) : Mo4 n1 k1 (f_X4_next_J108 g R73 x0 x1 x2 n1 k1 m0) := by
  unfold f_X4_next_J108
  exact Mo4.bind (fun z1 => Mo4.bind (fun m2 => (hM73 m2)))
set_option maxHeartbeats 4000000 in
theorem w_X4_next_J108 {E : fk_E} {l : Launch} {G : fk_G} {b0 n0 k0 nF kF : Nat} {r : Option Nat} {mF : fk_M} (X : fk_X E l G b0 "FigureKnee$Tokens" "next" cX4_next 3 7 192 (nF - n0) (kF - k0)) (Y : fk_Y E (some (.object "FigureKnee$Token")) (some (tR r)) nF mF (nF - n0) (kF - k0)) (x0 : Option Nat) (x1 : Int32) (x2 : Option Nat)  (n1 k1 : Nat) (hn1 : n0 ≤ n1) (hk1 : k0 ≤ k1) (m0 : fk_M) {R73 : fk_M → Option ((Option Nat) × Nat × Nat × fk_M)} (hR73 : ∀  (m9 : fk_M), R73 m9 = some (r, nF, kF, mF) → fk_W E 3 n1 m9 (n1 - n0) (k1 - k0) 73 [(0, tR x0), (1, tI x1), (2, tR x2)] []) (hM73 : ∀  (m9 : fk_M), Mo4 n1 k1 (R73 m9)) (hf : f_X4_next_J108 G.2.2 R73 x0 x1 x2 n1 k1 m0 = some (r, nF, kF, mF)) : fk_W E 3 n1 m0 (n1 - n0) (k1 - k0) 108 [(0, tR x0), (1, tI x1), (2, tR x2)] [] := by
  unfold f_X4_next_J108 at hf
  refine fk_aload_n X 0 dX4_next_108 rfl ?_
  refine fk_dup X dX4_next_109 rfl ?_
  refine fk_getI' X fd_3_2 q278 dX4_next_110 hf (fun z1 hf => ?_)
  refine fk_iconst (v := 1) X dX4_next_113 rfl ?_
  refine fk_iadd X dX4_next_114 ?_
  refine fk_putI' X fd_3_2 q278 dX4_next_115 (fit_I _) hf (fun m2 hf => ?_)
  refine fk_goto X 73 dX4_next_118 rfl ?_
  exact fk_cut' (hR73 m2  hf) [0, 1, 2] rfl
def f_X4_next_L73 (g : Nat → Nat) (x0 : Option Nat) (x1 : Int32) (x2 : Option Nat) (n1 k1 : Nat) : Nat → fk_M → Option ((Option Nat) × Nat × Nat × fk_M)
  | 0, _ => none
  | N + 1, m0 =>
  (isO m0 x0 3).bind fun u1 => (f_X4_look x0 m0).bind fun z2 => (f_X1_in z2 97 122 m0).bind fun z3 => if z3 = 0 then ((gI (fk_up m0 n1 (oB 5 (fk_V0 tyX6))) x0 3 2).bind fun z5 => (isO (fk_up m0 n1 (oB 5 (fk_V0 tyX6))) x2 15).bind fun u6 => bn4 (f_J4_toString x2 (n1 + 1) (k1 + 4) (fk_up m0 n1 (oB 5 (fk_V0 tyX6)))) fun z7 n9 k10 m8 => (isS (some n1)).bind fun u11 => (f_X6_init (some n1) (if (z5 - x1) ≤ 8 then (2 : Int32) else 0) x1 0 z7 m8).bind fun m12 => some ((some n1), n9, k10, m12)) else ((gI m0 x0 3 2).bind fun z13 => if 8 ≤ (z13 - x1) then (f_X4_next_J108 g (f_X4_next_L73 g x0 x1 x2 n1 k1 N) x0 x1 x2 n1 k1 m0) else ((isO m0 x0 3).bind fun u14 => (f_X4_look x0 m0).bind fun z15 => (isO m0 x2 15).bind fun u16 => bn2 (f_J4_append x2 (i_c z15) m0) fun z17 m18 => f_X4_next_J108 g (f_X4_next_L73 g x0 x1 x2 n1 k1 N) x0 x1 x2 n1 k1 m18))
theorem mo_X4_next_L73 (g : Nat → Nat) (x0 : Option Nat) (x1 : Int32) (x2 : Option Nat) (n1 k1 : Nat) : ∀ (N : Nat)  (m0 : fk_M), Mo4 n1 k1 (f_X4_next_L73 g x0 x1 x2 n1 k1 N m0) := by
  intro N
  induction N with
  | zero => intro m0; exact Mo4.no
  | succ N ih =>
    intro m0
    rw [f_X4_next_L73]
    exact Mo4.bind (fun u1 => Mo4.bind (fun z2 => Mo4.bind (fun z3 => Mo4.ite (Mo4.le (n1 := (n1 + 1)) (k1 := (k1 + 4)) (Mo4.bind (fun z5 => Mo4.bind (fun u6 => Mo4.bn4 (mo_J4_toString x2 (n1 + 1) (k1 + 4) (fk_up m0 n1 (oB 5 (fk_V0 tyX6)))) (fun z7 n9 k10 m8 => Mo4.bind (fun u11 => Mo4.bind (fun m12 => Mo4.ok (by omega) (by omega))))))) (by omega) (by omega)) (Mo4.bind (fun z13 => Mo4.ite ((mo_X4_next_J108 g (f_X4_next_L73 g x0 x1 x2 n1 k1 N) x0 x1 x2 n1 k1 m0 ih)) (Mo4.bind (fun u14 => Mo4.bind (fun z15 => Mo4.bind (fun u16 => Mo4.bn2 (fun z17 m18 => (mo_X4_next_J108 g (f_X4_next_L73 g x0 x1 x2 n1 k1 N) x0 x1 x2 n1 k1 m18 ih)))))))))))
set_option maxHeartbeats 4000000 in
theorem w_X4_next_L73 {E : fk_E} {l : Launch} {G : fk_G} {b0 n0 k0 nF kF : Nat} {r : Option Nat} {mF : fk_M} (X : fk_X E l G b0 "FigureKnee$Tokens" "next" cX4_next 3 7 192 (nF - n0) (kF - k0)) (Y : fk_Y E (some (.object "FigureKnee$Token")) (some (tR r)) nF mF (nF - n0) (kF - k0)) (x0 : Option Nat) (x1 : Int32) (x2 : Option Nat) (n1 k1 : Nat) (hn1 : n0 ≤ n1) (hk1 : k0 ≤ k1) : ∀ (N : Nat)  (m0 : fk_M), f_X4_next_L73 G.2.2 x0 x1 x2 n1 k1 N m0 = some (r, nF, kF, mF) → fk_W E 3 n1 m0 (n1 - n0) (k1 - k0) 73 [(0, tR x0), (1, tI x1), (2, tR x2)] [] := by
  intro N
  induction N with
  | zero =>
    intro m0 hf
    have hf : (none : Option ((Option Nat) × Nat × Nat × fk_M)) = some _ := hf
    cases hf
  | succ N ih =>
    intro m0 hf
    rw [f_X4_next_L73] at hf
    refine fk_aload_n X 0 dX4_next_73 rfl ?_
    obtain ⟨u1, hq, hf⟩ := bI hf
    obtain ⟨z2, hv, hf⟩ := bI hf
    have hm : n1 ≤ nF ∧ k1 ≤ kF := Mo4.use hf (Mo4.bind (fun z3 => Mo4.ite (Mo4.le (n1 := (n1 + 1)) (k1 := (k1 + 4)) (Mo4.bind (fun z5 => Mo4.bind (fun u6 => Mo4.bn4 (mo_J4_toString x2 (n1 + 1) (k1 + 4) (fk_up m0 n1 (oB 5 (fk_V0 tyX6)))) (fun z7 n9 k10 m8 => Mo4.bind (fun u11 => Mo4.bind (fun m12 => Mo4.ok (by omega) (by omega))))))) (by omega) (by omega)) (Mo4.bind (fun z13 => Mo4.ite ((mo_X4_next_J108 G.2.2 (f_X4_next_L73 G.2.2 x0 x1 x2 n1 k1 N) x0 x1 x2 n1 k1 m0 (mo_X4_next_L73 G.2.2 x0 x1 x2 n1 k1 N))) (Mo4.bind (fun u14 => Mo4.bind (fun z15 => Mo4.bind (fun u16 => Mo4.bn2 (fun z17 m18 => (mo_X4_next_J108 G.2.2 (f_X4_next_L73 G.2.2 x0 x1 x2 n1 k1 N) x0 x1 x2 n1 k1 m18 (mo_X4_next_L73 G.2.2 x0 x1 x2 n1 k1 N)))))))))))
    refine fk_callV0I (ci := 3) (rest := []) X hq rfl (c_X4_look hv) n_X4_look q342 q344 qs1 q128 q345 rfl dX4_next_74 rfl rfl rfl rfl rfl (by omega) (by omega) ?_
    refine fk_bipush (v := 97) X dX4_next_77 rfl ?_
    refine fk_bipush (v := 122) X dX4_next_79 rfl ?_
    obtain ⟨z3, hv, hf⟩ := bI hf
    have hm : n1 ≤ nF ∧ k1 ≤ kF := Mo4.use hf (Mo4.ite (Mo4.le (n1 := (n1 + 1)) (k1 := (k1 + 4)) (Mo4.bind (fun z5 => Mo4.bind (fun u6 => Mo4.bn4 (mo_J4_toString x2 (n1 + 1) (k1 + 4) (fk_up m0 n1 (oB 5 (fk_V0 tyX6)))) (fun z7 n9 k10 m8 => Mo4.bind (fun u11 => Mo4.bind (fun m12 => Mo4.ok (by omega) (by omega))))))) (by omega) (by omega)) (Mo4.bind (fun z13 => Mo4.ite ((mo_X4_next_J108 G.2.2 (f_X4_next_L73 G.2.2 x0 x1 x2 n1 k1 N) x0 x1 x2 n1 k1 m0 (mo_X4_next_L73 G.2.2 x0 x1 x2 n1 k1 N))) (Mo4.bind (fun u14 => Mo4.bind (fun z15 => Mo4.bind (fun u16 => Mo4.bn2 (fun z17 m18 => (mo_X4_next_J108 G.2.2 (f_X4_next_L73 G.2.2 x0 x1 x2 n1 k1 N) x0 x1 x2 n1 k1 m18 (mo_X4_next_L73 G.2.2 x0 x1 x2 n1 k1 N))))))))))
    refine fk_callSN0I (rest := []) (host := "FigureKnee") X (c_X1_in hv) n_X1_in (List.mem_of_getElem? (i := 1) rfl) q262 q122 q263 dX4_next_81 rfl rfl rfl rfl rfl (by omega) (by omega) ?_
    refine fk_if_eq' X 121 dX4_next_84 rfl hf (fun hf => ?_) (fun hf => ?_)
    · have hm : (n1 + 1) ≤ nF ∧ (k1 + 4) ≤ kF := Mo4.use hf (Mo4.bind (fun z5 => Mo4.bind (fun u6 => Mo4.bn4 (mo_J4_toString x2 (n1 + 1) (k1 + 4) (fk_up m0 n1 (oB 5 (fk_V0 tyX6)))) (fun z7 n9 k10 m8 => Mo4.bind (fun u11 => Mo4.bind (fun m12 => Mo4.ok (by omega) (by omega)))))))
      refine fk_new (cs2 := (n1 + 1) - n0) (sl2 := (k1 + 4) - k0) X cl_5 q346 dX4_next_121 (by omega) (by omega) (by omega) (by omega) ?_
      refine fk_dup X dX4_next_124 rfl ?_
      refine fk_aload_n X 0 dX4_next_125 rfl ?_
      refine fk_getI' X fd_3_2 q278 dX4_next_126 hf (fun z5 hf => ?_)
      refine fk_iload_n X 1 dX4_next_129 rfl ?_
      refine fk_isub X dX4_next_130 ?_
      refine fk_bipush (v := 8) X dX4_next_131 rfl ?_
      have J1 : fk_W E 3 (n1 + 1) (fk_up m0 n1 (oB 5 (fk_V0 tyX6))) ((n1 + 1) - n0) ((k1 + 4) - k0) 141 [(1, tI x1), (2, tR x2)] [tI (if (z5 - x1) ≤ 8 then (2 : Int32) else 0), tR (some n1), tR (some n1)] := by
        refine fk_iload_n X 0 dX4_next_141 rfl ?_
        refine fk_iconst (v := 0) X dX4_next_142 rfl ?_
        refine fk_aload_n X 1 dX4_next_143 rfl ?_
        obtain ⟨u6, hq, hf⟩ := bI hf
        obtain ⟨z7, n9, k10, m8, hv, hf⟩ := bn4_eq hf
        have hmc := mo_J4_toString x2 (n1 + 1) (k1 + 4) (fk_up m0 n1 (oB 5 (fk_V0 tyX6))) _ _ _ _ hv
        have hm : n9 ≤ nF ∧ k10 ≤ kF := Mo4.use hf (Mo4.bind (fun u11 => Mo4.bind (fun m12 => Mo4.ok (by omega) (by omega))))
        refine fk_callV1R (ci := 15) (rest := [tI 0, tI x1, tI (if (z5 - x1) ≤ 8 then (2 : Int32) else 0), tR (some n1), tR (some n1)]) (cs2 := n9 - n0) (sl2 := k10 - k0) X hq rfl (c_J4_toString hv) n_J4_toString q497 q498 q499 q132 q500 rfl dX4_next_144 rfl rfl rfl rfl rfl (by omega) (by omega) (by omega) (by omega) ?_
        obtain ⟨u11, hq, hf⟩ := bI hf
        obtain ⟨m12, hv, hf⟩ := bI hf
        have hm : n9 ≤ nF ∧ k10 ≤ kF := Mo4.use hf (Mo4.ok (by omega) (by omega))
        refine fk_callI0V (rest := [tR (some n1)]) X hq (c_X6_init hv) n_X6_init rfl q349 q350 q130 q351 dX4_next_147 rfl rfl rfl rfl rfl (by omega) (by omega) ?_
        cases hf
        exact fk_areturn X Y dX4_next_150 (by first | exact Or.inl ⟨_, rfl⟩ | exact Or.inr ⟨_, rfl⟩)
      refine fk_icmp_le X 140 dX4_next_133 rfl (fun hc2 => ?_) (fun hc2 => ?_)
      · refine fk_iconst (v := 2) X dX4_next_140 rfl ?_
        simp only [if_pos hc2] at J1
        exact fk_cut' J1 [1, 2] rfl
      · refine fk_iconst (v := 0) X dX4_next_136 rfl ?_
        refine fk_goto X 141 dX4_next_137 rfl ?_
        simp only [if_neg hc2] at J1
        exact fk_cut' J1 [1, 2] rfl
    · refine fk_aload_n X 0 dX4_next_87 rfl ?_
      refine fk_getI' X fd_3_2 q278 dX4_next_88 hf (fun z13 hf => ?_)
      refine fk_iload_n X 1 dX4_next_91 rfl ?_
      refine fk_isub X dX4_next_92 ?_
      refine fk_bipush (v := 8) X dX4_next_93 rfl ?_
      refine fk_icmp_ge' X 108 dX4_next_95 rfl hf (fun hf => ?_) (fun hf => ?_)
      · have hn : n0 ≤ n1 := by omega
        have hk : k0 ≤ k1 := by omega
        exact fk_cut' (w_X4_next_J108 X Y x0 x1 x2 n1 k1 hn hk m0 ih (mo_X4_next_L73 G.2.2 x0 x1 x2 n1 k1 N) hf) [0, 1, 2] rfl
      · refine fk_aload_n X 2 dX4_next_98 rfl ?_
        refine fk_aload_n X 0 dX4_next_99 rfl ?_
        obtain ⟨u14, hq, hf⟩ := bI hf
        obtain ⟨z15, hv, hf⟩ := bI hf
        have hm : n1 ≤ nF ∧ k1 ≤ kF := Mo4.use hf (Mo4.bind (fun u16 => Mo4.bn2 (fun z17 m18 => (mo_X4_next_J108 G.2.2 (f_X4_next_L73 G.2.2 x0 x1 x2 n1 k1 N) x0 x1 x2 n1 k1 m18 (mo_X4_next_L73 G.2.2 x0 x1 x2 n1 k1 N)))))
        refine fk_callV0I (ci := 3) (rest := [tR x2]) X hq rfl (c_X4_look hv) n_X4_look q342 q344 qs1 q128 q345 rfl dX4_next_100 rfl rfl rfl rfl rfl (by omega) (by omega) ?_
        refine fk_i2c X dX4_next_103 ?_
        obtain ⟨u16, hq, hf⟩ := bI hf
        obtain ⟨z17, m18, hv, hf⟩ := bn2_eq hf
        have hm : n1 ≤ nF ∧ k1 ≤ kF := Mo4.use hf ((mo_X4_next_J108 G.2.2 (f_X4_next_L73 G.2.2 x0 x1 x2 n1 k1 N) x0 x1 x2 n1 k1 m18 (mo_X4_next_L73 G.2.2 x0 x1 x2 n1 k1 N)))
        refine fk_callV0R (ci := 15) (rest := []) X hq rfl (c_J4_append hv) n_J4_append q402 q403 q404 q132 q405 rfl dX4_next_104 rfl rfl rfl rfl rfl (by omega) (by omega) ?_
        refine fk_pop X dX4_next_107 rfl ?_
        have hn : n0 ≤ n1 := by omega
        have hk : k0 ≤ k1 := by omega
        exact fk_cut' (w_X4_next_J108 X Y x0 x1 x2 n1 k1 hn hk m18 ih (mo_X4_next_L73 G.2.2 x0 x1 x2 n1 k1 N) hf) [0, 1, 2] rfl
def f_X4_next_L0 (g : Nat → Nat) (x0 : Option Nat) (n1 k1 : Nat) : Nat → fk_M → Option ((Option Nat) × Nat × Nat × fk_M)
  | 0, _ => none
  | N + 1, m0 =>
  (isO m0 x0 3).bind fun u1 => (f_X4_look x0 m0).bind fun z2 => if z2 = 32 then ((gI m0 x0 3 2).bind fun z3 => (pV m0 x0 3 2 (tI (z3 + 1))).bind fun m4 => f_X4_next_L0 g x0 n1 k1 N m4) else ((gI m0 x0 3 2).bind fun z5 => (gI m0 x0 3 2).bind fun z6 => (gI m0 x0 3 1).bind fun z7 => if z6 = z7 then ((isS (some n1)).bind fun u9 => (f_X6_init (some n1) 1 z5 0 (some (g 0)) (fk_up m0 n1 (oB 5 (fk_V0 tyX6)))).bind fun m10 => some ((some n1), (n1 + 1), (k1 + 4), m10)) else ((isO m0 x0 3).bind fun u11 => (f_X4_look x0 m0).bind fun z12 => (f_X1_in z12 97 122 m0).bind fun z13 => if z13 = 0 then ((isO m0 x0 3).bind fun u14 => (f_X4_look x0 m0).bind fun z15 => (f_X1_in z15 48 57 m0).bind fun z16 => if z16 = 0 then ((isO m0 x0 3).bind fun u17 => (f_X4_look x0 m0).bind fun z18 => (gI m0 x0 3 2).bind fun z19 => (pV m0 x0 3 2 (tI (z19 + 1))).bind fun m20 => (isS (some n1)).bind fun u22 => (f_X6_init (some n1) (if z18 = 59 then (4 : Int32) else 0) z5 z18 (some (g 0)) (fk_up m20 n1 (oB 5 (fk_V0 tyX6)))).bind fun m23 => some ((some n1), (n1 + 1), (k1 + 4), m23)) else (f_X4_next_L167 g x0 z5 n1 k1 fk_fuel 0 m0)) else ((isS (some n1)).bind fun u25 => bn3 (f_J4_init (some n1) (n1 + 1) (k1 + 4) (fk_up m0 n1 (oB 15 (fk_V0 tyJ4)))) fun n27 k28 m26 => f_X4_next_L73 g x0 z5 (some n1) n27 k28 fk_fuel m26)))
theorem mo_X4_next_L0 (g : Nat → Nat) (x0 : Option Nat) (n1 k1 : Nat) : ∀ (N : Nat)  (m0 : fk_M), Mo4 n1 k1 (f_X4_next_L0 g x0 n1 k1 N m0) := by
  intro N
  induction N with
  | zero => intro m0; exact Mo4.no
  | succ N ih =>
    intro m0
    rw [f_X4_next_L0]
    exact Mo4.bind (fun u1 => Mo4.bind (fun z2 => Mo4.ite (Mo4.bind (fun z3 => Mo4.bind (fun m4 => (ih m4)))) (Mo4.bind (fun z5 => Mo4.bind (fun z6 => Mo4.bind (fun z7 => Mo4.ite (Mo4.le (n1 := (n1 + 1)) (k1 := (k1 + 4)) (Mo4.bind (fun u9 => Mo4.bind (fun m10 => Mo4.ok (by omega) (by omega)))) (by omega) (by omega)) (Mo4.bind (fun u11 => Mo4.bind (fun z12 => Mo4.bind (fun z13 => Mo4.ite (Mo4.bind (fun u14 => Mo4.bind (fun z15 => Mo4.bind (fun z16 => Mo4.ite (Mo4.bind (fun u17 => Mo4.bind (fun z18 => Mo4.bind (fun z19 => Mo4.bind (fun m20 => Mo4.le (n1 := (n1 + 1)) (k1 := (k1 + 4)) (Mo4.bind (fun u22 => Mo4.bind (fun m23 => Mo4.ok (by omega) (by omega)))) (by omega) (by omega)))))) ((mo_X4_next_L167 g x0 z5 n1 k1 fk_fuel 0 m0)))))) (Mo4.le (n1 := (n1 + 1)) (k1 := (k1 + 4)) (Mo4.bind (fun u25 => Mo4.bn3 (mo_J4_init (some n1) (n1 + 1) (k1 + 4) (fk_up m0 n1 (oB 15 (fk_V0 tyJ4)))) (fun n27 k28 m26 => (mo_X4_next_L73 g x0 z5 (some n1) n27 k28 fk_fuel m26)))) (by omega) (by omega))))))))))))
set_option maxHeartbeats 4000000 in
theorem w_X4_next_L0 {E : fk_E} {l : Launch} {G : fk_G} {b0 n0 k0 nF kF : Nat} {r : Option Nat} {mF : fk_M} (X : fk_X E l G b0 "FigureKnee$Tokens" "next" cX4_next 3 7 192 (nF - n0) (kF - k0)) (Y : fk_Y E (some (.object "FigureKnee$Token")) (some (tR r)) nF mF (nF - n0) (kF - k0)) (x0 : Option Nat) (n1 k1 : Nat) (hn1 : n0 ≤ n1) (hk1 : k0 ≤ k1) : ∀ (N : Nat)  (m0 : fk_M), f_X4_next_L0 G.2.2 x0 n1 k1 N m0 = some (r, nF, kF, mF) → fk_W E 3 n1 m0 (n1 - n0) (k1 - k0) 0 [(0, tR x0)] [] := by
  intro N
  induction N with
  | zero =>
    intro m0 hf
    have hf : (none : Option ((Option Nat) × Nat × Nat × fk_M)) = some _ := hf
    cases hf
  | succ N ih =>
    intro m0 hf
    rw [f_X4_next_L0] at hf
    refine fk_aload_n X 0 dX4_next_0 rfl ?_
    obtain ⟨u1, hq, hf⟩ := bI hf
    obtain ⟨z2, hv, hf⟩ := bI hf
    have hm : n1 ≤ nF ∧ k1 ≤ kF := Mo4.use hf (Mo4.ite (Mo4.bind (fun z3 => Mo4.bind (fun m4 => ((mo_X4_next_L0 G.2.2 x0 n1 k1 N) m4)))) (Mo4.bind (fun z5 => Mo4.bind (fun z6 => Mo4.bind (fun z7 => Mo4.ite (Mo4.le (n1 := (n1 + 1)) (k1 := (k1 + 4)) (Mo4.bind (fun u9 => Mo4.bind (fun m10 => Mo4.ok (by omega) (by omega)))) (by omega) (by omega)) (Mo4.bind (fun u11 => Mo4.bind (fun z12 => Mo4.bind (fun z13 => Mo4.ite (Mo4.bind (fun u14 => Mo4.bind (fun z15 => Mo4.bind (fun z16 => Mo4.ite (Mo4.bind (fun u17 => Mo4.bind (fun z18 => Mo4.bind (fun z19 => Mo4.bind (fun m20 => Mo4.le (n1 := (n1 + 1)) (k1 := (k1 + 4)) (Mo4.bind (fun u22 => Mo4.bind (fun m23 => Mo4.ok (by omega) (by omega)))) (by omega) (by omega)))))) ((mo_X4_next_L167 G.2.2 x0 z5 n1 k1 fk_fuel 0 m0)))))) (Mo4.le (n1 := (n1 + 1)) (k1 := (k1 + 4)) (Mo4.bind (fun u25 => Mo4.bn3 (mo_J4_init (some n1) (n1 + 1) (k1 + 4) (fk_up m0 n1 (oB 15 (fk_V0 tyJ4)))) (fun n27 k28 m26 => (mo_X4_next_L73 G.2.2 x0 z5 (some n1) n27 k28 fk_fuel m26)))) (by omega) (by omega)))))))))))
    refine fk_callV0I (ci := 3) (rest := []) X hq rfl (c_X4_look hv) n_X4_look q342 q344 qs1 q128 q345 rfl dX4_next_1 rfl rfl rfl rfl rfl (by omega) (by omega) ?_
    refine fk_bipush (v := 32) X dX4_next_4 rfl ?_
    refine fk_icmp_ne' X 22 dX4_next_6 rfl hf (fun hf => ?_) (fun hf => ?_)
    · refine fk_aload_n X 0 dX4_next_22 rfl ?_
      refine fk_getI' X fd_3_2 q278 dX4_next_23 hf (fun z5 hf => ?_)
      refine fk_istore_n X [(1, tI z5), (0, tR x0)] dX4_next_26 rfl rfl ?_
      refine fk_aload_n X 1 dX4_next_27 rfl ?_
      refine fk_getI' X fd_3_2 q278 dX4_next_28 hf (fun z6 hf => ?_)
      refine fk_aload_n X 1 dX4_next_31 rfl ?_
      refine fk_getI' X fd_3_1 q277 dX4_next_32 hf (fun z7 hf => ?_)
      refine fk_icmp_ne' X 51 dX4_next_35 rfl hf (fun hf => ?_) (fun hf => ?_)
      · refine fk_aload_n X 1 dX4_next_51 rfl ?_
        obtain ⟨u11, hq, hf⟩ := bI hf
        obtain ⟨z12, hv, hf⟩ := bI hf
        have hm : n1 ≤ nF ∧ k1 ≤ kF := Mo4.use hf (Mo4.bind (fun z13 => Mo4.ite (Mo4.bind (fun u14 => Mo4.bind (fun z15 => Mo4.bind (fun z16 => Mo4.ite (Mo4.bind (fun u17 => Mo4.bind (fun z18 => Mo4.bind (fun z19 => Mo4.bind (fun m20 => Mo4.le (n1 := (n1 + 1)) (k1 := (k1 + 4)) (Mo4.bind (fun u22 => Mo4.bind (fun m23 => Mo4.ok (by omega) (by omega)))) (by omega) (by omega)))))) ((mo_X4_next_L167 G.2.2 x0 z5 n1 k1 fk_fuel 0 m0)))))) (Mo4.le (n1 := (n1 + 1)) (k1 := (k1 + 4)) (Mo4.bind (fun u25 => Mo4.bn3 (mo_J4_init (some n1) (n1 + 1) (k1 + 4) (fk_up m0 n1 (oB 15 (fk_V0 tyJ4)))) (fun n27 k28 m26 => (mo_X4_next_L73 G.2.2 x0 z5 (some n1) n27 k28 fk_fuel m26)))) (by omega) (by omega))))
        refine fk_callV0I (ci := 3) (rest := []) X hq rfl (c_X4_look hv) n_X4_look q342 q344 qs1 q128 q345 rfl dX4_next_52 rfl rfl rfl rfl rfl (by omega) (by omega) ?_
        refine fk_bipush (v := 97) X dX4_next_55 rfl ?_
        refine fk_bipush (v := 122) X dX4_next_57 rfl ?_
        obtain ⟨z13, hv, hf⟩ := bI hf
        have hm : n1 ≤ nF ∧ k1 ≤ kF := Mo4.use hf (Mo4.ite (Mo4.bind (fun u14 => Mo4.bind (fun z15 => Mo4.bind (fun z16 => Mo4.ite (Mo4.bind (fun u17 => Mo4.bind (fun z18 => Mo4.bind (fun z19 => Mo4.bind (fun m20 => Mo4.le (n1 := (n1 + 1)) (k1 := (k1 + 4)) (Mo4.bind (fun u22 => Mo4.bind (fun m23 => Mo4.ok (by omega) (by omega)))) (by omega) (by omega)))))) ((mo_X4_next_L167 G.2.2 x0 z5 n1 k1 fk_fuel 0 m0)))))) (Mo4.le (n1 := (n1 + 1)) (k1 := (k1 + 4)) (Mo4.bind (fun u25 => Mo4.bn3 (mo_J4_init (some n1) (n1 + 1) (k1 + 4) (fk_up m0 n1 (oB 15 (fk_V0 tyJ4)))) (fun n27 k28 m26 => (mo_X4_next_L73 G.2.2 x0 z5 (some n1) n27 k28 fk_fuel m26)))) (by omega) (by omega)))
        refine fk_callSN0I (rest := []) (host := "FigureKnee") X (c_X1_in hv) n_X1_in (List.mem_of_getElem? (i := 1) rfl) q262 q122 q263 dX4_next_59 rfl rfl rfl rfl rfl (by omega) (by omega) ?_
        refine fk_if_eq' X 151 dX4_next_62 rfl hf (fun hf => ?_) (fun hf => ?_)
        · refine fk_aload_n X 1 dX4_next_151 rfl ?_
          obtain ⟨u14, hq, hf⟩ := bI hf
          obtain ⟨z15, hv, hf⟩ := bI hf
          have hm : n1 ≤ nF ∧ k1 ≤ kF := Mo4.use hf (Mo4.bind (fun z16 => Mo4.ite (Mo4.bind (fun u17 => Mo4.bind (fun z18 => Mo4.bind (fun z19 => Mo4.bind (fun m20 => Mo4.le (n1 := (n1 + 1)) (k1 := (k1 + 4)) (Mo4.bind (fun u22 => Mo4.bind (fun m23 => Mo4.ok (by omega) (by omega)))) (by omega) (by omega)))))) ((mo_X4_next_L167 G.2.2 x0 z5 n1 k1 fk_fuel 0 m0))))
          refine fk_callV0I (ci := 3) (rest := []) X hq rfl (c_X4_look hv) n_X4_look q342 q344 qs1 q128 q345 rfl dX4_next_152 rfl rfl rfl rfl rfl (by omega) (by omega) ?_
          refine fk_bipush (v := 48) X dX4_next_155 rfl ?_
          refine fk_bipush (v := 57) X dX4_next_157 rfl ?_
          obtain ⟨z16, hv, hf⟩ := bI hf
          have hm : n1 ≤ nF ∧ k1 ≤ kF := Mo4.use hf (Mo4.ite (Mo4.bind (fun u17 => Mo4.bind (fun z18 => Mo4.bind (fun z19 => Mo4.bind (fun m20 => Mo4.le (n1 := (n1 + 1)) (k1 := (k1 + 4)) (Mo4.bind (fun u22 => Mo4.bind (fun m23 => Mo4.ok (by omega) (by omega)))) (by omega) (by omega)))))) ((mo_X4_next_L167 G.2.2 x0 z5 n1 k1 fk_fuel 0 m0)))
          refine fk_callSN0I (rest := []) (host := "FigureKnee") X (c_X1_in hv) n_X1_in (List.mem_of_getElem? (i := 1) rfl) q262 q122 q263 dX4_next_159 rfl rfl rfl rfl rfl (by omega) (by omega) ?_
          refine fk_if_eq' X 244 dX4_next_162 rfl hf (fun hf => ?_) (fun hf => ?_)
          · refine fk_aload_n X 1 dX4_next_244 rfl ?_
            obtain ⟨u17, hq, hf⟩ := bI hf
            obtain ⟨z18, hv, hf⟩ := bI hf
            have hm : n1 ≤ nF ∧ k1 ≤ kF := Mo4.use hf (Mo4.bind (fun z19 => Mo4.bind (fun m20 => Mo4.le (n1 := (n1 + 1)) (k1 := (k1 + 4)) (Mo4.bind (fun u22 => Mo4.bind (fun m23 => Mo4.ok (by omega) (by omega)))) (by omega) (by omega))))
            refine fk_callV0I (ci := 3) (rest := []) X hq rfl (c_X4_look hv) n_X4_look q342 q344 qs1 q128 q345 rfl dX4_next_245 rfl rfl rfl rfl rfl (by omega) (by omega) ?_
            refine fk_istore_n X [(2, tI z18), (1, tI z5), (0, tR x0)] dX4_next_248 rfl rfl ?_
            refine fk_aload_n X 2 dX4_next_249 rfl ?_
            refine fk_dup X dX4_next_250 rfl ?_
            refine fk_getI' X fd_3_2 q278 dX4_next_251 hf (fun z19 hf => ?_)
            refine fk_iconst (v := 1) X dX4_next_254 rfl ?_
            refine fk_iadd X dX4_next_255 ?_
            refine fk_putI' X fd_3_2 q278 dX4_next_256 (fit_I _) hf (fun m20 hf => ?_)
            have hm : (n1 + 1) ≤ nF ∧ (k1 + 4) ≤ kF := Mo4.use hf (Mo4.bind (fun u22 => Mo4.bind (fun m23 => Mo4.ok (by omega) (by omega))))
            refine fk_new (cs2 := (n1 + 1) - n0) (sl2 := (k1 + 4) - k0) X cl_5 q346 dX4_next_259 (by omega) (by omega) (by omega) (by omega) ?_
            refine fk_dup X dX4_next_262 rfl ?_
            refine fk_iload_n X 0 dX4_next_263 rfl ?_
            refine fk_bipush (v := 59) X dX4_next_264 rfl ?_
            have J1 : fk_W E 3 (n1 + 1) (fk_up m20 n1 (oB 5 (fk_V0 tyX6))) ((n1 + 1) - n0) ((k1 + 4) - k0) 274 [(2, tI z18), (1, tI z5)] [tI (if z18 = 59 then (4 : Int32) else 0), tR (some n1), tR (some n1)] := by
              refine fk_iload_n X 1 dX4_next_274 rfl ?_
              refine fk_iload_n X 0 dX4_next_275 rfl ?_
              refine fk_ldcS (i := 0) X rfl dX4_next_276 ?_
              obtain ⟨u22, hq, hf⟩ := bI hf
              obtain ⟨m23, hv, hf⟩ := bI hf
              have hm : (n1 + 1) ≤ nF ∧ (k1 + 4) ≤ kF := Mo4.use hf (Mo4.ok (by omega) (by omega))
              refine fk_callI0V (rest := [tR (some n1)]) X hq (c_X6_init hv) n_X6_init rfl q349 q350 q130 q351 dX4_next_278 rfl rfl rfl rfl rfl (by omega) (by omega) ?_
              cases hf
              exact fk_areturn X Y dX4_next_281 (by first | exact Or.inl ⟨_, rfl⟩ | exact Or.inr ⟨_, rfl⟩)
            refine fk_icmp_ne X 273 dX4_next_266 rfl (fun hc2 => ?_) (fun hc2 => ?_)
            · refine fk_iconst (v := 0) X dX4_next_273 rfl ?_
              simp only [if_neg hc2] at J1
              exact fk_cut' J1 [0, 1] rfl
            · refine fk_iconst (v := 4) X dX4_next_269 rfl ?_
              refine fk_goto X 274 dX4_next_270 rfl ?_
              simp only [if_pos hc2] at J1
              exact fk_cut' J1 [0, 1] rfl
          · refine fk_iconst (v := 0) X dX4_next_165 rfl ?_
            refine fk_istore_n X [(2, tI 0), (1, tI z5), (0, tR x0)] dX4_next_166 rfl rfl ?_
            have hn : n0 ≤ n1 := by omega
            have hk : k0 ≤ k1 := by omega
            exact fk_cut' (w_X4_next_L167 X Y x0 z5 n1 k1 hn hk fk_fuel 0 m0 hf) [2, 1, 0] rfl
        · have hm : (n1 + 1) ≤ nF ∧ (k1 + 4) ≤ kF := Mo4.use hf (Mo4.bind (fun u25 => Mo4.bn3 (mo_J4_init (some n1) (n1 + 1) (k1 + 4) (fk_up m0 n1 (oB 15 (fk_V0 tyJ4)))) (fun n27 k28 m26 => (mo_X4_next_L73 G.2.2 x0 z5 (some n1) n27 k28 fk_fuel m26))))
          refine fk_new (cs2 := (n1 + 1) - n0) (sl2 := (k1 + 4) - k0) X cl_15 q371 dX4_next_65 (by omega) (by omega) (by omega) (by omega) ?_
          refine fk_dup X dX4_next_68 rfl ?_
          obtain ⟨u25, hq, hf⟩ := bI hf
          obtain ⟨n27, k28, m26, hv, hf⟩ := bn3_eq hf
          have hmc := mo_J4_init (some n1) (n1 + 1) (k1 + 4) (fk_up m0 n1 (oB 15 (fk_V0 tyJ4))) _ _ _ hv
          have hm : n27 ≤ nF ∧ k28 ≤ kF := Mo4.use hf ((mo_X4_next_L73 G.2.2 x0 z5 (some n1) n27 k28 fk_fuel m26))
          refine fk_callI1V (rest := [tR (some n1)]) (cs2 := n27 - n0) (sl2 := k28 - k0) X hq (c_J4_init hv) n_J4_init rfl q373 q374 q132 q375 dX4_next_69 rfl rfl rfl rfl rfl (by omega) (by omega) (by omega) (by omega) ?_
          refine fk_astore_n X [(2, tR (some n1)), (1, tI z5), (0, tR x0)] dX4_next_72 rfl rfl ?_
          have hn : n0 ≤ n27 := by omega
          have hk : k0 ≤ k28 := by omega
          exact fk_cut' (w_X4_next_L73 X Y x0 z5 (some n1) n27 k28 hn hk fk_fuel m26 hf) [2, 1, 0] rfl
      · have hm : (n1 + 1) ≤ nF ∧ (k1 + 4) ≤ kF := Mo4.use hf (Mo4.bind (fun u9 => Mo4.bind (fun m10 => Mo4.ok (by omega) (by omega))))
        refine fk_new (cs2 := (n1 + 1) - n0) (sl2 := (k1 + 4) - k0) X cl_5 q346 dX4_next_38 (by omega) (by omega) (by omega) (by omega) ?_
        refine fk_dup X dX4_next_41 rfl ?_
        refine fk_iconst (v := 1) X dX4_next_42 rfl ?_
        refine fk_iload_n X 0 dX4_next_43 rfl ?_
        refine fk_iconst (v := 0) X dX4_next_44 rfl ?_
        refine fk_ldcS (i := 0) X rfl dX4_next_45 ?_
        obtain ⟨u9, hq, hf⟩ := bI hf
        obtain ⟨m10, hv, hf⟩ := bI hf
        have hm : (n1 + 1) ≤ nF ∧ (k1 + 4) ≤ kF := Mo4.use hf (Mo4.ok (by omega) (by omega))
        refine fk_callI0V (rest := [tR (some n1)]) X hq (c_X6_init hv) n_X6_init rfl q349 q350 q130 q351 dX4_next_47 rfl rfl rfl rfl rfl (by omega) (by omega) ?_
        cases hf
        exact fk_areturn X Y dX4_next_50 (by first | exact Or.inl ⟨_, rfl⟩ | exact Or.inr ⟨_, rfl⟩)
    · refine fk_aload_n X 0 dX4_next_9 rfl ?_
      refine fk_dup X dX4_next_10 rfl ?_
      refine fk_getI' X fd_3_2 q278 dX4_next_11 hf (fun z3 hf => ?_)
      refine fk_iconst (v := 1) X dX4_next_14 rfl ?_
      refine fk_iadd X dX4_next_15 ?_
      refine fk_putI' X fd_3_2 q278 dX4_next_16 (fit_I _) hf (fun m4 hf => ?_)
      refine fk_goto X 0 dX4_next_19 rfl ?_
      exact fk_cut' (ih m4  hf) [0] rfl
def f_X4_next (g : Nat → Nat) (a0 : Option Nat) (n1 k1 : Nat) (m0 : fk_M) : Option ((Option Nat) × Nat × Nat × fk_M) :=
  f_X4_next_L0 g a0 n1 k1 fk_fuel m0
theorem mo_X4_next (g : Nat → Nat) (a0 : Option Nat) (n1 k1 : Nat) (m0 : fk_M) : Mo4 n1 k1 (f_X4_next g a0 n1 k1 m0) := by
  unfold f_X4_next
  exact (mo_X4_next_L0 g a0 n1 k1 fk_fuel m0)
set_option maxHeartbeats 4000000 in
theorem c_X4_next {l : Launch} {G : fk_G} {b0 : Nat} {n1 k1 nF kF : Nat} {a0 : Option Nat} {m0 : fk_M} {r : Option Nat} {mF : fk_M} (hf : f_X4_next G.2.2 a0 n1 k1 m0 = some (r, nF, kF, mF)) : fk_Ct l G b0 yX4_next cX4_next 3 (some (.object "FigureKnee$Token")) 7 192 [tR a0] n1 m0 (some (tR r)) nF mF (nF - n1) (kF - k1) := by
  refine fk_enter n_X4_next.1 rfl ?_
  intro E X0 Y
  have X : fk_X E l G b0 "FigureKnee$Tokens" "next" cX4_next 3 7 192 (nF - n1) (kF - k1) := X0
  show fk_W E 3 n1 m0 0 0 0 [(0, tR a0)] []
  refine fk_widen (cs2 := n1 - n1) (sl2 := k1 - k1) (Nat.zero_le _) (Nat.zero_le _) ?_
  unfold f_X4_next at hf
  have h01 : n1 ≤ n1 := Nat.le_refl _
  have h02 : k1 ≤ k1 := Nat.le_refl _
  have hn : n1 ≤ n1 := by omega
  have hk : k1 ≤ k1 := by omega
  exact fk_cut' (w_X4_next_L0 X Y a0 n1 k1 hn hk fk_fuel m0 hf) [0] rfl
/-! FigureKnee$Reader <init> (LFigureKnee$Tokens;)V -/
theorem n_X3_init : fk_N yX3_init 1 := ⟨by decide +kernel, by decide +kernel, by decide +kernel, by decide +kernel⟩
def f_X3_init (g : Nat → Nat) (a0 : Option Nat) (a1 : Option Nat) (n1 k1 : Nat) (m0 : fk_M) : Option (Nat × Nat × fk_M) :=
  (isS a0).bind fun _ => (isS (some n1)).bind fun u2 => bn3 (f_X5_init g (some n1) (n1 + 1) (k1 + 8) (fk_up m0 n1 (oB 4 (fk_V0 tyX5)))) fun n4 k5 m3 => (pV m3 a0 2 1 (tR (some n1))).bind fun m6 => (pV m6 a0 2 0 (tR a1)).bind fun m7 => (isO m7 a1 3).bind fun u8 => bn4 (f_X4_next g a1 n4 k5 m7) fun z9 n11 k12 m10 => (pV m10 a0 2 2 (tR z9)).bind fun m13 => some (n11, k12, m13)
theorem mo_X3_init (g : Nat → Nat) (a0 : Option Nat) (a1 : Option Nat) (n1 k1 : Nat) (m0 : fk_M) : Mo3 n1 k1 (f_X3_init g a0 a1 n1 k1 m0) := by
  unfold f_X3_init
  exact Mo3.bind (fun _ => Mo3.le (n1 := (n1 + 1)) (k1 := (k1 + 8)) (Mo3.bind (fun u2 => Mo3.bn3 (mo_X5_init g (some n1) (n1 + 1) (k1 + 8) (fk_up m0 n1 (oB 4 (fk_V0 tyX5)))) (fun n4 k5 m3 => Mo3.bind (fun m6 => Mo3.bind (fun m7 => Mo3.bind (fun u8 => Mo3.bn4 (mo_X4_next g a1 n4 k5 m7) (fun z9 n11 k12 m10 => Mo3.bind (fun m13 => Mo3.ok (by omega) (by omega))))))))) (by omega) (by omega))
set_option maxHeartbeats 4000000 in
theorem c_X3_init {l : Launch} {G : fk_G} {b0 : Nat} {n1 k1 nF kF : Nat} {a0 : Option Nat} {a1 : Option Nat} {m0 : fk_M} {mF : fk_M} (hf : f_X3_init G.2.2 a0 a1 n1 k1 m0 = some (nF, kF, mF)) : fk_Ct l G b0 yX3_init cX3_init 2 none 8 214 [tR a0, tR a1] n1 m0 none nF mF (nF - n1) (kF - k1) := by
  refine fk_enter n_X3_init.1 rfl ?_
  intro E X0 Y
  have X : fk_X E l G b0 "FigureKnee$Reader" "<init>" cX3_init 2 8 214 (nF - n1) (kF - k1) := X0
  show fk_W E 2 n1 m0 0 0 0 [(0, tR a0), (1, tR a1)] []
  refine fk_widen (cs2 := n1 - n1) (sl2 := k1 - k1) (Nat.zero_le _) (Nat.zero_le _) ?_
  unfold f_X3_init at hf
  have h01 : n1 ≤ n1 := Nat.le_refl _
  have h02 : k1 ≤ k1 := Nat.le_refl _
  refine fk_aload_n X 0 dX3_init_0 rfl ?_
  refine fk_objInit' X q289 q161 q162 dX3_init_1 rfl rfl hf (fun hf => ?_)
  refine fk_aload_n X 0 dX3_init_4 rfl ?_
  have hm : (n1 + 1) ≤ nF ∧ (k1 + 8) ≤ kF := Mo3.use hf (Mo3.bind (fun u2 => Mo3.bn3 (mo_X5_init G.2.2 (some n1) (n1 + 1) (k1 + 8) (fk_up m0 n1 (oB 4 (fk_V0 tyX5)))) (fun n4 k5 m3 => Mo3.bind (fun m6 => Mo3.bind (fun m7 => Mo3.bind (fun u8 => Mo3.bn4 (mo_X4_next G.2.2 a1 n4 k5 m7) (fun z9 n11 k12 m10 => Mo3.bind (fun m13 => Mo3.ok (by omega) (by omega)))))))))
  refine fk_new (cs2 := (n1 + 1) - n1) (sl2 := (k1 + 8) - k1) X cl_4 q290 dX3_init_5 (by omega) (by omega) (by omega) (by omega) ?_
  refine fk_dup X dX3_init_8 rfl ?_
  obtain ⟨u2, hq, hf⟩ := bI hf
  obtain ⟨n4, k5, m3, hv, hf⟩ := bn3_eq hf
  have hmc := mo_X5_init G.2.2 (some n1) (n1 + 1) (k1 + 8) (fk_up m0 n1 (oB 4 (fk_V0 tyX5))) _ _ _ hv
  have hm : n4 ≤ nF ∧ k5 ≤ kF := Mo3.use hf (Mo3.bind (fun m6 => Mo3.bind (fun m7 => Mo3.bind (fun u8 => Mo3.bn4 (mo_X4_next G.2.2 a1 n4 k5 m7) (fun z9 n11 k12 m10 => Mo3.bind (fun m13 => Mo3.ok (by omega) (by omega)))))))
  refine fk_callIN1V (rest := [tR (some n1), tR a0]) (cs2 := n4 - n1) (sl2 := k5 - k1) (host := "FigureKnee") X hq (c_X5_init hv) n_X5_init rfl (List.mem_of_getElem? (i := 0) rfl) q293 q129 q294 dX3_init_9 rfl rfl rfl rfl rfl (by omega) (by omega) (by omega) (by omega) ?_
  refine fk_putFR' X fd_2_1 q561 dX3_init_12 (fit_R _) hf (fun m6 hf => ?_)
  refine fk_aload_n X 0 dX3_init_15 rfl ?_
  refine fk_aload_n X 1 dX3_init_16 rfl ?_
  refine fk_putFR' X fd_2_0 q560 dX3_init_17 (fit_R _) hf (fun m7 hf => ?_)
  refine fk_aload_n X 0 dX3_init_20 rfl ?_
  refine fk_aload_n X 1 dX3_init_21 rfl ?_
  obtain ⟨u8, hq, hf⟩ := bI hf
  obtain ⟨z9, n11, k12, m10, hv, hf⟩ := bn4_eq hf
  have hmc := mo_X4_next G.2.2 a1 n4 k5 m7 _ _ _ _ hv
  have hm : n11 ≤ nF ∧ k12 ≤ kF := Mo3.use hf (Mo3.bind (fun m13 => Mo3.ok (by omega) (by omega)))
  refine fk_callV1R (ci := 3) (rest := [tR a0]) (cs2 := n11 - n1) (sl2 := k12 - k1) X hq rfl (c_X4_next hv) n_X4_next q338 q339 q340 q128 q341 rfl dX3_init_22 rfl rfl rfl rfl rfl (by omega) (by omega) (by omega) (by omega) ?_
  refine fk_putR' X fd_2_2 q562 dX3_init_25 (fit_R _) hf (fun m13 hf => ?_)
  cases hf
  exact fk_return X Y dX3_init_28
/-! FigureKnee$Reader isOver ()Z -/
theorem n_X3_isOver : fk_N yX3_isOver 0 := ⟨by decide +kernel, by decide +kernel, by decide +kernel, by decide +kernel⟩
def f_X3_isOver (a0 : Option Nat) (m : fk_M) : Option Int32 :=
  (gI m a0 2 3).bind fun z1 => some (if z1 ≤ 0 then (0 : Int32) else 1)
set_option maxHeartbeats 4000000 in
theorem c_X3_isOver {l : Launch} {G : fk_G} {b0 : Nat} {n : Nat} {a0 : Option Nat} {m : fk_M} {r : Int32} (hf : f_X3_isOver a0 m = some r) : fk_Ct l G b0 yX3_isOver cX3_isOver 1 (some .boolean) 1 60 [tR a0] n m (some (tI r)) n m 0 0 := by
  refine fk_enter n_X3_isOver.1 rfl ?_
  intro E X0 Y
  have X : fk_X E l G b0 "FigureKnee$Reader" "isOver" cX3_isOver 1 1 60 0 0 := X0
  show fk_W E 1 n m 0 0 0 [(0, tR a0)] []
  unfold f_X3_isOver at hf
  refine fk_aload_n X 0 dX3_isOver_0 rfl ?_
  refine fk_getI' X fd_2_3 q563 dX3_isOver_1 hf (fun z1 hf => ?_)
  have J1 : fk_W E 1 n m 0 0 12 [] [tI (if z1 ≤ 0 then (0 : Int32) else 1)] := by
    cases hf
    exact fk_ireturn X Y dX3_isOver_12 (by (repeat' split) <;> decide +kernel)
  refine fk_if_le X 11 dX3_isOver_4 rfl (fun hc2 => ?_) (fun hc2 => ?_)
  · refine fk_iconst (v := 0) X dX3_isOver_11 rfl ?_
    simp only [if_pos hc2] at J1
    exact fk_cut' J1 [] rfl
  · refine fk_iconst (v := 1) X dX3_isOver_7 rfl ?_
    refine fk_goto X 12 dX3_isOver_8 rfl ?_
    simp only [if_neg hc2] at J1
    exact fk_cut' J1 [] rfl
/-! FigureKnee$Reader wrong (I)V -/
theorem n_X3_wrong : fk_N yX3_wrong 1 := ⟨by decide +kernel, by decide +kernel, by decide +kernel, by decide +kernel⟩
def f_X3_wrong (a0 : Option Nat) (a1 : Int32) (m0 : fk_M) : Option fk_M :=
  (isO m0 a0 2).bind fun u1 => (f_X3_isOver a0 m0).bind fun z2 => if z2 = 0 then ((pV m0 a0 2 3 (tI a1)).bind fun m3 => (gR m3 a0 2 2).bind fun z4 => (gI m3 z4 5 1).bind fun z5 => (pV m3 a0 2 4 (tI z5)).bind fun m6 => some m6) else (some m0)
set_option maxHeartbeats 4000000 in
theorem c_X3_wrong {l : Launch} {G : fk_G} {b0 : Nat} {n : Nat} {a0 : Option Nat} {a1 : Int32} {m0 : fk_M} {mF : fk_M} (hf : f_X3_wrong a0 a1 m0 = some mF) : fk_Ct l G b0 yX3_wrong cX3_wrong 2 none 2 80 [tR a0, tI a1] n m0 none n mF 0 0 := by
  refine fk_enter n_X3_wrong.1 rfl ?_
  intro E X0 Y
  have X : fk_X E l G b0 "FigureKnee$Reader" "wrong" cX3_wrong 2 2 80 0 0 := X0
  show fk_W E 2 n m0 0 0 0 [(0, tR a0), (1, tI a1)] []
  unfold f_X3_wrong at hf
  refine fk_aload_n X 0 dX3_wrong_0 rfl ?_
  obtain ⟨u1, hq, hf⟩ := bI hf
  obtain ⟨z2, hv, hf⟩ := bI hf
  refine fk_callV0I (ci := 2) (rest := []) X hq rfl (c_X3_isOver hv) n_X3_isOver q662 q664 qs5 q127 q665 rfl dX3_wrong_1 rfl rfl rfl rfl rfl (Nat.le_refl _) (Nat.le_refl _) ?_
  refine fk_if_eq' X 8 dX3_wrong_4 rfl hf (fun hf => ?_) (fun hf => ?_)
  · refine fk_aload_n X 0 dX3_wrong_8 rfl ?_
    refine fk_iload_n X 1 dX3_wrong_9 rfl ?_
    refine fk_putI' X fd_2_3 q563 dX3_wrong_10 (fit_I _) hf (fun m3 hf => ?_)
    refine fk_aload_n X 0 dX3_wrong_13 rfl ?_
    refine fk_aload_n X 0 dX3_wrong_14 rfl ?_
    refine fk_getR' X fd_2_2 q562 dX3_wrong_15 hf (fun z4 hf => ?_)
    refine fk_getI' X fd_5_1 q356 dX3_wrong_18 hf (fun z5 hf => ?_)
    refine fk_putI' X fd_2_4 q565 dX3_wrong_21 (fit_I _) hf (fun m6 hf => ?_)
    cases hf
    exact fk_return X Y dX3_wrong_24
  · cases hf
    exact fk_return X Y dX3_wrong_7
/-! FigureKnee$Reader on ()V -/
theorem n_X3_on : fk_N yX3_on 0 := ⟨by decide +kernel, by decide +kernel, by decide +kernel, by decide +kernel⟩
def f_X3_on (g : Nat → Nat) (a0 : Option Nat) (n1 k1 : Nat) (m0 : fk_M) : Option (Nat × Nat × fk_M) :=
  (isO m0 a0 2).bind fun u1 => (f_X3_isOver a0 m0).bind fun z2 => if z2 = 0 then ((gR m0 a0 2 2).bind fun z3 => (gI m0 z3 5 0).bind fun z4 => if z4 = 1 then (some (n1, k1, m0)) else ((gR m0 a0 2 0).bind fun z5 => (isO m0 z5 3).bind fun u6 => bn4 (f_X4_next g z5 n1 k1 m0) fun z7 n9 k10 m8 => (pV m8 a0 2 2 (tR z7)).bind fun m11 => some (n9, k10, m11))) else (some (n1, k1, m0))
theorem mo_X3_on (g : Nat → Nat) (a0 : Option Nat) (n1 k1 : Nat) (m0 : fk_M) : Mo3 n1 k1 (f_X3_on g a0 n1 k1 m0) := by
  unfold f_X3_on
  exact Mo3.bind (fun u1 => Mo3.bind (fun z2 => Mo3.ite (Mo3.bind (fun z3 => Mo3.bind (fun z4 => Mo3.ite (Mo3.ok (by omega) (by omega)) (Mo3.bind (fun z5 => Mo3.bind (fun u6 => Mo3.bn4 (mo_X4_next g z5 n1 k1 m0) (fun z7 n9 k10 m8 => Mo3.bind (fun m11 => Mo3.ok (by omega) (by omega))))))))) (Mo3.ok (by omega) (by omega))))
set_option maxHeartbeats 4000000 in
theorem c_X3_on {l : Launch} {G : fk_G} {b0 : Nat} {n1 k1 nF kF : Nat} {a0 : Option Nat} {m0 : fk_M} {mF : fk_M} (hf : f_X3_on G.2.2 a0 n1 k1 m0 = some (nF, kF, mF)) : fk_Ct l G b0 yX3_on cX3_on 1 none 8 214 [tR a0] n1 m0 none nF mF (nF - n1) (kF - k1) := by
  refine fk_enter n_X3_on.1 rfl ?_
  intro E X0 Y
  have X : fk_X E l G b0 "FigureKnee$Reader" "on" cX3_on 1 8 214 (nF - n1) (kF - k1) := X0
  show fk_W E 1 n1 m0 0 0 0 [(0, tR a0)] []
  refine fk_widen (cs2 := n1 - n1) (sl2 := k1 - k1) (Nat.zero_le _) (Nat.zero_le _) ?_
  unfold f_X3_on at hf
  have h01 : n1 ≤ n1 := Nat.le_refl _
  have h02 : k1 ≤ k1 := Nat.le_refl _
  refine fk_aload_n X 0 dX3_on_0 rfl ?_
  obtain ⟨u1, hq, hf⟩ := bI hf
  obtain ⟨z2, hv, hf⟩ := bI hf
  have hm : n1 ≤ nF ∧ k1 ≤ kF := Mo3.use hf (Mo3.ite (Mo3.bind (fun z3 => Mo3.bind (fun z4 => Mo3.ite (Mo3.ok (by omega) (by omega)) (Mo3.bind (fun z5 => Mo3.bind (fun u6 => Mo3.bn4 (mo_X4_next G.2.2 z5 n1 k1 m0) (fun z7 n9 k10 m8 => Mo3.bind (fun m11 => Mo3.ok (by omega) (by omega))))))))) (Mo3.ok (by omega) (by omega)))
  refine fk_callV0I (ci := 2) (rest := []) X hq rfl (c_X3_isOver hv) n_X3_isOver q662 q664 qs5 q127 q665 rfl dX3_on_1 rfl rfl rfl rfl rfl (by omega) (by omega) ?_
  refine fk_if_ne' X 29 dX3_on_4 rfl hf (fun hf => ?_) (fun hf => ?_)
  · cases hf
    exact fk_return X Y dX3_on_29
  · refine fk_aload_n X 0 dX3_on_7 rfl ?_
    refine fk_getR' X fd_2_2 q562 dX3_on_8 hf (fun z3 hf => ?_)
    refine fk_getI' X fd_5_0 q354 dX3_on_11 hf (fun z4 hf => ?_)
    refine fk_iconst (v := 1) X dX3_on_14 rfl ?_
    refine fk_icmp_eq' X 29 dX3_on_15 rfl hf (fun hf => ?_) (fun hf => ?_)
    · cases hf
      exact fk_return X Y dX3_on_29
    · refine fk_aload_n X 0 dX3_on_18 rfl ?_
      refine fk_aload_n X 0 dX3_on_19 rfl ?_
      refine fk_getR' X fd_2_0 q560 dX3_on_20 hf (fun z5 hf => ?_)
      obtain ⟨u6, hq, hf⟩ := bI hf
      obtain ⟨z7, n9, k10, m8, hv, hf⟩ := bn4_eq hf
      have hmc := mo_X4_next G.2.2 z5 n1 k1 m0 _ _ _ _ hv
      have hm : n9 ≤ nF ∧ k10 ≤ kF := Mo3.use hf (Mo3.bind (fun m11 => Mo3.ok (by omega) (by omega)))
      refine fk_callV1R (ci := 3) (rest := [tR a0]) (cs2 := n9 - n1) (sl2 := k10 - k1) X hq rfl (c_X4_next hv) n_X4_next q338 q339 q340 q128 q341 rfl dX3_on_23 rfl rfl rfl rfl rfl (by omega) (by omega) (by omega) (by omega) ?_
      refine fk_putR' X fd_2_2 q562 dX3_on_26 (fit_R _) hf (fun m11 hf => ?_)
      cases hf
      exact fk_return X Y dX3_on_29
/-! FigureKnee$Token is (Ljava/lang/String;)Z -/
theorem n_X6_is : fk_N yX6_is 1 := ⟨by decide +kernel, by decide +kernel, by decide +kernel, by decide +kernel⟩
def f_X6_is (a0 : Option Nat) (a1 : Option Nat) (m : fk_M) : Option Int32 :=
  (gI m a0 5 0).bind fun z1 => if z1 = 2 then ((gR m a0 5 3).bind fun z2 => (isO m z2 16).bind fun u3 => (f_J5_equals z2 a1 m).bind fun z4 => some (if z4 = 0 then (0 : Int32) else 1)) else (some 0)
set_option maxHeartbeats 4000000 in
theorem c_X6_is {l : Launch} {G : fk_G} {b0 : Nat} {n : Nat} {a0 : Option Nat} {a1 : Option Nat} {m : fk_M} {r : Int32} (hf : f_X6_is a0 a1 m = some r) : fk_Ct l G b0 yX6_is cX6_is 2 (some .boolean) 3 104 [tR a0, tR a1] n m (some (tI r)) n m 0 0 := by
  refine fk_enter n_X6_is.1 rfl ?_
  intro E X0 Y
  have X : fk_X E l G b0 "FigureKnee$Token" "is" cX6_is 2 3 104 0 0 := X0
  show fk_W E 2 n m 0 0 0 [(0, tR a0), (1, tR a1)] []
  unfold f_X6_is at hf
  refine fk_aload_n X 0 dX6_is_0 rfl ?_
  refine fk_getI' X fd_5_0 q353 dX6_is_1 hf (fun z1 hf => ?_)
  refine fk_iconst (v := 2) X dX6_is_4 rfl ?_
  refine fk_icmp_ne' X 23 dX6_is_5 rfl hf (fun hf => ?_) (fun hf => ?_)
  · refine fk_iconst (v := 0) X dX6_is_23 rfl ?_
    cases hf
    exact fk_ireturn X Y dX6_is_24 (by decide +kernel)
  · refine fk_aload_n X 0 dX6_is_8 rfl ?_
    refine fk_getR' X fd_5_3 q359 dX6_is_9 hf (fun z2 hf => ?_)
    refine fk_aload_n X 1 dX6_is_12 rfl ?_
    obtain ⟨u3, hq, hf⟩ := bI hf
    obtain ⟨z4, hv, hf⟩ := bI hf
    refine fk_callV0I (ci := 16) (rest := []) X hq rfl (c_J5_equals hv) n_J5_equals q683 q642 q643 q133 q644 rfl dX6_is_13 rfl rfl rfl rfl rfl (Nat.le_refl _) (Nat.le_refl _) ?_
    have J1 : fk_W E 2 n m 0 0 24 [] [tI (if z4 = 0 then (0 : Int32) else 1)] := by
      cases hf
      exact fk_ireturn X Y dX6_is_24 (by (repeat' split) <;> decide +kernel)
    refine fk_if_eq X 23 dX6_is_16 rfl (fun hc2 => ?_) (fun hc2 => ?_)
    · refine fk_iconst (v := 0) X dX6_is_23 rfl ?_
      simp only [if_pos hc2] at J1
      exact fk_cut' J1 [] rfl
    · refine fk_iconst (v := 1) X dX6_is_19 rfl ?_
      refine fk_goto X 24 dX6_is_20 rfl ?_
      simp only [if_neg hc2] at J1
      exact fk_cut' J1 [] rfl
/-! FigureKnee$Reader needs (Ljava/lang/String;)V -/
theorem n_X3_needs : fk_N yX3_needs 1 := ⟨by decide +kernel, by decide +kernel, by decide +kernel, by decide +kernel⟩
def f_X3_needs_J16 (g : Nat → Nat) (x0 : Option Nat) (n1 k1 : Nat) (m0 : fk_M) : Option (Nat × Nat × fk_M) :=
  (isO m0 x0 2).bind fun u1 => bn3 (f_X3_on g x0 n1 k1 m0) fun n3 k4 m2 => some (n3, k4, m2)
theorem mo_X3_needs_J16 (g : Nat → Nat) (x0 : Option Nat) (n1 k1 : Nat) (m0 : fk_M) : Mo3 n1 k1 (f_X3_needs_J16 g x0 n1 k1 m0) := by
  unfold f_X3_needs_J16
  exact Mo3.bind (fun u1 => Mo3.bn3 (mo_X3_on g x0 n1 k1 m0) (fun n3 k4 m2 => Mo3.ok (by omega) (by omega)))
set_option maxHeartbeats 4000000 in
theorem w_X3_needs_J16 {E : fk_E} {l : Launch} {G : fk_G} {b0 n0 k0 nF kF : Nat} {mF : fk_M} (X : fk_X E l G b0 "FigureKnee$Reader" "needs" cX3_needs 2 9 234 (nF - n0) (kF - k0)) (Y : fk_Y E none none nF mF (nF - n0) (kF - k0)) (x0 : Option Nat)  (n1 k1 : Nat) (hn1 : n0 ≤ n1) (hk1 : k0 ≤ k1) (m0 : fk_M) (hf : f_X3_needs_J16 G.2.2 x0 n1 k1 m0 = some (nF, kF, mF)) : fk_W E 2 n1 m0 (n1 - n0) (k1 - k0) 16 [(0, tR x0)] [] := by
  unfold f_X3_needs_J16 at hf
  refine fk_aload_n X 0 dX3_needs_16 rfl ?_
  obtain ⟨u1, hq, hf⟩ := bI hf
  obtain ⟨n3, k4, m2, hv, hf⟩ := bn3_eq hf
  have hmc := mo_X3_on G.2.2 x0 n1 k1 m0 _ _ _ hv
  have hm : n3 ≤ nF ∧ k4 ≤ kF := Mo3.use hf (Mo3.ok (by omega) (by omega))
  refine fk_callV1V (ci := 2) (rest := []) (cs2 := n3 - n0) (sl2 := k4 - k0) X hq rfl (c_X3_on hv) n_X3_on q666 q668 qs6 q127 q669 rfl dX3_needs_17 rfl rfl rfl rfl rfl (by omega) (by omega) (by omega) (by omega) ?_
  cases hf
  exact fk_return X Y dX3_needs_20
def f_X3_needs (g : Nat → Nat) (a0 : Option Nat) (a1 : Option Nat) (n1 k1 : Nat) (m0 : fk_M) : Option (Nat × Nat × fk_M) :=
  (gR m0 a0 2 2).bind fun z1 => (isO m0 z1 5).bind fun u2 => (f_X6_is z1 a1 m0).bind fun z3 => if z3 = 0 then ((isO m0 a0 2).bind fun u4 => (f_X3_wrong a0 1 m0).bind fun m5 => f_X3_needs_J16 g a0 n1 k1 m5) else (f_X3_needs_J16 g a0 n1 k1 m0)
theorem mo_X3_needs (g : Nat → Nat) (a0 : Option Nat) (a1 : Option Nat) (n1 k1 : Nat) (m0 : fk_M) : Mo3 n1 k1 (f_X3_needs g a0 a1 n1 k1 m0) := by
  unfold f_X3_needs
  exact Mo3.bind (fun z1 => Mo3.bind (fun u2 => Mo3.bind (fun z3 => Mo3.ite (Mo3.bind (fun u4 => Mo3.bind (fun m5 => (mo_X3_needs_J16 g a0 n1 k1 m5)))) ((mo_X3_needs_J16 g a0 n1 k1 m0)))))
set_option maxHeartbeats 4000000 in
theorem c_X3_needs {l : Launch} {G : fk_G} {b0 : Nat} {n1 k1 nF kF : Nat} {a0 : Option Nat} {a1 : Option Nat} {m0 : fk_M} {mF : fk_M} (hf : f_X3_needs G.2.2 a0 a1 n1 k1 m0 = some (nF, kF, mF)) : fk_Ct l G b0 yX3_needs cX3_needs 2 none 9 234 [tR a0, tR a1] n1 m0 none nF mF (nF - n1) (kF - k1) := by
  refine fk_enter n_X3_needs.1 rfl ?_
  intro E X0 Y
  have X : fk_X E l G b0 "FigureKnee$Reader" "needs" cX3_needs 2 9 234 (nF - n1) (kF - k1) := X0
  show fk_W E 2 n1 m0 0 0 0 [(0, tR a0), (1, tR a1)] []
  refine fk_widen (cs2 := n1 - n1) (sl2 := k1 - k1) (Nat.zero_le _) (Nat.zero_le _) ?_
  unfold f_X3_needs at hf
  have h01 : n1 ≤ n1 := Nat.le_refl _
  have h02 : k1 ≤ k1 := Nat.le_refl _
  refine fk_aload_n X 0 dX3_needs_0 rfl ?_
  refine fk_getR' X fd_2_2 q562 dX3_needs_1 hf (fun z1 hf => ?_)
  refine fk_aload_n X 1 dX3_needs_4 rfl ?_
  obtain ⟨u2, hq, hf⟩ := bI hf
  obtain ⟨z3, hv, hf⟩ := bI hf
  have hm : n1 ≤ nF ∧ k1 ≤ kF := Mo3.use hf (Mo3.ite (Mo3.bind (fun u4 => Mo3.bind (fun m5 => (mo_X3_needs_J16 G.2.2 a0 n1 k1 m5)))) ((mo_X3_needs_J16 G.2.2 a0 n1 k1 m0)))
  refine fk_callV0I (ci := 5) (rest := []) X hq rfl (c_X6_is hv) n_X6_is q679 q680 q681 q130 q682 rfl dX3_needs_5 rfl rfl rfl rfl rfl (by omega) (by omega) ?_
  refine fk_if_ne' X 16 dX3_needs_8 rfl hf (fun hf => ?_) (fun hf => ?_)
  · have hn : n1 ≤ n1 := by omega
    have hk : k1 ≤ k1 := by omega
    exact fk_cut' (w_X3_needs_J16 X Y a0 n1 k1 hn hk m0 hf) [0] rfl
  · refine fk_aload_n X 0 dX3_needs_11 rfl ?_
    refine fk_iconst (v := 1) X dX3_needs_12 rfl ?_
    obtain ⟨u4, hq, hf⟩ := bI hf
    obtain ⟨m5, hv, hf⟩ := bI hf
    have hm : n1 ≤ nF ∧ k1 ≤ kF := Mo3.use hf ((mo_X3_needs_J16 G.2.2 a0 n1 k1 m5))
    refine fk_callV0V (ci := 2) (rest := []) X hq rfl (c_X3_wrong hv) n_X3_wrong q658 q660 qs4 q127 q661 rfl dX3_needs_13 rfl rfl rfl rfl rfl (by omega) (by omega) ?_
    have hn : n1 ≤ n1 := by omega
    have hk : k1 ≤ k1 := by omega
    exact fk_cut' (w_X3_needs_J16 X Y a0 n1 k1 hn hk m5 hf) [0] rfl
/-! FigureKnee$Reader wholeAt (II)I -/
theorem n_X3_wholeAt : fk_N yX3_wholeAt 2 := ⟨by decide +kernel, by decide +kernel, by decide +kernel, by decide +kernel⟩
def f_X3_wholeAt_J39 (x0 : Option Nat) (m0 : fk_M) : Option (Int32 × fk_M) :=
  (gR m0 x0 2 2).bind fun z1 => (gI m0 z1 5 2).bind fun z2 => some (z2, m0)
set_option maxHeartbeats 4000000 in
theorem w_X3_wholeAt_J39 {E : fk_E} {l : Launch} {G : fk_G} {b0 n : Nat} {r : Int32} {mF : fk_M} (X : fk_X E l G b0 "FigureKnee$Reader" "wholeAt" cX3_wholeAt 3 3 101 0 0) (Y : fk_Y E (some .int) (some (tI r)) n mF 0 0) (x0 : Option Nat)  (m0 : fk_M) (hf : f_X3_wholeAt_J39 x0 m0 = some (r, mF)) : fk_W E 3 n m0 0 0 39 [(0, tR x0)] [] := by
  unfold f_X3_wholeAt_J39 at hf
  refine fk_aload_n X 0 dX3_wholeAt_39 rfl ?_
  refine fk_getR' X fd_2_2 q562 dX3_wholeAt_40 hf (fun z1 hf => ?_)
  refine fk_getI' X fd_5_2 q358 dX3_wholeAt_43 hf (fun z2 hf => ?_)
  cases hf
  exact fk_ireturn X Y dX3_wholeAt_46 rfl
def f_X3_wholeAt (a0 : Option Nat) (a1 : Int32) (a2 : Int32) (m0 : fk_M) : Option (Int32 × fk_M) :=
  (gR m0 a0 2 2).bind fun z1 => (gI m0 z1 5 0).bind fun z2 => if z2 = 3 then ((gR m0 a0 2 2).bind fun z3 => (gI m0 z3 5 2).bind fun z4 => (f_X1_in z4 a1 a2 m0).bind fun z5 => if z5 = 0 then ((isO m0 a0 2).bind fun u6 => (f_X3_wrong a0 4 m0).bind fun m7 => f_X3_wholeAt_J39 a0 m7) else (f_X3_wholeAt_J39 a0 m0)) else ((isO m0 a0 2).bind fun u8 => (f_X3_wrong a0 1 m0).bind fun m9 => f_X3_wholeAt_J39 a0 m9)
set_option maxHeartbeats 4000000 in
theorem c_X3_wholeAt {l : Launch} {G : fk_G} {b0 : Nat} {n : Nat} {a0 : Option Nat} {a1 : Int32} {a2 : Int32} {m0 : fk_M} {r : Int32} {mF : fk_M} (hf : f_X3_wholeAt a0 a1 a2 m0 = some (r, mF)) : fk_Ct l G b0 yX3_wholeAt cX3_wholeAt 3 (some .int) 3 101 [tR a0, tI a1, tI a2] n m0 (some (tI r)) n mF 0 0 := by
  refine fk_enter n_X3_wholeAt.1 rfl ?_
  intro E X0 Y
  have X : fk_X E l G b0 "FigureKnee$Reader" "wholeAt" cX3_wholeAt 3 3 101 0 0 := X0
  show fk_W E 3 n m0 0 0 0 [(0, tR a0), (1, tI a1), (2, tI a2)] []
  unfold f_X3_wholeAt at hf
  refine fk_aload_n X 0 dX3_wholeAt_0 rfl ?_
  refine fk_getR' X fd_2_2 q562 dX3_wholeAt_1 hf (fun z1 hf => ?_)
  refine fk_getI' X fd_5_0 q354 dX3_wholeAt_4 hf (fun z2 hf => ?_)
  refine fk_iconst (v := 3) X dX3_wholeAt_7 rfl ?_
  refine fk_icmp_eq' X 19 dX3_wholeAt_8 rfl hf (fun hf => ?_) (fun hf => ?_)
  · refine fk_aload_n X 0 dX3_wholeAt_19 rfl ?_
    refine fk_getR' X fd_2_2 q562 dX3_wholeAt_20 hf (fun z3 hf => ?_)
    refine fk_getI' X fd_5_2 q358 dX3_wholeAt_23 hf (fun z4 hf => ?_)
    refine fk_iload_n X 1 dX3_wholeAt_26 rfl ?_
    refine fk_iload_n X 2 dX3_wholeAt_27 rfl ?_
    obtain ⟨z5, hv, hf⟩ := bI hf
    refine fk_callSN0I (rest := []) (host := "FigureKnee") X (c_X1_in hv) n_X1_in (List.mem_of_getElem? (i := 2) rfl) q262 q122 q263 dX3_wholeAt_28 rfl rfl rfl rfl rfl (Nat.le_refl _) (Nat.le_refl _) ?_
    refine fk_if_ne' X 39 dX3_wholeAt_31 rfl hf (fun hf => ?_) (fun hf => ?_)
    · exact fk_cut' (w_X3_wholeAt_J39 X Y a0 m0 hf) [0] rfl
    · refine fk_aload_n X 0 dX3_wholeAt_34 rfl ?_
      refine fk_iconst (v := 4) X dX3_wholeAt_35 rfl ?_
      obtain ⟨u6, hq, hf⟩ := bI hf
      obtain ⟨m7, hv, hf⟩ := bI hf
      refine fk_callV0V (ci := 2) (rest := []) X hq rfl (c_X3_wrong hv) n_X3_wrong q658 q660 qs4 q127 q661 rfl dX3_wholeAt_36 rfl rfl rfl rfl rfl (Nat.le_refl _) (Nat.le_refl _) ?_
      exact fk_cut' (w_X3_wholeAt_J39 X Y a0 m7 hf) [0] rfl
  · refine fk_aload_n X 0 dX3_wholeAt_11 rfl ?_
    refine fk_iconst (v := 1) X dX3_wholeAt_12 rfl ?_
    obtain ⟨u8, hq, hf⟩ := bI hf
    obtain ⟨m9, hv, hf⟩ := bI hf
    refine fk_callV0V (ci := 2) (rest := []) X hq rfl (c_X3_wrong hv) n_X3_wrong q658 q660 qs4 q127 q661 rfl dX3_wholeAt_13 rfl rfl rfl rfl rfl (Nat.le_refl _) (Nat.le_refl _) ?_
    refine fk_goto X 39 dX3_wholeAt_16 rfl ?_
    exact fk_cut' (w_X3_wholeAt_J39 X Y a0 m9 hf) [0] rfl
/-! FigureKnee$Reader whole (II)I -/
theorem n_X3_whole : fk_N yX3_whole 2 := ⟨by decide +kernel, by decide +kernel, by decide +kernel, by decide +kernel⟩
def f_X3_whole (g : Nat → Nat) (a0 : Option Nat) (a1 : Int32) (a2 : Int32) (n1 k1 : Nat) (m0 : fk_M) : Option (Int32 × Nat × Nat × fk_M) :=
  (isO m0 a0 2).bind fun u1 => bn2 (f_X3_wholeAt a0 a1 a2 m0) fun z2 m3 => (isO m3 a0 2).bind fun u4 => bn3 (f_X3_on g a0 n1 k1 m3) fun n6 k7 m5 => some (z2, n6, k7, m5)
theorem mo_X3_whole (g : Nat → Nat) (a0 : Option Nat) (a1 : Int32) (a2 : Int32) (n1 k1 : Nat) (m0 : fk_M) : Mo4 n1 k1 (f_X3_whole g a0 a1 a2 n1 k1 m0) := by
  unfold f_X3_whole
  exact Mo4.bind (fun u1 => Mo4.bn2 (fun z2 m3 => Mo4.bind (fun u4 => Mo4.bn3 (mo_X3_on g a0 n1 k1 m3) (fun n6 k7 m5 => Mo4.ok (by omega) (by omega)))))
set_option maxHeartbeats 4000000 in
theorem c_X3_whole {l : Launch} {G : fk_G} {b0 : Nat} {n1 k1 nF kF : Nat} {a0 : Option Nat} {a1 : Int32} {a2 : Int32} {m0 : fk_M} {r : Int32} {mF : fk_M} (hf : f_X3_whole G.2.2 a0 a1 a2 n1 k1 m0 = some (r, nF, kF, mF)) : fk_Ct l G b0 yX3_whole cX3_whole 4 (some .int) 9 234 [tR a0, tI a1, tI a2] n1 m0 (some (tI r)) nF mF (nF - n1) (kF - k1) := by
  refine fk_enter n_X3_whole.1 rfl ?_
  intro E X0 Y
  have X : fk_X E l G b0 "FigureKnee$Reader" "whole" cX3_whole 4 9 234 (nF - n1) (kF - k1) := X0
  show fk_W E 4 n1 m0 0 0 0 [(0, tR a0), (1, tI a1), (2, tI a2)] []
  refine fk_widen (cs2 := n1 - n1) (sl2 := k1 - k1) (Nat.zero_le _) (Nat.zero_le _) ?_
  unfold f_X3_whole at hf
  have h01 : n1 ≤ n1 := Nat.le_refl _
  have h02 : k1 ≤ k1 := Nat.le_refl _
  refine fk_aload_n X 0 dX3_whole_0 rfl ?_
  refine fk_iload_n X 1 dX3_whole_1 rfl ?_
  refine fk_iload_n X 2 dX3_whole_2 rfl ?_
  obtain ⟨u1, hq, hf⟩ := bI hf
  obtain ⟨z2, m3, hv, hf⟩ := bn2_eq hf
  have hm : n1 ≤ nF ∧ k1 ≤ kF := Mo4.use hf (Mo4.bind (fun u4 => Mo4.bn3 (mo_X3_on G.2.2 a0 n1 k1 m3) (fun n6 k7 m5 => Mo4.ok (by omega) (by omega))))
  refine fk_callV0I (ci := 2) (rest := []) X hq rfl (c_X3_wholeAt hv) n_X3_wholeAt q688 q690 qs10 q127 q691 rfl dX3_whole_3 rfl rfl rfl rfl rfl (by omega) (by omega) ?_
  refine fk_istore_n X [(3, tI z2), (0, tR a0), (1, tI a1), (2, tI a2)] dX3_whole_6 rfl rfl ?_
  refine fk_aload_n X 1 dX3_whole_7 rfl ?_
  obtain ⟨u4, hq, hf⟩ := bI hf
  obtain ⟨n6, k7, m5, hv, hf⟩ := bn3_eq hf
  have hmc := mo_X3_on G.2.2 a0 n1 k1 m3 _ _ _ hv
  have hm : n6 ≤ nF ∧ k7 ≤ kF := Mo4.use hf (Mo4.ok (by omega) (by omega))
  refine fk_callV1V (ci := 2) (rest := []) (cs2 := n6 - n1) (sl2 := k7 - k1) X hq rfl (c_X3_on hv) n_X3_on q666 q668 qs6 q127 q669 rfl dX3_whole_8 rfl rfl rfl rfl rfl (by omega) (by omega) (by omega) (by omega) ?_
  refine fk_iload_n X 0 dX3_whole_11 rfl ?_
  cases hf
  exact fk_ireturn X Y dX3_whole_12 rfl
/-! FigureKnee$Reader part (Ljava/lang/String;II)I -/
theorem n_X3_part : fk_N yX3_part 3 := ⟨by decide +kernel, by decide +kernel, by decide +kernel, by decide +kernel⟩
def f_X3_part (g : Nat → Nat) (a0 : Option Nat) (a1 : Option Nat) (a2 : Int32) (a3 : Int32) (n1 k1 : Nat) (m0 : fk_M) : Option (Int32 × Nat × Nat × fk_M) :=
  (isO m0 a0 2).bind fun u1 => bn3 (f_X3_needs g a0 a1 n1 k1 m0) fun n3 k4 m2 => (isO m2 a0 2).bind fun u5 => bn4 (f_X3_whole g a0 a2 a3 n3 k4 m2) fun z6 n8 k9 m7 => some (z6, n8, k9, m7)
theorem mo_X3_part (g : Nat → Nat) (a0 : Option Nat) (a1 : Option Nat) (a2 : Int32) (a3 : Int32) (n1 k1 : Nat) (m0 : fk_M) : Mo4 n1 k1 (f_X3_part g a0 a1 a2 a3 n1 k1 m0) := by
  unfold f_X3_part
  exact Mo4.bind (fun u1 => Mo4.bn3 (mo_X3_needs g a0 a1 n1 k1 m0) (fun n3 k4 m2 => Mo4.bind (fun u5 => Mo4.bn4 (mo_X3_whole g a0 a2 a3 n3 k4 m2) (fun z6 n8 k9 m7 => Mo4.ok (by omega) (by omega)))))
set_option maxHeartbeats 4000000 in
theorem c_X3_part {l : Launch} {G : fk_G} {b0 : Nat} {n1 k1 nF kF : Nat} {a0 : Option Nat} {a1 : Option Nat} {a2 : Int32} {a3 : Int32} {m0 : fk_M} {r : Int32} {mF : fk_M} (hf : f_X3_part G.2.2 a0 a1 a2 a3 n1 k1 m0 = some (r, nF, kF, mF)) : fk_Ct l G b0 yX3_part cX3_part 4 (some .int) 10 257 [tR a0, tR a1, tI a2, tI a3] n1 m0 (some (tI r)) nF mF (nF - n1) (kF - k1) := by
  refine fk_enter n_X3_part.1 rfl ?_
  intro E X0 Y
  have X : fk_X E l G b0 "FigureKnee$Reader" "part" cX3_part 4 10 257 (nF - n1) (kF - k1) := X0
  show fk_W E 4 n1 m0 0 0 0 [(0, tR a0), (1, tR a1), (2, tI a2), (3, tI a3)] []
  refine fk_widen (cs2 := n1 - n1) (sl2 := k1 - k1) (Nat.zero_le _) (Nat.zero_le _) ?_
  unfold f_X3_part at hf
  have h01 : n1 ≤ n1 := Nat.le_refl _
  have h02 : k1 ≤ k1 := Nat.le_refl _
  refine fk_aload_n X 0 dX3_part_0 rfl ?_
  refine fk_aload_n X 1 dX3_part_1 rfl ?_
  obtain ⟨u1, hq, hf⟩ := bI hf
  obtain ⟨n3, k4, m2, hv, hf⟩ := bn3_eq hf
  have hmc := mo_X3_needs G.2.2 a0 a1 n1 k1 m0 _ _ _ hv
  have hm : n3 ≤ nF ∧ k4 ≤ kF := Mo4.use hf (Mo4.bind (fun u5 => Mo4.bn4 (mo_X3_whole G.2.2 a0 a2 a3 n3 k4 m2) (fun z6 n8 k9 m7 => Mo4.ok (by omega) (by omega))))
  refine fk_callV1V (ci := 2) (rest := []) (cs2 := n3 - n1) (sl2 := k4 - k1) X hq rfl (c_X3_needs hv) n_X3_needs q675 q677 qs8 q127 q678 rfl dX3_part_2 rfl rfl rfl rfl rfl (by omega) (by omega) (by omega) (by omega) ?_
  refine fk_aload_n X 0 dX3_part_5 rfl ?_
  refine fk_iload_n X 2 dX3_part_6 rfl ?_
  refine fk_iload_n X 3 dX3_part_7 rfl ?_
  obtain ⟨u5, hq, hf⟩ := bI hf
  obtain ⟨z6, n8, k9, m7, hv, hf⟩ := bn4_eq hf
  have hmc := mo_X3_whole G.2.2 a0 a2 a3 n3 k4 m2 _ _ _ _ hv
  have hm : n8 ≤ nF ∧ k9 ≤ kF := Mo4.use hf (Mo4.ok (by omega) (by omega))
  refine fk_callV1I (ci := 2) (rest := []) (cs2 := n8 - n1) (sl2 := k9 - k1) X hq rfl (c_X3_whole hv) n_X3_whole q684 q686 qs9 q127 q687 rfl dX3_part_8 rfl rfl rfl rfl rfl (by omega) (by omega) (by omega) (by omega) ?_
  cases hf
  exact fk_ireturn X Y dX3_part_11 rfl
/-! FigureKnee$Reader pierLine ()V -/
theorem n_X3_pierLine : fk_N yX3_pierLine 0 := ⟨by decide +kernel, by decide +kernel, by decide +kernel, by decide +kernel⟩
def f_X3_pierLine_J16 (g : Nat → Nat) (x0 : Option Nat) (n1 k1 : Nat) (m0 : fk_M) : Option (Nat × Nat × fk_M) :=
  (isO m0 x0 2).bind fun u1 => bn3 (f_X3_on g x0 n1 k1 m0) fun n3 k4 m2 => (isO m2 x0 2).bind fun u5 => bn4 (f_X3_part g x0 (some (g 8)) 2 99 n3 k4 m2) fun z6 n8 k9 m7 => (isO m7 x0 2).bind fun u10 => bn4 (f_X3_part g x0 (some (g 9)) 0 100 n8 k9 m7) fun z11 n13 k14 m12 => (isO m12 x0 2).bind fun u15 => (f_X3_isOver x0 m12).bind fun z16 => if z16 = 0 then ((gR m12 x0 2 1).bind fun z17 => (pV m12 z17 4 0 (tI z6)).bind fun m18 => (gR m18 x0 2 1).bind fun z19 => (pV m18 z19 4 1 (tI z11)).bind fun m20 => some (n13, k14, m20)) else (some (n13, k14, m12))
theorem mo_X3_pierLine_J16 (g : Nat → Nat) (x0 : Option Nat) (n1 k1 : Nat) (m0 : fk_M) : Mo3 n1 k1 (f_X3_pierLine_J16 g x0 n1 k1 m0) := by
  unfold f_X3_pierLine_J16
  exact Mo3.bind (fun u1 => Mo3.bn3 (mo_X3_on g x0 n1 k1 m0) (fun n3 k4 m2 => Mo3.bind (fun u5 => Mo3.bn4 (mo_X3_part g x0 (some (g 8)) 2 99 n3 k4 m2) (fun z6 n8 k9 m7 => Mo3.bind (fun u10 => Mo3.bn4 (mo_X3_part g x0 (some (g 9)) 0 100 n8 k9 m7) (fun z11 n13 k14 m12 => Mo3.bind (fun u15 => Mo3.bind (fun z16 => Mo3.ite (Mo3.bind (fun z17 => Mo3.bind (fun m18 => Mo3.bind (fun z19 => Mo3.bind (fun m20 => Mo3.ok (by omega) (by omega)))))) (Mo3.ok (by omega) (by omega))))))))))
set_option maxHeartbeats 4000000 in
theorem w_X3_pierLine_J16 {E : fk_E} {l : Launch} {G : fk_G} {b0 n0 k0 nF kF : Nat} {mF : fk_M} (X : fk_X E l G b0 "FigureKnee$Reader" "pierLine" cX3_pierLine 3 11 280 (nF - n0) (kF - k0)) (Y : fk_Y E none none nF mF (nF - n0) (kF - k0)) (x0 : Option Nat)  (n1 k1 : Nat) (hn1 : n0 ≤ n1) (hk1 : k0 ≤ k1) (m0 : fk_M) (hf : f_X3_pierLine_J16 G.2.2 x0 n1 k1 m0 = some (nF, kF, mF)) : fk_W E 3 n1 m0 (n1 - n0) (k1 - k0) 16 [(0, tR x0)] [] := by
  unfold f_X3_pierLine_J16 at hf
  refine fk_aload_n X 0 dX3_pierLine_16 rfl ?_
  obtain ⟨u1, hq, hf⟩ := bI hf
  obtain ⟨n3, k4, m2, hv, hf⟩ := bn3_eq hf
  have hmc := mo_X3_on G.2.2 x0 n1 k1 m0 _ _ _ hv
  have hm : n3 ≤ nF ∧ k4 ≤ kF := Mo3.use hf (Mo3.bind (fun u5 => Mo3.bn4 (mo_X3_part G.2.2 x0 (some (G.2.2 8)) 2 99 n3 k4 m2) (fun z6 n8 k9 m7 => Mo3.bind (fun u10 => Mo3.bn4 (mo_X3_part G.2.2 x0 (some (G.2.2 9)) 0 100 n8 k9 m7) (fun z11 n13 k14 m12 => Mo3.bind (fun u15 => Mo3.bind (fun z16 => Mo3.ite (Mo3.bind (fun z17 => Mo3.bind (fun m18 => Mo3.bind (fun z19 => Mo3.bind (fun m20 => Mo3.ok (by omega) (by omega)))))) (Mo3.ok (by omega) (by omega)))))))))
  refine fk_callV1V (ci := 2) (rest := []) (cs2 := n3 - n0) (sl2 := k4 - k0) X hq rfl (c_X3_on hv) n_X3_on q666 q668 qs6 q127 q669 rfl dX3_pierLine_17 rfl rfl rfl rfl rfl (by omega) (by omega) (by omega) (by omega) ?_
  refine fk_aload_n X 0 dX3_pierLine_20 rfl ?_
  refine fk_ldcS (i := 8) X rfl dX3_pierLine_21 ?_
  refine fk_iconst (v := 2) X dX3_pierLine_23 rfl ?_
  refine fk_bipush (v := 99) X dX3_pierLine_24 rfl ?_
  obtain ⟨u5, hq, hf⟩ := bI hf
  obtain ⟨z6, n8, k9, m7, hv, hf⟩ := bn4_eq hf
  have hmc := mo_X3_part G.2.2 x0 (some (G.2.2 8)) 2 99 n3 k4 m2 _ _ _ _ hv
  have hm : n8 ≤ nF ∧ k9 ≤ kF := Mo3.use hf (Mo3.bind (fun u10 => Mo3.bn4 (mo_X3_part G.2.2 x0 (some (G.2.2 9)) 0 100 n8 k9 m7) (fun z11 n13 k14 m12 => Mo3.bind (fun u15 => Mo3.bind (fun z16 => Mo3.ite (Mo3.bind (fun z17 => Mo3.bind (fun m18 => Mo3.bind (fun z19 => Mo3.bind (fun m20 => Mo3.ok (by omega) (by omega)))))) (Mo3.ok (by omega) (by omega)))))))
  refine fk_callV1I (ci := 2) (rest := []) (cs2 := n8 - n0) (sl2 := k9 - k0) X hq rfl (c_X3_part hv) n_X3_part q671 q673 qs7 q127 q674 rfl dX3_pierLine_26 rfl rfl rfl rfl rfl (by omega) (by omega) (by omega) (by omega) ?_
  refine fk_istore_n X [(1, tI z6), (0, tR x0)] dX3_pierLine_29 rfl rfl ?_
  refine fk_aload_n X 1 dX3_pierLine_30 rfl ?_
  refine fk_ldcS (i := 9) X rfl dX3_pierLine_31 ?_
  refine fk_iconst (v := 0) X dX3_pierLine_33 rfl ?_
  refine fk_bipush (v := 100) X dX3_pierLine_34 rfl ?_
  obtain ⟨u10, hq, hf⟩ := bI hf
  obtain ⟨z11, n13, k14, m12, hv, hf⟩ := bn4_eq hf
  have hmc := mo_X3_part G.2.2 x0 (some (G.2.2 9)) 0 100 n8 k9 m7 _ _ _ _ hv
  have hm : n13 ≤ nF ∧ k14 ≤ kF := Mo3.use hf (Mo3.bind (fun u15 => Mo3.bind (fun z16 => Mo3.ite (Mo3.bind (fun z17 => Mo3.bind (fun m18 => Mo3.bind (fun z19 => Mo3.bind (fun m20 => Mo3.ok (by omega) (by omega)))))) (Mo3.ok (by omega) (by omega)))))
  refine fk_callV1I (ci := 2) (rest := []) (cs2 := n13 - n0) (sl2 := k14 - k0) X hq rfl (c_X3_part hv) n_X3_part q671 q673 qs7 q127 q674 rfl dX3_pierLine_36 rfl rfl rfl rfl rfl (by omega) (by omega) (by omega) (by omega) ?_
  refine fk_istore_n X [(2, tI z11), (1, tI z6), (0, tR x0)] dX3_pierLine_39 rfl rfl ?_
  refine fk_aload_n X 2 dX3_pierLine_40 rfl ?_
  obtain ⟨u15, hq, hf⟩ := bI hf
  obtain ⟨z16, hv, hf⟩ := bI hf
  have hm : n13 ≤ nF ∧ k14 ≤ kF := Mo3.use hf (Mo3.ite (Mo3.bind (fun z17 => Mo3.bind (fun m18 => Mo3.bind (fun z19 => Mo3.bind (fun m20 => Mo3.ok (by omega) (by omega)))))) (Mo3.ok (by omega) (by omega)))
  refine fk_callV0I (ci := 2) (rest := []) X hq rfl (c_X3_isOver hv) n_X3_isOver q662 q664 qs5 q127 q665 rfl dX3_pierLine_41 rfl rfl rfl rfl rfl (by omega) (by omega) ?_
  refine fk_if_eq' X 48 dX3_pierLine_44 rfl hf (fun hf => ?_) (fun hf => ?_)
  · refine fk_aload_n X 2 dX3_pierLine_48 rfl ?_
    refine fk_getR' X fd_2_1 q561 dX3_pierLine_49 hf (fun z17 hf => ?_)
    refine fk_iload_n X 1 dX3_pierLine_52 rfl ?_
    refine fk_putI' X fd_4_0 q299 dX3_pierLine_53 (fit_I _) hf (fun m18 hf => ?_)
    refine fk_aload_n X 2 dX3_pierLine_56 rfl ?_
    refine fk_getR' X fd_2_1 q561 dX3_pierLine_57 hf (fun z19 hf => ?_)
    refine fk_iload_n X 0 dX3_pierLine_60 rfl ?_
    refine fk_putI' X fd_4_1 q301 dX3_pierLine_61 (fit_I _) hf (fun m20 hf => ?_)
    cases hf
    exact fk_return X Y dX3_pierLine_64
  · cases hf
    exact fk_return X Y dX3_pierLine_47
def f_X3_pierLine (g : Nat → Nat) (a0 : Option Nat) (n1 k1 : Nat) (m0 : fk_M) : Option (Nat × Nat × fk_M) :=
  (gR m0 a0 2 1).bind fun z1 => (gI m0 z1 4 0).bind fun z2 => if z2 = (-1) then (f_X3_pierLine_J16 g a0 n1 k1 m0) else ((isO m0 a0 2).bind fun u3 => (f_X3_wrong a0 3 m0).bind fun m4 => f_X3_pierLine_J16 g a0 n1 k1 m4)
theorem mo_X3_pierLine (g : Nat → Nat) (a0 : Option Nat) (n1 k1 : Nat) (m0 : fk_M) : Mo3 n1 k1 (f_X3_pierLine g a0 n1 k1 m0) := by
  unfold f_X3_pierLine
  exact Mo3.bind (fun z1 => Mo3.bind (fun z2 => Mo3.ite ((mo_X3_pierLine_J16 g a0 n1 k1 m0)) (Mo3.bind (fun u3 => Mo3.bind (fun m4 => (mo_X3_pierLine_J16 g a0 n1 k1 m4))))))
set_option maxHeartbeats 4000000 in
theorem c_X3_pierLine {l : Launch} {G : fk_G} {b0 : Nat} {n1 k1 nF kF : Nat} {a0 : Option Nat} {m0 : fk_M} {mF : fk_M} (hf : f_X3_pierLine G.2.2 a0 n1 k1 m0 = some (nF, kF, mF)) : fk_Ct l G b0 yX3_pierLine cX3_pierLine 3 none 11 280 [tR a0] n1 m0 none nF mF (nF - n1) (kF - k1) := by
  refine fk_enter n_X3_pierLine.1 rfl ?_
  intro E X0 Y
  have X : fk_X E l G b0 "FigureKnee$Reader" "pierLine" cX3_pierLine 3 11 280 (nF - n1) (kF - k1) := X0
  show fk_W E 3 n1 m0 0 0 0 [(0, tR a0)] []
  refine fk_widen (cs2 := n1 - n1) (sl2 := k1 - k1) (Nat.zero_le _) (Nat.zero_le _) ?_
  unfold f_X3_pierLine at hf
  have h01 : n1 ≤ n1 := Nat.le_refl _
  have h02 : k1 ≤ k1 := Nat.le_refl _
  refine fk_aload_n X 0 dX3_pierLine_0 rfl ?_
  refine fk_getR' X fd_2_1 q561 dX3_pierLine_1 hf (fun z1 hf => ?_)
  refine fk_getI' X fd_4_0 q299 dX3_pierLine_4 hf (fun z2 hf => ?_)
  refine fk_iconst (v := (-1)) X dX3_pierLine_7 rfl ?_
  refine fk_icmp_eq' X 16 dX3_pierLine_8 rfl hf (fun hf => ?_) (fun hf => ?_)
  · have hn : n1 ≤ n1 := by omega
    have hk : k1 ≤ k1 := by omega
    exact fk_cut' (w_X3_pierLine_J16 X Y a0 n1 k1 hn hk m0 hf) [0] rfl
  · refine fk_aload_n X 0 dX3_pierLine_11 rfl ?_
    refine fk_iconst (v := 3) X dX3_pierLine_12 rfl ?_
    obtain ⟨u3, hq, hf⟩ := bI hf
    obtain ⟨m4, hv, hf⟩ := bI hf
    have hm : n1 ≤ nF ∧ k1 ≤ kF := Mo3.use hf ((mo_X3_pierLine_J16 G.2.2 a0 n1 k1 m4))
    refine fk_callV0V (ci := 2) (rest := []) X hq rfl (c_X3_wrong hv) n_X3_wrong q658 q660 qs4 q127 q661 rfl dX3_pierLine_13 rfl rfl rfl rfl rfl (by omega) (by omega) ?_
    have hn : n1 ≤ n1 := by omega
    have hk : k1 ≤ k1 := by omega
    exact fk_cut' (w_X3_pierLine_J16 X Y a0 n1 k1 hn hk m4 hf) [0] rfl
/-! FigureKnee$Reader begins (II)V -/
theorem n_X3_begins : fk_N yX3_begins 2 := ⟨by decide +kernel, by decide +kernel, by decide +kernel, by decide +kernel⟩
def f_X3_begins_J27 (g : Nat → Nat) (x0 : Option Nat) (n1 k1 : Nat) (m0 : fk_M) : Option (Nat × Nat × fk_M) :=
  (isO m0 x0 2).bind fun u1 => bn3 (f_X3_on g x0 n1 k1 m0) fun n3 k4 m2 => some (n3, k4, m2)
theorem mo_X3_begins_J27 (g : Nat → Nat) (x0 : Option Nat) (n1 k1 : Nat) (m0 : fk_M) : Mo3 n1 k1 (f_X3_begins_J27 g x0 n1 k1 m0) := by
  unfold f_X3_begins_J27
  exact Mo3.bind (fun u1 => Mo3.bn3 (mo_X3_on g x0 n1 k1 m0) (fun n3 k4 m2 => Mo3.ok (by omega) (by omega)))
set_option maxHeartbeats 4000000 in
theorem w_X3_begins_J27 {E : fk_E} {l : Launch} {G : fk_G} {b0 n0 k0 nF kF : Nat} {mF : fk_M} (X : fk_X E l G b0 "FigureKnee$Reader" "begins" cX3_begins 3 9 234 (nF - n0) (kF - k0)) (Y : fk_Y E none none nF mF (nF - n0) (kF - k0)) (x0 : Option Nat)  (n1 k1 : Nat) (hn1 : n0 ≤ n1) (hk1 : k0 ≤ k1) (m0 : fk_M) (hf : f_X3_begins_J27 G.2.2 x0 n1 k1 m0 = some (nF, kF, mF)) : fk_W E 3 n1 m0 (n1 - n0) (k1 - k0) 27 [(0, tR x0)] [] := by
  unfold f_X3_begins_J27 at hf
  refine fk_aload_n X 0 dX3_begins_27 rfl ?_
  obtain ⟨u1, hq, hf⟩ := bI hf
  obtain ⟨n3, k4, m2, hv, hf⟩ := bn3_eq hf
  have hmc := mo_X3_on G.2.2 x0 n1 k1 m0 _ _ _ hv
  have hm : n3 ≤ nF ∧ k4 ≤ kF := Mo3.use hf (Mo3.ok (by omega) (by omega))
  refine fk_callV1V (ci := 2) (rest := []) (cs2 := n3 - n0) (sl2 := k4 - k0) X hq rfl (c_X3_on hv) n_X3_on q666 q668 qs6 q127 q669 rfl dX3_begins_28 rfl rfl rfl rfl rfl (by omega) (by omega) (by omega) (by omega) ?_
  cases hf
  exact fk_return X Y dX3_begins_31
def f_X3_begins_J10 (g : Nat → Nat) (x0 : Option Nat) (n1 k1 : Nat) (m0 : fk_M) : Option (Nat × Nat × fk_M) :=
  (gR m0 x0 2 1).bind fun z1 => (gI m0 z1 4 0).bind fun z2 => if z2 = (-1) then ((isO m0 x0 2).bind fun u3 => (f_X3_wrong x0 6 m0).bind fun m4 => f_X3_begins_J27 g x0 n1 k1 m4) else (f_X3_begins_J27 g x0 n1 k1 m0)
theorem mo_X3_begins_J10 (g : Nat → Nat) (x0 : Option Nat) (n1 k1 : Nat) (m0 : fk_M) : Mo3 n1 k1 (f_X3_begins_J10 g x0 n1 k1 m0) := by
  unfold f_X3_begins_J10
  exact Mo3.bind (fun z1 => Mo3.bind (fun z2 => Mo3.ite (Mo3.bind (fun u3 => Mo3.bind (fun m4 => (mo_X3_begins_J27 g x0 n1 k1 m4)))) ((mo_X3_begins_J27 g x0 n1 k1 m0))))
set_option maxHeartbeats 4000000 in
theorem w_X3_begins_J10 {E : fk_E} {l : Launch} {G : fk_G} {b0 n0 k0 nF kF : Nat} {mF : fk_M} (X : fk_X E l G b0 "FigureKnee$Reader" "begins" cX3_begins 3 9 234 (nF - n0) (kF - k0)) (Y : fk_Y E none none nF mF (nF - n0) (kF - k0)) (x0 : Option Nat)  (n1 k1 : Nat) (hn1 : n0 ≤ n1) (hk1 : k0 ≤ k1) (m0 : fk_M) (hf : f_X3_begins_J10 G.2.2 x0 n1 k1 m0 = some (nF, kF, mF)) : fk_W E 3 n1 m0 (n1 - n0) (k1 - k0) 10 [(0, tR x0)] [] := by
  unfold f_X3_begins_J10 at hf
  refine fk_aload_n X 0 dX3_begins_10 rfl ?_
  refine fk_getR' X fd_2_1 q561 dX3_begins_11 hf (fun z1 hf => ?_)
  refine fk_getI' X fd_4_0 q299 dX3_begins_14 hf (fun z2 hf => ?_)
  refine fk_iconst (v := (-1)) X dX3_begins_17 rfl ?_
  refine fk_icmp_ne' X 27 dX3_begins_18 rfl hf (fun hf => ?_) (fun hf => ?_)
  · have hn : n0 ≤ n1 := by omega
    have hk : k0 ≤ k1 := by omega
    exact fk_cut' (w_X3_begins_J27 X Y x0 n1 k1 hn hk m0 hf) [0] rfl
  · refine fk_aload_n X 0 dX3_begins_21 rfl ?_
    refine fk_bipush (v := 6) X dX3_begins_22 rfl ?_
    obtain ⟨u3, hq, hf⟩ := bI hf
    obtain ⟨m4, hv, hf⟩ := bI hf
    have hm : n1 ≤ nF ∧ k1 ≤ kF := Mo3.use hf ((mo_X3_begins_J27 G.2.2 x0 n1 k1 m4))
    refine fk_callV0V (ci := 2) (rest := []) X hq rfl (c_X3_wrong hv) n_X3_wrong q658 q660 qs4 q127 q661 rfl dX3_begins_24 rfl rfl rfl rfl rfl (by omega) (by omega) ?_
    have hn : n0 ≤ n1 := by omega
    have hk : k0 ≤ k1 := by omega
    exact fk_cut' (w_X3_begins_J27 X Y x0 n1 k1 hn hk m4 hf) [0] rfl
def f_X3_begins (g : Nat → Nat) (a0 : Option Nat) (a1 : Int32) (a2 : Int32) (n1 k1 : Nat) (m0 : fk_M) : Option (Nat × Nat × fk_M) :=
  if a1 = a2 then ((isO m0 a0 2).bind fun u1 => (f_X3_wrong a0 5 m0).bind fun m2 => f_X3_begins_J10 g a0 n1 k1 m2) else (f_X3_begins_J10 g a0 n1 k1 m0)
theorem mo_X3_begins (g : Nat → Nat) (a0 : Option Nat) (a1 : Int32) (a2 : Int32) (n1 k1 : Nat) (m0 : fk_M) : Mo3 n1 k1 (f_X3_begins g a0 a1 a2 n1 k1 m0) := by
  unfold f_X3_begins
  exact Mo3.ite (Mo3.bind (fun u1 => Mo3.bind (fun m2 => (mo_X3_begins_J10 g a0 n1 k1 m2)))) ((mo_X3_begins_J10 g a0 n1 k1 m0))
set_option maxHeartbeats 4000000 in
theorem c_X3_begins {l : Launch} {G : fk_G} {b0 : Nat} {n1 k1 nF kF : Nat} {a0 : Option Nat} {a1 : Int32} {a2 : Int32} {m0 : fk_M} {mF : fk_M} (hf : f_X3_begins G.2.2 a0 a1 a2 n1 k1 m0 = some (nF, kF, mF)) : fk_Ct l G b0 yX3_begins cX3_begins 3 none 9 234 [tR a0, tI a1, tI a2] n1 m0 none nF mF (nF - n1) (kF - k1) := by
  refine fk_enter n_X3_begins.1 rfl ?_
  intro E X0 Y
  have X : fk_X E l G b0 "FigureKnee$Reader" "begins" cX3_begins 3 9 234 (nF - n1) (kF - k1) := X0
  show fk_W E 3 n1 m0 0 0 0 [(0, tR a0), (1, tI a1), (2, tI a2)] []
  refine fk_widen (cs2 := n1 - n1) (sl2 := k1 - k1) (Nat.zero_le _) (Nat.zero_le _) ?_
  unfold f_X3_begins at hf
  have h01 : n1 ≤ n1 := Nat.le_refl _
  have h02 : k1 ≤ k1 := Nat.le_refl _
  refine fk_iload_n X 1 dX3_begins_0 rfl ?_
  refine fk_iload_n X 2 dX3_begins_1 rfl ?_
  refine fk_icmp_ne' X 10 dX3_begins_2 rfl hf (fun hf => ?_) (fun hf => ?_)
  · have hn : n1 ≤ n1 := by omega
    have hk : k1 ≤ k1 := by omega
    exact fk_cut' (w_X3_begins_J10 X Y a0 n1 k1 hn hk m0 hf) [0] rfl
  · refine fk_aload_n X 0 dX3_begins_5 rfl ?_
    refine fk_iconst (v := 5) X dX3_begins_6 rfl ?_
    obtain ⟨u1, hq, hf⟩ := bI hf
    obtain ⟨m2, hv, hf⟩ := bI hf
    have hm : n1 ≤ nF ∧ k1 ≤ kF := Mo3.use hf ((mo_X3_begins_J10 G.2.2 a0 n1 k1 m2))
    refine fk_callV0V (ci := 2) (rest := []) X hq rfl (c_X3_wrong hv) n_X3_wrong q658 q660 qs4 q127 q661 rfl dX3_begins_7 rfl rfl rfl rfl rfl (by omega) (by omega) ?_
    have hn : n1 ≤ n1 := by omega
    have hk : k1 ≤ k1 := by omega
    exact fk_cut' (w_X3_begins_J10 X Y a0 n1 k1 hn hk m2 hf) [0] rfl
/-! FigureKnee$Token isName ()Z -/
theorem n_X6_isName : fk_N yX6_isName 0 := ⟨by decide +kernel, by decide +kernel, by decide +kernel, by decide +kernel⟩
def f_X6_isName_J161 (g : Nat → Nat) (x2 : Int32) (m0 : fk_M) : Option (Int32 × fk_M) :=
  if x2 = 0 then (some (0, m0)) else (if x2 = 1 then (some (0, m0)) else (if x2 = 2 then (some (0, m0)) else (if x2 = 3 then (some (0, m0)) else (if x2 = 4 then (some (0, m0)) else (if x2 = 5 then (some (0, m0)) else (some (1, m0)))))))
set_option maxHeartbeats 4000000 in
theorem w_X6_isName_J161 {E : fk_E} {l : Launch} {G : fk_G} {b0 n : Nat} {r : Int32} {mF : fk_M} (X : fk_X E l G b0 "FigureKnee$Token" "isName" cX6_isName 3 5 150 0 0) (Y : fk_Y E (some .boolean) (some (tI r)) n mF 0 0) (x2 : Int32)  (m0 : fk_M) (hf : f_X6_isName_J161 G.2.2 x2 m0 = some (r, mF)) : fk_W E 3 n m0 0 0 161 [(2, tI x2)] [] := by
  unfold f_X6_isName_J161 at hf
  refine fk_iload_n X 0 dX6_isName_161 rfl ?_
  by_cases hs1 : x2 = 0
  · rw [if_pos hs1] at hf
    refine fk_tableIn X 200 dX6_isName_162 (by rw [hs1]; decide) (by rw [hs1]; decide) (by rw [hs1]; rfl) rfl ?_
    refine fk_iconst (v := 0) X dX6_isName_200 rfl ?_
    cases hf
    exact fk_ireturn X Y dX6_isName_201 (by decide +kernel)
  rw [if_neg hs1] at hf
  by_cases hs2 : x2 = 1
  · rw [if_pos hs2] at hf
    refine fk_tableIn X 200 dX6_isName_162 (by rw [hs2]; decide) (by rw [hs2]; decide) (by rw [hs2]; rfl) rfl ?_
    refine fk_iconst (v := 0) X dX6_isName_200 rfl ?_
    cases hf
    exact fk_ireturn X Y dX6_isName_201 (by decide +kernel)
  rw [if_neg hs2] at hf
  by_cases hs3 : x2 = 2
  · rw [if_pos hs3] at hf
    refine fk_tableIn X 200 dX6_isName_162 (by rw [hs3]; decide) (by rw [hs3]; decide) (by rw [hs3]; rfl) rfl ?_
    refine fk_iconst (v := 0) X dX6_isName_200 rfl ?_
    cases hf
    exact fk_ireturn X Y dX6_isName_201 (by decide +kernel)
  rw [if_neg hs3] at hf
  by_cases hs4 : x2 = 3
  · rw [if_pos hs4] at hf
    refine fk_tableIn X 200 dX6_isName_162 (by rw [hs4]; decide) (by rw [hs4]; decide) (by rw [hs4]; rfl) rfl ?_
    refine fk_iconst (v := 0) X dX6_isName_200 rfl ?_
    cases hf
    exact fk_ireturn X Y dX6_isName_201 (by decide +kernel)
  rw [if_neg hs4] at hf
  by_cases hs5 : x2 = 4
  · rw [if_pos hs5] at hf
    refine fk_tableIn X 200 dX6_isName_162 (by rw [hs5]; decide) (by rw [hs5]; decide) (by rw [hs5]; rfl) rfl ?_
    refine fk_iconst (v := 0) X dX6_isName_200 rfl ?_
    cases hf
    exact fk_ireturn X Y dX6_isName_201 (by decide +kernel)
  rw [if_neg hs5] at hf
  by_cases hs6 : x2 = 5
  · rw [if_pos hs6] at hf
    refine fk_tableIn X 200 dX6_isName_162 (by rw [hs6]; decide) (by rw [hs6]; decide) (by rw [hs6]; rfl) rfl ?_
    refine fk_iconst (v := 0) X dX6_isName_200 rfl ?_
    cases hf
    exact fk_ireturn X Y dX6_isName_201 (by decide +kernel)
  rw [if_neg hs6] at hf
  refine fk_tableOut X 202 dX6_isName_162 (by have e0 := lv_neT hs1 (show (0 : Int32).toInt = 0 from by decide); have e1 := lv_neT hs2 (show (1 : Int32).toInt = 1 from by decide); have e2 := lv_neT hs3 (show (2 : Int32).toInt = 2 from by decide); have e3 := lv_neT hs4 (show (3 : Int32).toInt = 3 from by decide); have e4 := lv_neT hs5 (show (4 : Int32).toInt = 4 from by decide); have e5 := lv_neT hs6 (show (5 : Int32).toInt = 5 from by decide); omega) rfl ?_
  refine fk_iconst (v := 1) X dX6_isName_202 rfl ?_
  cases hf
  exact fk_ireturn X Y dX6_isName_203 (by decide +kernel)
def f_X6_isName (g : Nat → Nat) (a0 : Option Nat) (m0 : fk_M) : Option (Int32 × fk_M) :=
  (gI m0 a0 5 0).bind fun z1 => if z1 = 2 then ((gR m0 a0 5 3).bind fun z2 => (isO m0 z2 16).bind fun u3 => bn2 (f_J5_hashCode z2 m0) fun z4 m5 => if z4 = (-840227282) then ((isO m5 z2 16).bind fun u6 => (f_J5_equals z2 (some (g 14)) m5).bind fun z7 => f_X6_isName_J161 g (if z7 = 0 then ((-1) : Int32) else 4) m5) else (if z4 = (-566947566) then ((isO m5 z2 16).bind fun u8 => (f_J5_equals z2 (some (g 12)) m5).bind fun z9 => f_X6_isName_J161 g (if z9 = 0 then ((-1) : Int32) else 2) m5) else (if z4 = 3079315 then ((isO m5 z2 16).bind fun u10 => (f_J5_equals z2 (some (g 13)) m5).bind fun z11 => f_X6_isName_J161 g (if z11 = 0 then ((-1) : Int32) else 3) m5) else (if z4 = 3433178 then ((isO m5 z2 16).bind fun u12 => (f_J5_equals z2 (some (g 11)) m5).bind fun z13 => f_X6_isName_J161 g (if z13 = 0 then ((-1) : Int32) else 1) m5) else (if z4 = 3440742 then ((isO m5 z2 16).bind fun u14 => (f_J5_equals z2 (some (g 10)) m5).bind fun z15 => f_X6_isName_J161 g (if z15 = 0 then ((-1) : Int32) else 0) m5) else (if z4 = 99151926 then ((isO m5 z2 16).bind fun u16 => (f_J5_equals z2 (some (g 15)) m5).bind fun z17 => f_X6_isName_J161 g (if z17 = 0 then ((-1) : Int32) else 5) m5) else (f_X6_isName_J161 g (-1) m5))))))) else (some (0, m0))
set_option maxHeartbeats 4000000 in
theorem c_X6_isName {l : Launch} {G : fk_G} {b0 : Nat} {n : Nat} {a0 : Option Nat} {m0 : fk_M} {r : Int32} {mF : fk_M} (hf : f_X6_isName G.2.2 a0 m0 = some (r, mF)) : fk_Ct l G b0 yX6_isName cX6_isName 3 (some .boolean) 5 150 [tR a0] n m0 (some (tI r)) n mF 0 0 := by
  refine fk_enter n_X6_isName.1 rfl ?_
  intro E X0 Y
  have X : fk_X E l G b0 "FigureKnee$Token" "isName" cX6_isName 3 5 150 0 0 := X0
  show fk_W E 3 n m0 0 0 0 [(0, tR a0)] []
  unfold f_X6_isName at hf
  refine fk_aload_n X 0 dX6_isName_0 rfl ?_
  refine fk_getI' X fd_5_0 q353 dX6_isName_1 hf (fun z1 hf => ?_)
  refine fk_iconst (v := 2) X dX6_isName_4 rfl ?_
  refine fk_icmp_eq' X 10 dX6_isName_5 rfl hf (fun hf => ?_) (fun hf => ?_)
  · refine fk_aload_n X 0 dX6_isName_10 rfl ?_
    refine fk_getR' X fd_5_3 q359 dX6_isName_11 hf (fun z2 hf => ?_)
    refine fk_astore_n X [(1, tR z2), (0, tR a0)] dX6_isName_14 rfl rfl ?_
    refine fk_iconst (v := (-1)) X dX6_isName_15 rfl ?_
    refine fk_istore_n X [(2, tI (-1)), (1, tR z2), (0, tR a0)] dX6_isName_16 rfl rfl ?_
    refine fk_aload_n X 1 dX6_isName_17 rfl ?_
    obtain ⟨u3, hq, hf⟩ := bI hf
    obtain ⟨z4, m5, hv, hf⟩ := bn2_eq hf
    refine fk_callV0I (ci := 16) (rest := []) X hq rfl (c_J5_hashCode hv) n_J5_hashCode q710 q588 q589 q133 q590 rfl dX6_isName_18 rfl rfl rfl rfl rfl (Nat.le_refl _) (Nat.le_refl _) ?_
    by_cases hs3 : z4 = (-840227282)
    · rw [if_pos hs3] at hf
      refine fk_lookup (off := 115) X 136 dX6_isName_21 (by decide) (by rw [hs3]; decide +kernel) rfl ?_
      refine fk_aload_n X 1 dX6_isName_136 rfl ?_
      refine fk_ldcS (i := 14) X rfl dX6_isName_137 ?_
      obtain ⟨u6, hq, hf⟩ := bI hf
      obtain ⟨z7, hv, hf⟩ := bI hf
      refine fk_callV0I (ci := 16) (rest := []) X hq rfl (c_J5_equals hv) n_J5_equals q683 q642 q643 q133 q644 rfl dX6_isName_139 rfl rfl rfl rfl rfl (Nat.le_refl _) (Nat.le_refl _) ?_
      have J1 : fk_W E 3 n m5 0 0 161 [(2, tI (if z7 = 0 then ((-1) : Int32) else 4))] [] := by
        exact fk_cut' (w_X6_isName_J161 X Y (if z7 = 0 then ((-1) : Int32) else 4) m5 hf) [0] rfl
      refine fk_if_eq X 161 dX6_isName_142 rfl (fun hc2 => ?_) (fun hc2 => ?_)
      · simp only [if_pos hc2] at J1
        exact fk_cut' J1 [0] rfl
      · refine fk_iconst (v := 4) X dX6_isName_145 rfl ?_
        refine fk_istore_n X [(2, tI 4), (1, tR z2), (0, tR a0)] dX6_isName_146 rfl rfl ?_
        refine fk_goto X 161 dX6_isName_147 rfl ?_
        simp only [if_neg hc2] at J1
        exact fk_cut' J1 [0] rfl
    rw [if_neg hs3] at hf
    by_cases hs6 : z4 = (-566947566)
    · rw [if_pos hs6] at hf
      refine fk_lookup (off := 87) X 108 dX6_isName_21 (by decide) (by rw [hs6]; decide +kernel) rfl ?_
      refine fk_aload_n X 1 dX6_isName_108 rfl ?_
      refine fk_ldcS (i := 12) X rfl dX6_isName_109 ?_
      obtain ⟨u8, hq, hf⟩ := bI hf
      obtain ⟨z9, hv, hf⟩ := bI hf
      refine fk_callV0I (ci := 16) (rest := []) X hq rfl (c_J5_equals hv) n_J5_equals q683 q642 q643 q133 q644 rfl dX6_isName_111 rfl rfl rfl rfl rfl (Nat.le_refl _) (Nat.le_refl _) ?_
      have J4 : fk_W E 3 n m5 0 0 161 [(2, tI (if z9 = 0 then ((-1) : Int32) else 2))] [] := by
        exact fk_cut' (w_X6_isName_J161 X Y (if z9 = 0 then ((-1) : Int32) else 2) m5 hf) [0] rfl
      refine fk_if_eq X 161 dX6_isName_114 rfl (fun hc5 => ?_) (fun hc5 => ?_)
      · simp only [if_pos hc5] at J4
        exact fk_cut' J4 [0] rfl
      · refine fk_iconst (v := 2) X dX6_isName_117 rfl ?_
        refine fk_istore_n X [(2, tI 2), (1, tR z2), (0, tR a0)] dX6_isName_118 rfl rfl ?_
        refine fk_goto X 161 dX6_isName_119 rfl ?_
        simp only [if_neg hc5] at J4
        exact fk_cut' J4 [0] rfl
    rw [if_neg hs6] at hf
    by_cases hs9 : z4 = 3079315
    · rw [if_pos hs9] at hf
      refine fk_lookup (off := 101) X 122 dX6_isName_21 (by decide) (by rw [hs9]; decide +kernel) rfl ?_
      refine fk_aload_n X 1 dX6_isName_122 rfl ?_
      refine fk_ldcS (i := 13) X rfl dX6_isName_123 ?_
      obtain ⟨u10, hq, hf⟩ := bI hf
      obtain ⟨z11, hv, hf⟩ := bI hf
      refine fk_callV0I (ci := 16) (rest := []) X hq rfl (c_J5_equals hv) n_J5_equals q683 q642 q643 q133 q644 rfl dX6_isName_125 rfl rfl rfl rfl rfl (Nat.le_refl _) (Nat.le_refl _) ?_
      have J7 : fk_W E 3 n m5 0 0 161 [(2, tI (if z11 = 0 then ((-1) : Int32) else 3))] [] := by
        exact fk_cut' (w_X6_isName_J161 X Y (if z11 = 0 then ((-1) : Int32) else 3) m5 hf) [0] rfl
      refine fk_if_eq X 161 dX6_isName_128 rfl (fun hc8 => ?_) (fun hc8 => ?_)
      · simp only [if_pos hc8] at J7
        exact fk_cut' J7 [0] rfl
      · refine fk_iconst (v := 3) X dX6_isName_131 rfl ?_
        refine fk_istore_n X [(2, tI 3), (1, tR z2), (0, tR a0)] dX6_isName_132 rfl rfl ?_
        refine fk_goto X 161 dX6_isName_133 rfl ?_
        simp only [if_neg hc8] at J7
        exact fk_cut' J7 [0] rfl
    rw [if_neg hs9] at hf
    by_cases hs12 : z4 = 3433178
    · rw [if_pos hs12] at hf
      refine fk_lookup (off := 73) X 94 dX6_isName_21 (by decide) (by rw [hs12]; decide +kernel) rfl ?_
      refine fk_aload_n X 1 dX6_isName_94 rfl ?_
      refine fk_ldcS (i := 11) X rfl dX6_isName_95 ?_
      obtain ⟨u12, hq, hf⟩ := bI hf
      obtain ⟨z13, hv, hf⟩ := bI hf
      refine fk_callV0I (ci := 16) (rest := []) X hq rfl (c_J5_equals hv) n_J5_equals q683 q642 q643 q133 q644 rfl dX6_isName_97 rfl rfl rfl rfl rfl (Nat.le_refl _) (Nat.le_refl _) ?_
      have J10 : fk_W E 3 n m5 0 0 161 [(2, tI (if z13 = 0 then ((-1) : Int32) else 1))] [] := by
        exact fk_cut' (w_X6_isName_J161 X Y (if z13 = 0 then ((-1) : Int32) else 1) m5 hf) [0] rfl
      refine fk_if_eq X 161 dX6_isName_100 rfl (fun hc11 => ?_) (fun hc11 => ?_)
      · simp only [if_pos hc11] at J10
        exact fk_cut' J10 [0] rfl
      · refine fk_iconst (v := 1) X dX6_isName_103 rfl ?_
        refine fk_istore_n X [(2, tI 1), (1, tR z2), (0, tR a0)] dX6_isName_104 rfl rfl ?_
        refine fk_goto X 161 dX6_isName_105 rfl ?_
        simp only [if_neg hc11] at J10
        exact fk_cut' J10 [0] rfl
    rw [if_neg hs12] at hf
    by_cases hs15 : z4 = 3440742
    · rw [if_pos hs15] at hf
      refine fk_lookup (off := 59) X 80 dX6_isName_21 (by decide) (by rw [hs15]; decide +kernel) rfl ?_
      refine fk_aload_n X 1 dX6_isName_80 rfl ?_
      refine fk_ldcS (i := 10) X rfl dX6_isName_81 ?_
      obtain ⟨u14, hq, hf⟩ := bI hf
      obtain ⟨z15, hv, hf⟩ := bI hf
      refine fk_callV0I (ci := 16) (rest := []) X hq rfl (c_J5_equals hv) n_J5_equals q683 q642 q643 q133 q644 rfl dX6_isName_83 rfl rfl rfl rfl rfl (Nat.le_refl _) (Nat.le_refl _) ?_
      have J13 : fk_W E 3 n m5 0 0 161 [(2, tI (if z15 = 0 then ((-1) : Int32) else 0))] [] := by
        exact fk_cut' (w_X6_isName_J161 X Y (if z15 = 0 then ((-1) : Int32) else 0) m5 hf) [0] rfl
      refine fk_if_eq X 161 dX6_isName_86 rfl (fun hc14 => ?_) (fun hc14 => ?_)
      · simp only [if_pos hc14] at J13
        exact fk_cut' J13 [0] rfl
      · refine fk_iconst (v := 0) X dX6_isName_89 rfl ?_
        refine fk_istore_n X [(2, tI 0), (1, tR z2), (0, tR a0)] dX6_isName_90 rfl rfl ?_
        refine fk_goto X 161 dX6_isName_91 rfl ?_
        simp only [if_neg hc14] at J13
        exact fk_cut' J13 [0] rfl
    rw [if_neg hs15] at hf
    by_cases hs18 : z4 = 99151926
    · rw [if_pos hs18] at hf
      refine fk_lookup (off := 129) X 150 dX6_isName_21 (by decide) (by rw [hs18]; decide +kernel) rfl ?_
      refine fk_aload_n X 1 dX6_isName_150 rfl ?_
      refine fk_ldcS (i := 15) X rfl dX6_isName_151 ?_
      obtain ⟨u16, hq, hf⟩ := bI hf
      obtain ⟨z17, hv, hf⟩ := bI hf
      refine fk_callV0I (ci := 16) (rest := []) X hq rfl (c_J5_equals hv) n_J5_equals q683 q642 q643 q133 q644 rfl dX6_isName_153 rfl rfl rfl rfl rfl (Nat.le_refl _) (Nat.le_refl _) ?_
      have J16 : fk_W E 3 n m5 0 0 161 [(2, tI (if z17 = 0 then ((-1) : Int32) else 5))] [] := by
        exact fk_cut' (w_X6_isName_J161 X Y (if z17 = 0 then ((-1) : Int32) else 5) m5 hf) [0] rfl
      refine fk_if_eq X 161 dX6_isName_156 rfl (fun hc17 => ?_) (fun hc17 => ?_)
      · simp only [if_pos hc17] at J16
        exact fk_cut' J16 [0] rfl
      · refine fk_iconst (v := 5) X dX6_isName_159 rfl ?_
        refine fk_istore_n X [(2, tI 5), (1, tR z2), (0, tR a0)] dX6_isName_160 rfl rfl ?_
        simp only [if_neg hc17] at J16
        exact fk_cut' J16 [0] rfl
    rw [if_neg hs18] at hf
    refine fk_lookup (off := 140) X 161 dX6_isName_21 (by decide) (by show Op.lookupswitch.offset [(-840227282, 115), (-566947566, 87), (3079315, 101), (3433178, 73), (3440742, 59), (99151926, 129)] 140 _ = _; rw [lv_osw hs3 (show ((-840227282) : Int32).toInt = (-840227282) from by decide +kernel), lv_osw hs6 (show ((-566947566) : Int32).toInt = (-566947566) from by decide +kernel), lv_osw hs9 (show (3079315 : Int32).toInt = 3079315 from by decide +kernel), lv_osw hs12 (show (3433178 : Int32).toInt = 3433178 from by decide +kernel), lv_osw hs15 (show (3440742 : Int32).toInt = 3440742 from by decide +kernel), lv_osw hs18 (show (99151926 : Int32).toInt = 99151926 from by decide +kernel)]; rfl) rfl ?_
    exact fk_cut' (w_X6_isName_J161 X Y (-1) m5 hf) [0] rfl
  · refine fk_iconst (v := 0) X dX6_isName_8 rfl ?_
    cases hf
    exact fk_ireturn X Y dX6_isName_9 (by decide +kernel)
/-! FigureKnee$Pier find (Ljava/lang/String;)I -/
theorem n_X5_find : fk_N yX5_find 1 := ⟨by decide +kernel, by decide +kernel, by decide +kernel, by decide +kernel⟩
def f_X5_find_L2 (x0 : Option Nat) (x1 : Option Nat) (m : fk_M) : Nat → Int32 → Option Int32
  | 0, _ => none
  | N + 1, x2 =>
  (gR m x0 4 4).bind fun z1 => (isO m z1 14).bind fun u2 => (f_J2_size z1 m).bind fun z3 => if z3 ≤ x2 then (some (-1)) else ((gR m x0 4 4).bind fun z4 => (isO m z4 14).bind fun u5 => (f_J2_get z4 x2 m).bind fun z6 => (cst m z6 6).bind fun _ => (gR m z6 6 0).bind fun z7 => (isO m z7 16).bind fun u8 => (f_J5_equals z7 x1 m).bind fun z9 => if z9 = 0 then (f_X5_find_L2 x0 x1 m N (x2 + 1)) else (some x2))
set_option maxHeartbeats 4000000 in
theorem w_X5_find_L2 {E : fk_E} {l : Launch} {G : fk_G} {b0 n : Nat} {m : fk_M} {r : Int32} (X : fk_X E l G b0 "FigureKnee$Pier" "find" cX5_find 3 4 124 0 0) (Y : fk_Y E (some .int) (some (tI r)) n m 0 0) (x0 : Option Nat) (x1 : Option Nat) : ∀ (N : Nat) (x2 : Int32), f_X5_find_L2 x0 x1 m N x2 = some r → fk_W E 3 n m 0 0 2 [(0, tR x0), (1, tR x1), (2, tI x2)] [] := by
  intro N
  induction N with
  | zero =>
    intro x2 hf
    have hf : (none : Option Int32) = some _ := hf
    cases hf
  | succ N ih =>
    intro x2 hf
    rw [f_X5_find_L2] at hf
    refine fk_iload_n X 2 dX5_find_2 rfl ?_
    refine fk_aload_n X 0 dX5_find_3 rfl ?_
    refine fk_getR' X fd_4_4 q307 dX5_find_4 hf (fun z1 hf => ?_)
    obtain ⟨u2, hq, hf⟩ := bI hf
    obtain ⟨z3, hv, hf⟩ := bI hf
    refine fk_callV0I (ci := 14) (rest := [tI x2]) X hq rfl (c_J2_size hv) n_J2_size q721 q699 q700 q125 q701 rfl dX5_find_7 rfl rfl rfl rfl rfl (Nat.le_refl _) (Nat.le_refl _) ?_
    refine fk_icmp_ge' X 42 dX5_find_10 rfl hf (fun hf => ?_) (fun hf => ?_)
    · refine fk_iconst (v := (-1)) X dX5_find_42 rfl ?_
      cases hf
      exact fk_ireturn X Y dX5_find_43 rfl
    · refine fk_aload_n X 0 dX5_find_13 rfl ?_
      refine fk_getR' X fd_4_4 q307 dX5_find_14 hf (fun z4 hf => ?_)
      refine fk_iload_n X 2 dX5_find_17 rfl ?_
      obtain ⟨u5, hq, hf⟩ := bI hf
      obtain ⟨z6, hv, hf⟩ := bI hf
      refine fk_callV0R (ci := 14) (rest := []) X hq rfl (c_J2_get hv) n_J2_get q722 q723 q724 q125 q725 rfl dX5_find_18 rfl rfl rfl rfl rfl (Nat.le_refl _) (Nat.le_refl _) ?_
      refine fk_cast' (ci := 6) X rfl q734 dX5_find_21 hf (fun hf => ?_)
      refine fk_getR' X fd_6_0 q743 dX5_find_24 hf (fun z7 hf => ?_)
      refine fk_aload_n X 1 dX5_find_27 rfl ?_
      obtain ⟨u8, hq, hf⟩ := bI hf
      obtain ⟨z9, hv, hf⟩ := bI hf
      refine fk_callV0I (ci := 16) (rest := []) X hq rfl (c_J5_equals hv) n_J5_equals q735 q642 q643 q133 q644 rfl dX5_find_28 rfl rfl rfl rfl rfl (Nat.le_refl _) (Nat.le_refl _) ?_
      refine fk_if_eq' X 36 dX5_find_31 rfl hf (fun hf => ?_) (fun hf => ?_)
      · refine fk_iinc X 2 [(2, tI (x2 + 1)), (0, tR x0), (1, tR x1)] dX5_find_36 rfl rfl rfl rfl ?_
        refine fk_goto X 2 dX5_find_39 rfl ?_
        exact fk_cut' (ih (x2 + 1)  hf) [1, 2, 0] rfl
      · refine fk_iload_n X 2 dX5_find_34 rfl ?_
        cases hf
        exact fk_ireturn X Y dX5_find_35 rfl
def f_X5_find (a0 : Option Nat) (a1 : Option Nat) (m : fk_M) : Option Int32 :=
  f_X5_find_L2 a0 a1 m fk_fuel 0
set_option maxHeartbeats 4000000 in
theorem c_X5_find {l : Launch} {G : fk_G} {b0 : Nat} {n : Nat} {a0 : Option Nat} {a1 : Option Nat} {m : fk_M} {r : Int32} (hf : f_X5_find a0 a1 m = some r) : fk_Ct l G b0 yX5_find cX5_find 3 (some .int) 4 124 [tR a0, tR a1] n m (some (tI r)) n m 0 0 := by
  refine fk_enter n_X5_find.1 rfl ?_
  intro E X0 Y
  have X : fk_X E l G b0 "FigureKnee$Pier" "find" cX5_find 3 4 124 0 0 := X0
  show fk_W E 3 n m 0 0 0 [(0, tR a0), (1, tR a1)] []
  unfold f_X5_find at hf
  refine fk_iconst (v := 0) X dX5_find_0 rfl ?_
  refine fk_istore_n X [(2, tI 0), (0, tR a0), (1, tR a1)] dX5_find_1 rfl rfl ?_
  exact fk_cut' (w_X5_find_L2 X Y a0 a1 fk_fuel 0 hf) [1, 2, 0] rfl
/-! FigureKnee$Pair <init> (Ljava/lang/String;)V -/
theorem n_X7_init : fk_N yX7_init 1 := ⟨by decide +kernel, by decide +kernel, by decide +kernel, by decide +kernel⟩
def f_X7_init (a0 : Option Nat) (a1 : Option Nat) (m0 : fk_M) : Option fk_M :=
  (isS a0).bind fun _ => (pV m0 a0 6 0 (tR a1)).bind fun m1 => some m1
set_option maxHeartbeats 4000000 in
theorem c_X7_init {l : Launch} {G : fk_G} {b0 : Nat} {n : Nat} {a0 : Option Nat} {a1 : Option Nat} {m0 : fk_M} {mF : fk_M} (hf : f_X7_init a0 a1 m0 = some mF) : fk_Ct l G b0 yX7_init cX7_init 2 none 1 60 [tR a0, tR a1] n m0 none n mF 0 0 := by
  refine fk_enter n_X7_init.1 rfl ?_
  intro E X0 Y
  have X : fk_X E l G b0 "FigureKnee$Pair" "<init>" cX7_init 2 1 60 0 0 := X0
  show fk_W E 2 n m0 0 0 0 [(0, tR a0), (1, tR a1)] []
  unfold f_X7_init at hf
  refine fk_aload_n X 0 dX7_init_0 rfl ?_
  refine fk_objInit' X q741 q161 q162 dX7_init_1 rfl rfl hf (fun hf => ?_)
  refine fk_aload_n X 0 dX7_init_4 rfl ?_
  refine fk_aload_n X 1 dX7_init_5 rfl ?_
  refine fk_putFR' X fd_6_0 q742 dX7_init_6 (fit_R _) hf (fun m1 hf => ?_)
  cases hf
  exact fk_return X Y dX7_init_9
/-! FigureKnee$Law <init> (I)V -/
theorem n_X8_init : fk_N yX8_init 1 := ⟨by decide +kernel, by decide +kernel, by decide +kernel, by decide +kernel⟩
def f_X8_init (a0 : Option Nat) (a1 : Int32) (m0 : fk_M) : Option fk_M :=
  (isS a0).bind fun _ => (pNum m0 a0 a1).bind fun m1 => some m1
set_option maxHeartbeats 4000000 in
theorem c_X8_init {l : Launch} {G : fk_G} {b0 : Nat} {n : Nat} {a0 : Option Nat} {a1 : Int32} {m0 : fk_M} {mF : fk_M} (hf : f_X8_init a0 a1 m0 = some mF) : fk_Ct l G b0 yX8_init cX8_init 2 none 1 60 [tR a0, tI a1] n m0 none n mF 0 0 := by
  refine fk_enter n_X8_init.1 rfl ?_
  intro E X0 Y
  have X : fk_X E l G b0 "FigureKnee$Law" "<init>" cX8_init 2 1 60 0 0 := X0
  show fk_W E 2 n m0 0 0 0 [(0, tR a0), (1, tI a1)] []
  unfold f_X8_init at hf
  refine fk_aload_n X 0 dX8_init_0 rfl ?_
  refine fk_objInit' X q788 q161 q162 dX8_init_1 rfl rfl hf (fun hf => ?_)
  refine fk_aload_n X 0 dX8_init_4 rfl ?_
  refine fk_iload_n X 1 dX8_init_5 rfl ?_
  refine fk_putNum' X q789 dX8_init_6 hf (fun m1 hf => ?_)
  cases hf
  exact fk_return X Y dX8_init_9
/-! FigureKnee$Creeping <init> (I)V -/
theorem n_X9_init : fk_N yX9_init 1 := ⟨by decide +kernel, by decide +kernel, by decide +kernel, by decide +kernel⟩
def f_X9_init (a0 : Option Nat) (a1 : Int32) (m0 : fk_M) : Option fk_M :=
  (isS a0).bind fun u1 => (f_X8_init a0 a1 m0).bind fun m2 => some m2
set_option maxHeartbeats 4000000 in
theorem c_X9_init {l : Launch} {G : fk_G} {b0 : Nat} {n : Nat} {a0 : Option Nat} {a1 : Int32} {m0 : fk_M} {mF : fk_M} (hf : f_X9_init a0 a1 m0 = some mF) : fk_Ct l G b0 yX9_init cX9_init 2 none 2 81 [tR a0, tI a1] n m0 none n mF 0 0 := by
  refine fk_enter n_X9_init.1 rfl ?_
  intro E X0 Y
  have X : fk_X E l G b0 "FigureKnee$Creeping" "<init>" cX9_init 2 2 81 0 0 := X0
  show fk_W E 2 n m0 0 0 0 [(0, tR a0), (1, tI a1)] []
  unfold f_X9_init at hf
  refine fk_aload_n X 0 dX9_init_0 rfl ?_
  refine fk_iload_n X 1 dX9_init_1 rfl ?_
  obtain ⟨u1, hq, hf⟩ := bI hf
  obtain ⟨m2, hv, hf⟩ := bI hf
  refine fk_callI0V (rest := []) X hq (c_X8_init hv) n_X8_init rfl q785 q786 q143 q787 dX9_init_2 rfl rfl rfl rfl rfl (Nat.le_refl _) (Nat.le_refl _) ?_
  cases hf
  exact fk_return X Y dX9_init_5
/-! FigureKnee$Leaping <init> ()V -/
theorem n_X10_init : fk_N yX10_init 0 := ⟨by decide +kernel, by decide +kernel, by decide +kernel, by decide +kernel⟩
def f_X10_init (a0 : Option Nat) (m0 : fk_M) : Option fk_M :=
  (isS a0).bind fun u1 => (f_X9_init a0 1 m0).bind fun m2 => some m2
set_option maxHeartbeats 4000000 in
theorem c_X10_init {l : Launch} {G : fk_G} {b0 : Nat} {n : Nat} {a0 : Option Nat} {m0 : fk_M} {mF : fk_M} (hf : f_X10_init a0 m0 = some mF) : fk_Ct l G b0 yX10_init cX10_init 1 none 3 102 [tR a0] n m0 none n mF 0 0 := by
  refine fk_enter n_X10_init.1 rfl ?_
  intro E X0 Y
  have X : fk_X E l G b0 "FigureKnee$Leaping" "<init>" cX10_init 1 3 102 0 0 := X0
  show fk_W E 1 n m0 0 0 0 [(0, tR a0)] []
  unfold f_X10_init at hf
  refine fk_aload_n X 0 dX10_init_0 rfl ?_
  refine fk_iconst (v := 1) X dX10_init_1 rfl ?_
  obtain ⟨u1, hq, hf⟩ := bI hf
  obtain ⟨m2, hv, hf⟩ := bI hf
  refine fk_callI0V (rest := []) X hq (c_X9_init hv) n_X9_init rfl q799 q783 q144 q784 dX10_init_2 rfl rfl rfl rfl rfl (Nat.le_refl _) (Nat.le_refl _) ?_
  cases hf
  exact fk_return X Y dX10_init_5
/-! FigureKnee$Fading <init> ()V -/
theorem n_X11_init : fk_N yX11_init 0 := ⟨by decide +kernel, by decide +kernel, by decide +kernel, by decide +kernel⟩
def f_X11_init (a0 : Option Nat) (m0 : fk_M) : Option fk_M :=
  (isS a0).bind fun u1 => (f_X9_init a0 2 m0).bind fun m2 => some m2
set_option maxHeartbeats 4000000 in
theorem c_X11_init {l : Launch} {G : fk_G} {b0 : Nat} {n : Nat} {a0 : Option Nat} {m0 : fk_M} {mF : fk_M} (hf : f_X11_init a0 m0 = some mF) : fk_Ct l G b0 yX11_init cX11_init 1 none 3 102 [tR a0] n m0 none n mF 0 0 := by
  refine fk_enter n_X11_init.1 rfl ?_
  intro E X0 Y
  have X : fk_X E l G b0 "FigureKnee$Fading" "<init>" cX11_init 1 3 102 0 0 := X0
  show fk_W E 1 n m0 0 0 0 [(0, tR a0)] []
  unfold f_X11_init at hf
  refine fk_aload_n X 0 dX11_init_0 rfl ?_
  refine fk_iconst (v := 2) X dX11_init_1 rfl ?_
  obtain ⟨u1, hq, hf⟩ := bI hf
  obtain ⟨m2, hv, hf⟩ := bI hf
  refine fk_callI0V (rest := []) X hq (c_X9_init hv) n_X9_init rfl q807 q783 q144 q784 dX11_init_2 rfl rfl rfl rfl rfl (Nat.le_refl _) (Nat.le_refl _) ?_
  cases hf
  exact fk_return X Y dX11_init_5
/-! FigureKnee$Swinging <init> ()V -/
theorem n_X12_init : fk_N yX12_init 0 := ⟨by decide +kernel, by decide +kernel, by decide +kernel, by decide +kernel⟩
def f_X12_init (a0 : Option Nat) (m0 : fk_M) : Option fk_M :=
  (isS a0).bind fun u1 => (f_X9_init a0 3 m0).bind fun m2 => some m2
set_option maxHeartbeats 4000000 in
theorem c_X12_init {l : Launch} {G : fk_G} {b0 : Nat} {n : Nat} {a0 : Option Nat} {m0 : fk_M} {mF : fk_M} (hf : f_X12_init a0 m0 = some mF) : fk_Ct l G b0 yX12_init cX12_init 1 none 3 102 [tR a0] n m0 none n mF 0 0 := by
  refine fk_enter n_X12_init.1 rfl ?_
  intro E X0 Y
  have X : fk_X E l G b0 "FigureKnee$Swinging" "<init>" cX12_init 1 3 102 0 0 := X0
  show fk_W E 1 n m0 0 0 0 [(0, tR a0)] []
  unfold f_X12_init at hf
  refine fk_aload_n X 0 dX12_init_0 rfl ?_
  refine fk_iconst (v := 3) X dX12_init_1 rfl ?_
  obtain ⟨u1, hq, hf⟩ := bI hf
  obtain ⟨m2, hv, hf⟩ := bI hf
  refine fk_callI0V (rest := []) X hq (c_X9_init hv) n_X9_init rfl q815 q783 q144 q784 dX12_init_2 rfl rfl rfl rfl rfl (Nat.le_refl _) (Nat.le_refl _) ?_
  cases hf
  exact fk_return X Y dX12_init_5
/-! FigureKnee$Reader law ()LFigureKnee$Law; -/
theorem n_X3_law : fk_N yX3_law 0 := ⟨by decide +kernel, by decide +kernel, by decide +kernel, by decide +kernel⟩
def f_X3_law_J125 (g : Nat → Nat) (x0 : Option Nat) (x2 : Int32) (n1 k1 : Nat) (m0 : fk_M) : Option ((Option Nat) × Nat × Nat × fk_M) :=
  if x2 = 0 then ((isS (some n1)).bind fun u2 => (f_X9_init (some n1) 0 (fk_up m0 n1 (oB 7 (fk_V0 tyX9)))).bind fun m3 => some ((some n1), (n1 + 1), (k1 + 1), m3)) else (if x2 = 1 then ((isS (some n1)).bind fun u5 => (f_X10_init (some n1) (fk_up m0 n1 (oB 8 (fk_V0 tyX10)))).bind fun m6 => some ((some n1), (n1 + 1), (k1 + 1), m6)) else (if x2 = 2 then ((isS (some n1)).bind fun u8 => (f_X11_init (some n1) (fk_up m0 n1 (oB 9 (fk_V0 tyX11)))).bind fun m9 => some ((some n1), (n1 + 1), (k1 + 1), m9)) else (if x2 = 3 then ((isS (some n1)).bind fun u11 => (f_X12_init (some n1) (fk_up m0 n1 (oB 10 (fk_V0 tyX12)))).bind fun m12 => some ((some n1), (n1 + 1), (k1 + 1), m12)) else ((isO m0 x0 2).bind fun u13 => (f_X3_wrong x0 1 m0).bind fun m14 => some (none, n1, k1, m14)))))
theorem mo_X3_law_J125 (g : Nat → Nat) (x0 : Option Nat) (x2 : Int32) (n1 k1 : Nat) (m0 : fk_M) : Mo4 n1 k1 (f_X3_law_J125 g x0 x2 n1 k1 m0) := by
  unfold f_X3_law_J125
  exact Mo4.ite (Mo4.le (n1 := (n1 + 1)) (k1 := (k1 + 1)) (Mo4.bind (fun u2 => Mo4.bind (fun m3 => Mo4.ok (by omega) (by omega)))) (by omega) (by omega)) (Mo4.ite (Mo4.le (n1 := (n1 + 1)) (k1 := (k1 + 1)) (Mo4.bind (fun u5 => Mo4.bind (fun m6 => Mo4.ok (by omega) (by omega)))) (by omega) (by omega)) (Mo4.ite (Mo4.le (n1 := (n1 + 1)) (k1 := (k1 + 1)) (Mo4.bind (fun u8 => Mo4.bind (fun m9 => Mo4.ok (by omega) (by omega)))) (by omega) (by omega)) (Mo4.ite (Mo4.le (n1 := (n1 + 1)) (k1 := (k1 + 1)) (Mo4.bind (fun u11 => Mo4.bind (fun m12 => Mo4.ok (by omega) (by omega)))) (by omega) (by omega)) (Mo4.bind (fun u13 => Mo4.bind (fun m14 => Mo4.ok (by omega) (by omega)))))))
set_option maxHeartbeats 4000000 in
theorem w_X3_law_J125 {E : fk_E} {l : Launch} {G : fk_G} {b0 n0 k0 nF kF : Nat} {r : Option Nat} {mF : fk_M} (X : fk_X E l G b0 "FigureKnee$Reader" "law" cX3_law 3 5 150 (nF - n0) (kF - k0)) (Y : fk_Y E (some (.object "FigureKnee$Law")) (some (tR r)) nF mF (nF - n0) (kF - k0)) (x0 : Option Nat) (x2 : Int32)  (n1 k1 : Nat) (hn1 : n0 ≤ n1) (hk1 : k0 ≤ k1) (m0 : fk_M) (hf : f_X3_law_J125 G.2.2 x0 x2 n1 k1 m0 = some (r, nF, kF, mF)) : fk_W E 3 n1 m0 (n1 - n0) (k1 - k0) 125 [(0, tR x0), (2, tI x2)] [] := by
  unfold f_X3_law_J125 at hf
  refine fk_iload_n X 1 dX3_law_125 rfl ?_
  by_cases hs1 : x2 = 0
  · rw [if_pos hs1] at hf
    refine fk_tableIn X 156 dX3_law_126 (by rw [hs1]; decide) (by rw [hs1]; decide) (by rw [hs1]; rfl) rfl ?_
    have hm : (n1 + 1) ≤ nF ∧ (k1 + 1) ≤ kF := Mo4.use hf (Mo4.bind (fun u2 => Mo4.bind (fun m3 => Mo4.ok (by omega) (by omega))))
    refine fk_new (cs2 := (n1 + 1) - n0) (sl2 := (k1 + 1) - k0) X cl_7 q780 dX3_law_156 (by omega) (by omega) (by omega) (by omega) ?_
    refine fk_dup X dX3_law_159 rfl ?_
    refine fk_iconst (v := 0) X dX3_law_160 rfl ?_
    obtain ⟨u2, hq, hf⟩ := bI hf
    obtain ⟨m3, hv, hf⟩ := bI hf
    have hm : (n1 + 1) ≤ nF ∧ (k1 + 1) ≤ kF := Mo4.use hf (Mo4.ok (by omega) (by omega))
    refine fk_callI0V (rest := [tR (some n1)]) X hq (c_X9_init hv) n_X9_init rfl q782 q783 q144 q784 dX3_law_161 rfl rfl rfl rfl rfl (by omega) (by omega) ?_
    cases hf
    exact fk_areturn X Y dX3_law_164 (by first | exact Or.inl ⟨_, rfl⟩ | exact Or.inr ⟨_, rfl⟩)
  rw [if_neg hs1] at hf
  by_cases hs2 : x2 = 1
  · rw [if_pos hs2] at hf
    refine fk_tableIn X 165 dX3_law_126 (by rw [hs2]; decide) (by rw [hs2]; decide) (by rw [hs2]; rfl) rfl ?_
    have hm : (n1 + 1) ≤ nF ∧ (k1 + 1) ≤ kF := Mo4.use hf (Mo4.bind (fun u5 => Mo4.bind (fun m6 => Mo4.ok (by omega) (by omega))))
    refine fk_new (cs2 := (n1 + 1) - n0) (sl2 := (k1 + 1) - k0) X cl_8 q794 dX3_law_165 (by omega) (by omega) (by omega) (by omega) ?_
    refine fk_dup X dX3_law_168 rfl ?_
    obtain ⟨u5, hq, hf⟩ := bI hf
    obtain ⟨m6, hv, hf⟩ := bI hf
    have hm : (n1 + 1) ≤ nF ∧ (k1 + 1) ≤ kF := Mo4.use hf (Mo4.ok (by omega) (by omega))
    refine fk_callI0V (rest := [tR (some n1)]) X hq (c_X10_init hv) n_X10_init rfl q796 q797 q145 q798 dX3_law_169 rfl rfl rfl rfl rfl (by omega) (by omega) ?_
    cases hf
    exact fk_areturn X Y dX3_law_172 (by first | exact Or.inl ⟨_, rfl⟩ | exact Or.inr ⟨_, rfl⟩)
  rw [if_neg hs2] at hf
  by_cases hs3 : x2 = 2
  · rw [if_pos hs3] at hf
    refine fk_tableIn X 173 dX3_law_126 (by rw [hs3]; decide) (by rw [hs3]; decide) (by rw [hs3]; rfl) rfl ?_
    have hm : (n1 + 1) ≤ nF ∧ (k1 + 1) ≤ kF := Mo4.use hf (Mo4.bind (fun u8 => Mo4.bind (fun m9 => Mo4.ok (by omega) (by omega))))
    refine fk_new (cs2 := (n1 + 1) - n0) (sl2 := (k1 + 1) - k0) X cl_9 q802 dX3_law_173 (by omega) (by omega) (by omega) (by omega) ?_
    refine fk_dup X dX3_law_176 rfl ?_
    obtain ⟨u8, hq, hf⟩ := bI hf
    obtain ⟨m9, hv, hf⟩ := bI hf
    have hm : (n1 + 1) ≤ nF ∧ (k1 + 1) ≤ kF := Mo4.use hf (Mo4.ok (by omega) (by omega))
    refine fk_callI0V (rest := [tR (some n1)]) X hq (c_X11_init hv) n_X11_init rfl q804 q805 q146 q806 dX3_law_177 rfl rfl rfl rfl rfl (by omega) (by omega) ?_
    cases hf
    exact fk_areturn X Y dX3_law_180 (by first | exact Or.inl ⟨_, rfl⟩ | exact Or.inr ⟨_, rfl⟩)
  rw [if_neg hs3] at hf
  by_cases hs4 : x2 = 3
  · rw [if_pos hs4] at hf
    refine fk_tableIn X 181 dX3_law_126 (by rw [hs4]; decide) (by rw [hs4]; decide) (by rw [hs4]; rfl) rfl ?_
    have hm : (n1 + 1) ≤ nF ∧ (k1 + 1) ≤ kF := Mo4.use hf (Mo4.bind (fun u11 => Mo4.bind (fun m12 => Mo4.ok (by omega) (by omega))))
    refine fk_new (cs2 := (n1 + 1) - n0) (sl2 := (k1 + 1) - k0) X cl_10 q810 dX3_law_181 (by omega) (by omega) (by omega) (by omega) ?_
    refine fk_dup X dX3_law_184 rfl ?_
    obtain ⟨u11, hq, hf⟩ := bI hf
    obtain ⟨m12, hv, hf⟩ := bI hf
    have hm : (n1 + 1) ≤ nF ∧ (k1 + 1) ≤ kF := Mo4.use hf (Mo4.ok (by omega) (by omega))
    refine fk_callI0V (rest := [tR (some n1)]) X hq (c_X12_init hv) n_X12_init rfl q812 q813 q147 q814 dX3_law_185 rfl rfl rfl rfl rfl (by omega) (by omega) ?_
    cases hf
    exact fk_areturn X Y dX3_law_188 (by first | exact Or.inl ⟨_, rfl⟩ | exact Or.inr ⟨_, rfl⟩)
  rw [if_neg hs4] at hf
  refine fk_tableOut X 189 dX3_law_126 (by have e0 := lv_neT hs1 (show (0 : Int32).toInt = 0 from by decide); have e1 := lv_neT hs2 (show (1 : Int32).toInt = 1 from by decide); have e2 := lv_neT hs3 (show (2 : Int32).toInt = 2 from by decide); have e3 := lv_neT hs4 (show (3 : Int32).toInt = 3 from by decide); omega) rfl ?_
  refine fk_aload_n X 0 dX3_law_189 rfl ?_
  refine fk_iconst (v := 1) X dX3_law_190 rfl ?_
  obtain ⟨u13, hq, hf⟩ := bI hf
  obtain ⟨m14, hv, hf⟩ := bI hf
  have hm : n1 ≤ nF ∧ k1 ≤ kF := Mo4.use hf (Mo4.ok (by omega) (by omega))
  refine fk_callV0V (ci := 2) (rest := []) X hq rfl (c_X3_wrong hv) n_X3_wrong q658 q660 qs4 q127 q661 rfl dX3_law_191 rfl rfl rfl rfl rfl (by omega) (by omega) ?_
  refine fk_null X dX3_law_194 ?_
  cases hf
  exact fk_areturn X Y dX3_law_195 (by first | exact Or.inl ⟨_, rfl⟩ | exact Or.inr ⟨_, rfl⟩)
def f_X3_law_J23 (g : Nat → Nat) (x0 : Option Nat) (y0 : Option Nat) (n1 k1 : Nat) (m0 : fk_M) : Option ((Option Nat) × Nat × Nat × fk_M) :=
  (isO m0 y0 16).bind fun u1 => bn2 (f_J5_hashCode y0 m0) fun z2 m3 => if z2 = (-1282128839) then ((isO m3 y0 16).bind fun u4 => (f_J5_equals y0 (some (g 18)) m3).bind fun z5 => f_X3_law_J125 g x0 (if z5 = 0 then ((-1) : Int32) else 2) n1 k1 m3) else (if z2 = (-90697692) then ((isO m3 y0 16).bind fun u6 => (f_J5_equals y0 (some (g 19)) m3).bind fun z7 => f_X3_law_J125 g x0 (if z7 = 0 then ((-1) : Int32) else 3) n1 k1 m3) else (if z2 = 50716538 then ((isO m3 y0 16).bind fun u8 => (f_J5_equals y0 (some (g 17)) m3).bind fun z9 => f_X3_law_J125 g x0 (if z9 = 0 then ((-1) : Int32) else 1) n1 k1 m3) else (if z2 = 1823996737 then ((isO m3 y0 16).bind fun u10 => (f_J5_equals y0 (some (g 16)) m3).bind fun z11 => f_X3_law_J125 g x0 (if z11 = 0 then ((-1) : Int32) else 0) n1 k1 m3) else (f_X3_law_J125 g x0 (-1) n1 k1 m3))))
theorem mo_X3_law_J23 (g : Nat → Nat) (x0 : Option Nat) (y0 : Option Nat) (n1 k1 : Nat) (m0 : fk_M) : Mo4 n1 k1 (f_X3_law_J23 g x0 y0 n1 k1 m0) := by
  unfold f_X3_law_J23
  exact Mo4.bind (fun u1 => Mo4.bn2 (fun z2 m3 => Mo4.ite (Mo4.bind (fun u4 => Mo4.bind (fun z5 => (mo_X3_law_J125 g x0 (if z5 = 0 then ((-1) : Int32) else 2) n1 k1 m3)))) (Mo4.ite (Mo4.bind (fun u6 => Mo4.bind (fun z7 => (mo_X3_law_J125 g x0 (if z7 = 0 then ((-1) : Int32) else 3) n1 k1 m3)))) (Mo4.ite (Mo4.bind (fun u8 => Mo4.bind (fun z9 => (mo_X3_law_J125 g x0 (if z9 = 0 then ((-1) : Int32) else 1) n1 k1 m3)))) (Mo4.ite (Mo4.bind (fun u10 => Mo4.bind (fun z11 => (mo_X3_law_J125 g x0 (if z11 = 0 then ((-1) : Int32) else 0) n1 k1 m3)))) ((mo_X3_law_J125 g x0 (-1) n1 k1 m3)))))))
set_option maxHeartbeats 4000000 in
theorem w_X3_law_J23 {E : fk_E} {l : Launch} {G : fk_G} {b0 n0 k0 nF kF : Nat} {r : Option Nat} {mF : fk_M} (X : fk_X E l G b0 "FigureKnee$Reader" "law" cX3_law 3 5 150 (nF - n0) (kF - k0)) (Y : fk_Y E (some (.object "FigureKnee$Law")) (some (tR r)) nF mF (nF - n0) (kF - k0)) (x0 : Option Nat) (y0 : Option Nat) (n1 k1 : Nat) (hn1 : n0 ≤ n1) (hk1 : k0 ≤ k1) (m0 : fk_M) (hf : f_X3_law_J23 G.2.2 x0 y0 n1 k1 m0 = some (r, nF, kF, mF)) : fk_W E 3 n1 m0 (n1 - n0) (k1 - k0) 23 [(0, tR x0)] [tR y0] := by
  unfold f_X3_law_J23 at hf
  refine fk_astore_n X [(1, tR y0), (0, tR x0)] dX3_law_23 rfl rfl ?_
  refine fk_iconst (v := (-1)) X dX3_law_24 rfl ?_
  refine fk_istore_n X [(2, tI (-1)), (1, tR y0), (0, tR x0)] dX3_law_25 rfl rfl ?_
  refine fk_aload_n X 1 dX3_law_26 rfl ?_
  obtain ⟨u1, hq, hf⟩ := bI hf
  obtain ⟨z2, m3, hv, hf⟩ := bn2_eq hf
  have hm : n1 ≤ nF ∧ k1 ≤ kF := Mo4.use hf (Mo4.ite (Mo4.bind (fun u4 => Mo4.bind (fun z5 => (mo_X3_law_J125 G.2.2 x0 (if z5 = 0 then ((-1) : Int32) else 2) n1 k1 m3)))) (Mo4.ite (Mo4.bind (fun u6 => Mo4.bind (fun z7 => (mo_X3_law_J125 G.2.2 x0 (if z7 = 0 then ((-1) : Int32) else 3) n1 k1 m3)))) (Mo4.ite (Mo4.bind (fun u8 => Mo4.bind (fun z9 => (mo_X3_law_J125 G.2.2 x0 (if z9 = 0 then ((-1) : Int32) else 1) n1 k1 m3)))) (Mo4.ite (Mo4.bind (fun u10 => Mo4.bind (fun z11 => (mo_X3_law_J125 G.2.2 x0 (if z11 = 0 then ((-1) : Int32) else 0) n1 k1 m3)))) ((mo_X3_law_J125 G.2.2 x0 (-1) n1 k1 m3))))))
  refine fk_callV0I (ci := 16) (rest := []) X hq rfl (c_J5_hashCode hv) n_J5_hashCode q587 q588 q589 q133 q590 rfl dX3_law_27 rfl rfl rfl rfl rfl (by omega) (by omega) ?_
  by_cases hs3 : z2 = (-1282128839)
  · rw [if_pos hs3] at hf
    refine fk_lookup (off := 70) X 100 dX3_law_30 (by decide) (by rw [hs3]; decide +kernel) rfl ?_
    refine fk_aload_n X 1 dX3_law_100 rfl ?_
    refine fk_ldcS (i := 18) X rfl dX3_law_101 ?_
    obtain ⟨u4, hq, hf⟩ := bI hf
    obtain ⟨z5, hv, hf⟩ := bI hf
    have hm : n1 ≤ nF ∧ k1 ≤ kF := Mo4.use hf ((mo_X3_law_J125 G.2.2 x0 (if z5 = 0 then ((-1) : Int32) else 2) n1 k1 m3))
    refine fk_callV0I (ci := 16) (rest := []) X hq rfl (c_J5_equals hv) n_J5_equals q641 q642 q643 q133 q644 rfl dX3_law_103 rfl rfl rfl rfl rfl (by omega) (by omega) ?_
    have J1 : fk_W E 3 n1 m3 (n1 - n0) (k1 - k0) 125 [(2, tI (if z5 = 0 then ((-1) : Int32) else 2)), (0, tR x0)] [] := by
      have hn : n0 ≤ n1 := by omega
      have hk : k0 ≤ k1 := by omega
      exact fk_cut' (w_X3_law_J125 X Y x0 (if z5 = 0 then ((-1) : Int32) else 2) n1 k1 hn hk m3 hf) [1, 0] rfl
    refine fk_if_eq X 125 dX3_law_106 rfl (fun hc2 => ?_) (fun hc2 => ?_)
    · simp only [if_pos hc2] at J1
      exact fk_cut' J1 [0, 2] rfl
    · refine fk_iconst (v := 2) X dX3_law_109 rfl ?_
      refine fk_istore_n X [(2, tI 2), (1, tR y0), (0, tR x0)] dX3_law_110 rfl rfl ?_
      refine fk_goto X 125 dX3_law_111 rfl ?_
      simp only [if_neg hc2] at J1
      exact fk_cut' J1 [0, 2] rfl
  rw [if_neg hs3] at hf
  by_cases hs6 : z2 = (-90697692)
  · rw [if_pos hs6] at hf
    refine fk_lookup (off := 84) X 114 dX3_law_30 (by decide) (by rw [hs6]; decide +kernel) rfl ?_
    refine fk_aload_n X 1 dX3_law_114 rfl ?_
    refine fk_ldcS (i := 19) X rfl dX3_law_115 ?_
    obtain ⟨u6, hq, hf⟩ := bI hf
    obtain ⟨z7, hv, hf⟩ := bI hf
    have hm : n1 ≤ nF ∧ k1 ≤ kF := Mo4.use hf ((mo_X3_law_J125 G.2.2 x0 (if z7 = 0 then ((-1) : Int32) else 3) n1 k1 m3))
    refine fk_callV0I (ci := 16) (rest := []) X hq rfl (c_J5_equals hv) n_J5_equals q641 q642 q643 q133 q644 rfl dX3_law_117 rfl rfl rfl rfl rfl (by omega) (by omega) ?_
    have J4 : fk_W E 3 n1 m3 (n1 - n0) (k1 - k0) 125 [(2, tI (if z7 = 0 then ((-1) : Int32) else 3)), (0, tR x0)] [] := by
      have hn : n0 ≤ n1 := by omega
      have hk : k0 ≤ k1 := by omega
      exact fk_cut' (w_X3_law_J125 X Y x0 (if z7 = 0 then ((-1) : Int32) else 3) n1 k1 hn hk m3 hf) [1, 0] rfl
    refine fk_if_eq X 125 dX3_law_120 rfl (fun hc5 => ?_) (fun hc5 => ?_)
    · simp only [if_pos hc5] at J4
      exact fk_cut' J4 [0, 2] rfl
    · refine fk_iconst (v := 3) X dX3_law_123 rfl ?_
      refine fk_istore_n X [(2, tI 3), (1, tR y0), (0, tR x0)] dX3_law_124 rfl rfl ?_
      simp only [if_neg hc5] at J4
      exact fk_cut' J4 [0, 2] rfl
  rw [if_neg hs6] at hf
  by_cases hs9 : z2 = 50716538
  · rw [if_pos hs9] at hf
    refine fk_lookup (off := 56) X 86 dX3_law_30 (by decide) (by rw [hs9]; decide +kernel) rfl ?_
    refine fk_aload_n X 1 dX3_law_86 rfl ?_
    refine fk_ldcS (i := 17) X rfl dX3_law_87 ?_
    obtain ⟨u8, hq, hf⟩ := bI hf
    obtain ⟨z9, hv, hf⟩ := bI hf
    have hm : n1 ≤ nF ∧ k1 ≤ kF := Mo4.use hf ((mo_X3_law_J125 G.2.2 x0 (if z9 = 0 then ((-1) : Int32) else 1) n1 k1 m3))
    refine fk_callV0I (ci := 16) (rest := []) X hq rfl (c_J5_equals hv) n_J5_equals q641 q642 q643 q133 q644 rfl dX3_law_89 rfl rfl rfl rfl rfl (by omega) (by omega) ?_
    have J7 : fk_W E 3 n1 m3 (n1 - n0) (k1 - k0) 125 [(2, tI (if z9 = 0 then ((-1) : Int32) else 1)), (0, tR x0)] [] := by
      have hn : n0 ≤ n1 := by omega
      have hk : k0 ≤ k1 := by omega
      exact fk_cut' (w_X3_law_J125 X Y x0 (if z9 = 0 then ((-1) : Int32) else 1) n1 k1 hn hk m3 hf) [1, 0] rfl
    refine fk_if_eq X 125 dX3_law_92 rfl (fun hc8 => ?_) (fun hc8 => ?_)
    · simp only [if_pos hc8] at J7
      exact fk_cut' J7 [0, 2] rfl
    · refine fk_iconst (v := 1) X dX3_law_95 rfl ?_
      refine fk_istore_n X [(2, tI 1), (1, tR y0), (0, tR x0)] dX3_law_96 rfl rfl ?_
      refine fk_goto X 125 dX3_law_97 rfl ?_
      simp only [if_neg hc8] at J7
      exact fk_cut' J7 [0, 2] rfl
  rw [if_neg hs9] at hf
  by_cases hs12 : z2 = 1823996737
  · rw [if_pos hs12] at hf
    refine fk_lookup (off := 42) X 72 dX3_law_30 (by decide) (by rw [hs12]; decide +kernel) rfl ?_
    refine fk_aload_n X 1 dX3_law_72 rfl ?_
    refine fk_ldcS (i := 16) X rfl dX3_law_73 ?_
    obtain ⟨u10, hq, hf⟩ := bI hf
    obtain ⟨z11, hv, hf⟩ := bI hf
    have hm : n1 ≤ nF ∧ k1 ≤ kF := Mo4.use hf ((mo_X3_law_J125 G.2.2 x0 (if z11 = 0 then ((-1) : Int32) else 0) n1 k1 m3))
    refine fk_callV0I (ci := 16) (rest := []) X hq rfl (c_J5_equals hv) n_J5_equals q641 q642 q643 q133 q644 rfl dX3_law_75 rfl rfl rfl rfl rfl (by omega) (by omega) ?_
    have J10 : fk_W E 3 n1 m3 (n1 - n0) (k1 - k0) 125 [(2, tI (if z11 = 0 then ((-1) : Int32) else 0)), (0, tR x0)] [] := by
      have hn : n0 ≤ n1 := by omega
      have hk : k0 ≤ k1 := by omega
      exact fk_cut' (w_X3_law_J125 X Y x0 (if z11 = 0 then ((-1) : Int32) else 0) n1 k1 hn hk m3 hf) [1, 0] rfl
    refine fk_if_eq X 125 dX3_law_78 rfl (fun hc11 => ?_) (fun hc11 => ?_)
    · simp only [if_pos hc11] at J10
      exact fk_cut' J10 [0, 2] rfl
    · refine fk_iconst (v := 0) X dX3_law_81 rfl ?_
      refine fk_istore_n X [(2, tI 0), (1, tR y0), (0, tR x0)] dX3_law_82 rfl rfl ?_
      refine fk_goto X 125 dX3_law_83 rfl ?_
      simp only [if_neg hc11] at J10
      exact fk_cut' J10 [0, 2] rfl
  rw [if_neg hs12] at hf
  refine fk_lookup (off := 95) X 125 dX3_law_30 (by decide) (by show Op.lookupswitch.offset [(-1282128839, 70), (-90697692, 84), (50716538, 56), (1823996737, 42)] 95 _ = _; rw [lv_osw hs3 (show ((-1282128839) : Int32).toInt = (-1282128839) from by decide +kernel), lv_osw hs6 (show ((-90697692) : Int32).toInt = (-90697692) from by decide +kernel), lv_osw hs9 (show (50716538 : Int32).toInt = 50716538 from by decide +kernel), lv_osw hs12 (show (1823996737 : Int32).toInt = 1823996737 from by decide +kernel)]; rfl) rfl ?_
  have hn : n0 ≤ n1 := by omega
  have hk : k0 ≤ k1 := by omega
  exact fk_cut' (w_X3_law_J125 X Y x0 (-1) n1 k1 hn hk m3 hf) [2, 0] rfl
def f_X3_law (g : Nat → Nat) (a0 : Option Nat) (n1 k1 : Nat) (m0 : fk_M) : Option ((Option Nat) × Nat × Nat × fk_M) :=
  (gR m0 a0 2 2).bind fun z1 => (gI m0 z1 5 0).bind fun z2 => if z2 = 2 then ((gR m0 a0 2 2).bind fun z3 => (gR m0 z3 5 3).bind fun z4 => f_X3_law_J23 g a0 z4 n1 k1 m0) else (f_X3_law_J23 g a0 (some (g 1)) n1 k1 m0)
theorem mo_X3_law (g : Nat → Nat) (a0 : Option Nat) (n1 k1 : Nat) (m0 : fk_M) : Mo4 n1 k1 (f_X3_law g a0 n1 k1 m0) := by
  unfold f_X3_law
  exact Mo4.bind (fun z1 => Mo4.bind (fun z2 => Mo4.ite (Mo4.bind (fun z3 => Mo4.bind (fun z4 => (mo_X3_law_J23 g a0 z4 n1 k1 m0)))) ((mo_X3_law_J23 g a0 (some (g 1)) n1 k1 m0))))
set_option maxHeartbeats 4000000 in
theorem c_X3_law {l : Launch} {G : fk_G} {b0 : Nat} {n1 k1 nF kF : Nat} {a0 : Option Nat} {m0 : fk_M} {r : Option Nat} {mF : fk_M} (hf : f_X3_law G.2.2 a0 n1 k1 m0 = some (r, nF, kF, mF)) : fk_Ct l G b0 yX3_law cX3_law 3 (some (.object "FigureKnee$Law")) 5 150 [tR a0] n1 m0 (some (tR r)) nF mF (nF - n1) (kF - k1) := by
  refine fk_enter n_X3_law.1 rfl ?_
  intro E X0 Y
  have X : fk_X E l G b0 "FigureKnee$Reader" "law" cX3_law 3 5 150 (nF - n1) (kF - k1) := X0
  show fk_W E 3 n1 m0 0 0 0 [(0, tR a0)] []
  refine fk_widen (cs2 := n1 - n1) (sl2 := k1 - k1) (Nat.zero_le _) (Nat.zero_le _) ?_
  unfold f_X3_law at hf
  have h01 : n1 ≤ n1 := Nat.le_refl _
  have h02 : k1 ≤ k1 := Nat.le_refl _
  refine fk_aload_n X 0 dX3_law_0 rfl ?_
  refine fk_getR' X fd_2_2 q562 dX3_law_1 hf (fun z1 hf => ?_)
  refine fk_getI' X fd_5_0 q354 dX3_law_4 hf (fun z2 hf => ?_)
  refine fk_iconst (v := 2) X dX3_law_7 rfl ?_
  refine fk_icmp_ne' X 21 dX3_law_8 rfl hf (fun hf => ?_) (fun hf => ?_)
  · refine fk_ldcS (i := 1) X rfl dX3_law_21 ?_
    have hn : n1 ≤ n1 := by omega
    have hk : k1 ≤ k1 := by omega
    exact fk_cut' (w_X3_law_J23 X Y a0 (some (G.2.2 1)) n1 k1 hn hk m0 hf) [0] rfl
  · refine fk_aload_n X 0 dX3_law_11 rfl ?_
    refine fk_getR' X fd_2_2 q562 dX3_law_12 hf (fun z3 hf => ?_)
    refine fk_getR' X fd_5_3 q360 dX3_law_15 hf (fun z4 hf => ?_)
    refine fk_goto X 23 dX3_law_18 rfl ?_
    have hn : n1 ≤ n1 := by omega
    have hk : k1 ≤ k1 := by omega
    exact fk_cut' (w_X3_law_J23 X Y a0 z4 n1 k1 hn hk m0 hf) [0] rfl
/-! FigureKnee$Reader pair ()V -/
theorem n_X3_pair : fk_N yX3_pair 0 := ⟨by decide +kernel, by decide +kernel, by decide +kernel, by decide +kernel⟩
def f_X3_pair_J53 (g : Nat → Nat) (x0 : Option Nat) (n1 k1 : Nat) (m0 : fk_M) : Option (Nat × Nat × fk_M) :=
  (gR (fk_up m0 n1 (oB 6 (fk_V0 tyX7))) x0 2 2).bind fun z2 => (gR (fk_up m0 n1 (oB 6 (fk_V0 tyX7))) z2 5 3).bind fun z3 => (isS (some n1)).bind fun u4 => (f_X7_init (some n1) z3 (fk_up m0 n1 (oB 6 (fk_V0 tyX7)))).bind fun m5 => (isO m5 x0 2).bind fun u6 => bn3 (f_X3_on g x0 (n1 + 1) (k1 + 7) m5) fun n8 k9 m7 => (isO m7 x0 2).bind fun u10 => bn4 (f_X3_law g x0 n8 k9 m7) fun z11 n13 k14 m12 => (pV m12 (some n1) 6 1 (tR z11)).bind fun m15 => (isO m15 x0 2).bind fun u16 => bn3 (f_X3_on g x0 n13 k14 m15) fun n18 k19 m17 => (gR m17 x0 2 1).bind fun z20 => (gI m17 z20 4 0).bind fun z21 => (isO m17 x0 2).bind fun u22 => bn4 (f_X3_part g x0 (some (g 20)) 0 z21 n18 k19 m17) fun z23 n25 k26 m24 => (pV m24 (some n1) 6 2 (tI z23)).bind fun m27 => (isO m27 x0 2).bind fun u28 => bn4 (f_X3_part g x0 (some (g 21)) 0 20 n25 k26 m27) fun z29 n31 k32 m30 => (pV m30 (some n1) 6 3 (tI z29)).bind fun m33 => (isO m33 x0 2).bind fun u34 => (f_X3_isOver x0 m33).bind fun z35 => if z35 = 0 then ((gR m33 x0 2 1).bind fun z36 => (gR m33 z36 4 4).bind fun z37 => (isO m33 z37 14).bind fun u38 => bn4 (f_J2_add g z37 (some n1) n31 k32 m33) fun z39 n41 k42 m40 => some (n41, k42, m40)) else (some (n31, k32, m33))
theorem mo_X3_pair_J53 (g : Nat → Nat) (x0 : Option Nat) (n1 k1 : Nat) (m0 : fk_M) : Mo3 n1 k1 (f_X3_pair_J53 g x0 n1 k1 m0) := by
  unfold f_X3_pair_J53
  exact Mo3.le (n1 := (n1 + 1)) (k1 := (k1 + 7)) (Mo3.bind (fun z2 => Mo3.bind (fun z3 => Mo3.bind (fun u4 => Mo3.bind (fun m5 => Mo3.bind (fun u6 => Mo3.bn3 (mo_X3_on g x0 (n1 + 1) (k1 + 7) m5) (fun n8 k9 m7 => Mo3.bind (fun u10 => Mo3.bn4 (mo_X3_law g x0 n8 k9 m7) (fun z11 n13 k14 m12 => Mo3.bind (fun m15 => Mo3.bind (fun u16 => Mo3.bn3 (mo_X3_on g x0 n13 k14 m15) (fun n18 k19 m17 => Mo3.bind (fun z20 => Mo3.bind (fun z21 => Mo3.bind (fun u22 => Mo3.bn4 (mo_X3_part g x0 (some (g 20)) 0 z21 n18 k19 m17) (fun z23 n25 k26 m24 => Mo3.bind (fun m27 => Mo3.bind (fun u28 => Mo3.bn4 (mo_X3_part g x0 (some (g 21)) 0 20 n25 k26 m27) (fun z29 n31 k32 m30 => Mo3.bind (fun m33 => Mo3.bind (fun u34 => Mo3.bind (fun z35 => Mo3.ite (Mo3.bind (fun z36 => Mo3.bind (fun z37 => Mo3.bind (fun u38 => Mo3.bn4 (mo_J2_add g z37 (some n1) n31 k32 m33) (fun z39 n41 k42 m40 => Mo3.ok (by omega) (by omega)))))) (Mo3.ok (by omega) (by omega)))))))))))))))))))))))) (by omega) (by omega)
set_option maxHeartbeats 4000000 in
theorem w_X3_pair_J53 {E : fk_E} {l : Launch} {G : fk_G} {b0 n0 k0 nF kF : Nat} {mF : fk_M} (X : fk_X E l G b0 "FigureKnee$Reader" "pair" cX3_pair 2 11 280 (nF - n0) (kF - k0)) (Y : fk_Y E none none nF mF (nF - n0) (kF - k0)) (x0 : Option Nat)  (n1 k1 : Nat) (hn1 : n0 ≤ n1) (hk1 : k0 ≤ k1) (m0 : fk_M) (hf : f_X3_pair_J53 G.2.2 x0 n1 k1 m0 = some (nF, kF, mF)) : fk_W E 2 n1 m0 (n1 - n0) (k1 - k0) 53 [(0, tR x0)] [] := by
  unfold f_X3_pair_J53 at hf
  have hm : (n1 + 1) ≤ nF ∧ (k1 + 7) ≤ kF := Mo3.use hf (Mo3.bind (fun z2 => Mo3.bind (fun z3 => Mo3.bind (fun u4 => Mo3.bind (fun m5 => Mo3.bind (fun u6 => Mo3.bn3 (mo_X3_on G.2.2 x0 (n1 + 1) (k1 + 7) m5) (fun n8 k9 m7 => Mo3.bind (fun u10 => Mo3.bn4 (mo_X3_law G.2.2 x0 n8 k9 m7) (fun z11 n13 k14 m12 => Mo3.bind (fun m15 => Mo3.bind (fun u16 => Mo3.bn3 (mo_X3_on G.2.2 x0 n13 k14 m15) (fun n18 k19 m17 => Mo3.bind (fun z20 => Mo3.bind (fun z21 => Mo3.bind (fun u22 => Mo3.bn4 (mo_X3_part G.2.2 x0 (some (G.2.2 20)) 0 z21 n18 k19 m17) (fun z23 n25 k26 m24 => Mo3.bind (fun m27 => Mo3.bind (fun u28 => Mo3.bn4 (mo_X3_part G.2.2 x0 (some (G.2.2 21)) 0 20 n25 k26 m27) (fun z29 n31 k32 m30 => Mo3.bind (fun m33 => Mo3.bind (fun u34 => Mo3.bind (fun z35 => Mo3.ite (Mo3.bind (fun z36 => Mo3.bind (fun z37 => Mo3.bind (fun u38 => Mo3.bn4 (mo_J2_add G.2.2 z37 (some n1) n31 k32 m33) (fun z39 n41 k42 m40 => Mo3.ok (by omega) (by omega)))))) (Mo3.ok (by omega) (by omega))))))))))))))))))))))))
  refine fk_new (cs2 := (n1 + 1) - n0) (sl2 := (k1 + 7) - k0) X cl_6 q736 dX3_pair_53 (by omega) (by omega) (by omega) (by omega) ?_
  refine fk_dup X dX3_pair_56 rfl ?_
  refine fk_aload_n X 0 dX3_pair_57 rfl ?_
  refine fk_getR' X fd_2_2 q562 dX3_pair_58 hf (fun z2 hf => ?_)
  refine fk_getR' X fd_5_3 q360 dX3_pair_61 hf (fun z3 hf => ?_)
  obtain ⟨u4, hq, hf⟩ := bI hf
  obtain ⟨m5, hv, hf⟩ := bI hf
  have hm : (n1 + 1) ≤ nF ∧ (k1 + 7) ≤ kF := Mo3.use hf (Mo3.bind (fun u6 => Mo3.bn3 (mo_X3_on G.2.2 x0 (n1 + 1) (k1 + 7) m5) (fun n8 k9 m7 => Mo3.bind (fun u10 => Mo3.bn4 (mo_X3_law G.2.2 x0 n8 k9 m7) (fun z11 n13 k14 m12 => Mo3.bind (fun m15 => Mo3.bind (fun u16 => Mo3.bn3 (mo_X3_on G.2.2 x0 n13 k14 m15) (fun n18 k19 m17 => Mo3.bind (fun z20 => Mo3.bind (fun z21 => Mo3.bind (fun u22 => Mo3.bn4 (mo_X3_part G.2.2 x0 (some (G.2.2 20)) 0 z21 n18 k19 m17) (fun z23 n25 k26 m24 => Mo3.bind (fun m27 => Mo3.bind (fun u28 => Mo3.bn4 (mo_X3_part G.2.2 x0 (some (G.2.2 21)) 0 20 n25 k26 m27) (fun z29 n31 k32 m30 => Mo3.bind (fun m33 => Mo3.bind (fun u34 => Mo3.bind (fun z35 => Mo3.ite (Mo3.bind (fun z36 => Mo3.bind (fun z37 => Mo3.bind (fun u38 => Mo3.bn4 (mo_J2_add G.2.2 z37 (some n1) n31 k32 m33) (fun z39 n41 k42 m40 => Mo3.ok (by omega) (by omega)))))) (Mo3.ok (by omega) (by omega))))))))))))))))))))
  refine fk_callI0V (rest := [tR (some n1)]) X hq (c_X7_init hv) n_X7_init rfl q738 q739 q142 q740 dX3_pair_64 rfl rfl rfl rfl rfl (by omega) (by omega) ?_
  refine fk_astore_n X [(1, tR (some n1)), (0, tR x0)] dX3_pair_67 rfl rfl ?_
  refine fk_aload_n X 1 dX3_pair_68 rfl ?_
  obtain ⟨u6, hq, hf⟩ := bI hf
  obtain ⟨n8, k9, m7, hv, hf⟩ := bn3_eq hf
  have hmc := mo_X3_on G.2.2 x0 (n1 + 1) (k1 + 7) m5 _ _ _ hv
  have hm : n8 ≤ nF ∧ k9 ≤ kF := Mo3.use hf (Mo3.bind (fun u10 => Mo3.bn4 (mo_X3_law G.2.2 x0 n8 k9 m7) (fun z11 n13 k14 m12 => Mo3.bind (fun m15 => Mo3.bind (fun u16 => Mo3.bn3 (mo_X3_on G.2.2 x0 n13 k14 m15) (fun n18 k19 m17 => Mo3.bind (fun z20 => Mo3.bind (fun z21 => Mo3.bind (fun u22 => Mo3.bn4 (mo_X3_part G.2.2 x0 (some (G.2.2 20)) 0 z21 n18 k19 m17) (fun z23 n25 k26 m24 => Mo3.bind (fun m27 => Mo3.bind (fun u28 => Mo3.bn4 (mo_X3_part G.2.2 x0 (some (G.2.2 21)) 0 20 n25 k26 m27) (fun z29 n31 k32 m30 => Mo3.bind (fun m33 => Mo3.bind (fun u34 => Mo3.bind (fun z35 => Mo3.ite (Mo3.bind (fun z36 => Mo3.bind (fun z37 => Mo3.bind (fun u38 => Mo3.bn4 (mo_J2_add G.2.2 z37 (some n1) n31 k32 m33) (fun z39 n41 k42 m40 => Mo3.ok (by omega) (by omega)))))) (Mo3.ok (by omega) (by omega))))))))))))))))))
  refine fk_callV1V (ci := 2) (rest := []) (cs2 := n8 - n0) (sl2 := k9 - k0) X hq rfl (c_X3_on hv) n_X3_on q666 q668 qs6 q127 q669 rfl dX3_pair_69 rfl rfl rfl rfl rfl (by omega) (by omega) (by omega) (by omega) ?_
  refine fk_aload_n X 0 dX3_pair_72 rfl ?_
  refine fk_aload_n X 1 dX3_pair_73 rfl ?_
  obtain ⟨u10, hq, hf⟩ := bI hf
  obtain ⟨z11, n13, k14, m12, hv, hf⟩ := bn4_eq hf
  have hmc := mo_X3_law G.2.2 x0 n8 k9 m7 _ _ _ _ hv
  have hm : n13 ≤ nF ∧ k14 ≤ kF := Mo3.use hf (Mo3.bind (fun m15 => Mo3.bind (fun u16 => Mo3.bn3 (mo_X3_on G.2.2 x0 n13 k14 m15) (fun n18 k19 m17 => Mo3.bind (fun z20 => Mo3.bind (fun z21 => Mo3.bind (fun u22 => Mo3.bn4 (mo_X3_part G.2.2 x0 (some (G.2.2 20)) 0 z21 n18 k19 m17) (fun z23 n25 k26 m24 => Mo3.bind (fun m27 => Mo3.bind (fun u28 => Mo3.bn4 (mo_X3_part G.2.2 x0 (some (G.2.2 21)) 0 20 n25 k26 m27) (fun z29 n31 k32 m30 => Mo3.bind (fun m33 => Mo3.bind (fun u34 => Mo3.bind (fun z35 => Mo3.ite (Mo3.bind (fun z36 => Mo3.bind (fun z37 => Mo3.bind (fun u38 => Mo3.bn4 (mo_J2_add G.2.2 z37 (some n1) n31 k32 m33) (fun z39 n41 k42 m40 => Mo3.ok (by omega) (by omega)))))) (Mo3.ok (by omega) (by omega))))))))))))))))
  refine fk_callV1R (ci := 2) (rest := [tR (some n1)]) (cs2 := n13 - n0) (sl2 := k14 - k0) X hq rfl (c_X3_law hv) n_X3_law q772 q774 qs13 q127 q775 rfl dX3_pair_74 rfl rfl rfl rfl rfl (by omega) (by omega) (by omega) (by omega) ?_
  refine fk_putR' X fd_6_1 q744 dX3_pair_77 (fit_R _) hf (fun m15 hf => ?_)
  refine fk_aload_n X 1 dX3_pair_80 rfl ?_
  obtain ⟨u16, hq, hf⟩ := bI hf
  obtain ⟨n18, k19, m17, hv, hf⟩ := bn3_eq hf
  have hmc := mo_X3_on G.2.2 x0 n13 k14 m15 _ _ _ hv
  have hm : n18 ≤ nF ∧ k19 ≤ kF := Mo3.use hf (Mo3.bind (fun z20 => Mo3.bind (fun z21 => Mo3.bind (fun u22 => Mo3.bn4 (mo_X3_part G.2.2 x0 (some (G.2.2 20)) 0 z21 n18 k19 m17) (fun z23 n25 k26 m24 => Mo3.bind (fun m27 => Mo3.bind (fun u28 => Mo3.bn4 (mo_X3_part G.2.2 x0 (some (G.2.2 21)) 0 20 n25 k26 m27) (fun z29 n31 k32 m30 => Mo3.bind (fun m33 => Mo3.bind (fun u34 => Mo3.bind (fun z35 => Mo3.ite (Mo3.bind (fun z36 => Mo3.bind (fun z37 => Mo3.bind (fun u38 => Mo3.bn4 (mo_J2_add G.2.2 z37 (some n1) n31 k32 m33) (fun z39 n41 k42 m40 => Mo3.ok (by omega) (by omega)))))) (Mo3.ok (by omega) (by omega)))))))))))))
  refine fk_callV1V (ci := 2) (rest := []) (cs2 := n18 - n0) (sl2 := k19 - k0) X hq rfl (c_X3_on hv) n_X3_on q666 q668 qs6 q127 q669 rfl dX3_pair_81 rfl rfl rfl rfl rfl (by omega) (by omega) (by omega) (by omega) ?_
  refine fk_aload_n X 0 dX3_pair_84 rfl ?_
  refine fk_aload_n X 1 dX3_pair_85 rfl ?_
  refine fk_ldcS (i := 20) X rfl dX3_pair_86 ?_
  refine fk_iconst (v := 0) X dX3_pair_88 rfl ?_
  refine fk_aload_n X 1 dX3_pair_89 rfl ?_
  refine fk_getR' X fd_2_1 q561 dX3_pair_90 hf (fun z20 hf => ?_)
  refine fk_getI' X fd_4_0 q299 dX3_pair_93 hf (fun z21 hf => ?_)
  obtain ⟨u22, hq, hf⟩ := bI hf
  obtain ⟨z23, n25, k26, m24, hv, hf⟩ := bn4_eq hf
  have hmc := mo_X3_part G.2.2 x0 (some (G.2.2 20)) 0 z21 n18 k19 m17 _ _ _ _ hv
  have hm : n25 ≤ nF ∧ k26 ≤ kF := Mo3.use hf (Mo3.bind (fun m27 => Mo3.bind (fun u28 => Mo3.bn4 (mo_X3_part G.2.2 x0 (some (G.2.2 21)) 0 20 n25 k26 m27) (fun z29 n31 k32 m30 => Mo3.bind (fun m33 => Mo3.bind (fun u34 => Mo3.bind (fun z35 => Mo3.ite (Mo3.bind (fun z36 => Mo3.bind (fun z37 => Mo3.bind (fun u38 => Mo3.bn4 (mo_J2_add G.2.2 z37 (some n1) n31 k32 m33) (fun z39 n41 k42 m40 => Mo3.ok (by omega) (by omega)))))) (Mo3.ok (by omega) (by omega)))))))))
  refine fk_callV1I (ci := 2) (rest := [tR (some n1)]) (cs2 := n25 - n0) (sl2 := k26 - k0) X hq rfl (c_X3_part hv) n_X3_part q671 q673 qs7 q127 q674 rfl dX3_pair_96 rfl rfl rfl rfl rfl (by omega) (by omega) (by omega) (by omega) ?_
  refine fk_putI' X fd_6_2 q747 dX3_pair_99 (fit_I _) hf (fun m27 hf => ?_)
  refine fk_aload_n X 0 dX3_pair_102 rfl ?_
  refine fk_aload_n X 1 dX3_pair_103 rfl ?_
  refine fk_ldcS (i := 21) X rfl dX3_pair_104 ?_
  refine fk_iconst (v := 0) X dX3_pair_106 rfl ?_
  refine fk_bipush (v := 20) X dX3_pair_107 rfl ?_
  obtain ⟨u28, hq, hf⟩ := bI hf
  obtain ⟨z29, n31, k32, m30, hv, hf⟩ := bn4_eq hf
  have hmc := mo_X3_part G.2.2 x0 (some (G.2.2 21)) 0 20 n25 k26 m27 _ _ _ _ hv
  have hm : n31 ≤ nF ∧ k32 ≤ kF := Mo3.use hf (Mo3.bind (fun m33 => Mo3.bind (fun u34 => Mo3.bind (fun z35 => Mo3.ite (Mo3.bind (fun z36 => Mo3.bind (fun z37 => Mo3.bind (fun u38 => Mo3.bn4 (mo_J2_add G.2.2 z37 (some n1) n31 k32 m33) (fun z39 n41 k42 m40 => Mo3.ok (by omega) (by omega)))))) (Mo3.ok (by omega) (by omega))))))
  refine fk_callV1I (ci := 2) (rest := [tR (some n1)]) (cs2 := n31 - n0) (sl2 := k32 - k0) X hq rfl (c_X3_part hv) n_X3_part q671 q673 qs7 q127 q674 rfl dX3_pair_109 rfl rfl rfl rfl rfl (by omega) (by omega) (by omega) (by omega) ?_
  refine fk_putI' X fd_6_3 q750 dX3_pair_112 (fit_I _) hf (fun m33 hf => ?_)
  refine fk_aload_n X 1 dX3_pair_115 rfl ?_
  obtain ⟨u34, hq, hf⟩ := bI hf
  obtain ⟨z35, hv, hf⟩ := bI hf
  have hm : n31 ≤ nF ∧ k32 ≤ kF := Mo3.use hf (Mo3.ite (Mo3.bind (fun z36 => Mo3.bind (fun z37 => Mo3.bind (fun u38 => Mo3.bn4 (mo_J2_add G.2.2 z37 (some n1) n31 k32 m33) (fun z39 n41 k42 m40 => Mo3.ok (by omega) (by omega)))))) (Mo3.ok (by omega) (by omega)))
  refine fk_callV0I (ci := 2) (rest := []) X hq rfl (c_X3_isOver hv) n_X3_isOver q662 q664 qs5 q127 q665 rfl dX3_pair_116 rfl rfl rfl rfl rfl (by omega) (by omega) ?_
  refine fk_if_ne' X 134 dX3_pair_119 rfl hf (fun hf => ?_) (fun hf => ?_)
  · cases hf
    exact fk_return X Y dX3_pair_134
  · refine fk_aload_n X 1 dX3_pair_122 rfl ?_
    refine fk_getR' X fd_2_1 q561 dX3_pair_123 hf (fun z36 hf => ?_)
    refine fk_getR' X fd_4_4 q309 dX3_pair_126 hf (fun z37 hf => ?_)
    refine fk_aload_n X 0 dX3_pair_129 rfl ?_
    obtain ⟨u38, hq, hf⟩ := bI hf
    obtain ⟨z39, n41, k42, m40, hv, hf⟩ := bn4_eq hf
    have hmc := mo_J2_add G.2.2 z37 (some n1) n31 k32 m33 _ _ _ _ hv
    have hm : n41 ≤ nF ∧ k42 ≤ kF := Mo3.use hf (Mo3.ok (by omega) (by omega))
    refine fk_callV1I (ci := 14) (rest := []) (cs2 := n41 - n0) (sl2 := k42 - k0) X hq rfl (c_J2_add hv) n_J2_add q820 q821 q822 q125 q823 rfl dX3_pair_130 rfl rfl rfl rfl rfl (by omega) (by omega) (by omega) (by omega) ?_
    refine fk_pop X dX3_pair_133 rfl ?_
    cases hf
    exact fk_return X Y dX3_pair_134
def f_X3_pair_J30 (g : Nat → Nat) (x0 : Option Nat) (n1 k1 : Nat) (m0 : fk_M) : Option (Nat × Nat × fk_M) :=
  (gR m0 x0 2 1).bind fun z1 => (gR m0 x0 2 2).bind fun z2 => (gR m0 z2 5 3).bind fun z3 => (isO m0 z1 4).bind fun u4 => (f_X5_find z1 z3 m0).bind fun z5 => if z5 = (-1) then (f_X3_pair_J53 g x0 n1 k1 m0) else ((isO m0 x0 2).bind fun u6 => (f_X3_wrong x0 3 m0).bind fun m7 => f_X3_pair_J53 g x0 n1 k1 m7)
theorem mo_X3_pair_J30 (g : Nat → Nat) (x0 : Option Nat) (n1 k1 : Nat) (m0 : fk_M) : Mo3 n1 k1 (f_X3_pair_J30 g x0 n1 k1 m0) := by
  unfold f_X3_pair_J30
  exact Mo3.bind (fun z1 => Mo3.bind (fun z2 => Mo3.bind (fun z3 => Mo3.bind (fun u4 => Mo3.bind (fun z5 => Mo3.ite ((mo_X3_pair_J53 g x0 n1 k1 m0)) (Mo3.bind (fun u6 => Mo3.bind (fun m7 => (mo_X3_pair_J53 g x0 n1 k1 m7)))))))))
set_option maxHeartbeats 4000000 in
theorem w_X3_pair_J30 {E : fk_E} {l : Launch} {G : fk_G} {b0 n0 k0 nF kF : Nat} {mF : fk_M} (X : fk_X E l G b0 "FigureKnee$Reader" "pair" cX3_pair 2 11 280 (nF - n0) (kF - k0)) (Y : fk_Y E none none nF mF (nF - n0) (kF - k0)) (x0 : Option Nat)  (n1 k1 : Nat) (hn1 : n0 ≤ n1) (hk1 : k0 ≤ k1) (m0 : fk_M) (hf : f_X3_pair_J30 G.2.2 x0 n1 k1 m0 = some (nF, kF, mF)) : fk_W E 2 n1 m0 (n1 - n0) (k1 - k0) 30 [(0, tR x0)] [] := by
  unfold f_X3_pair_J30 at hf
  refine fk_aload_n X 0 dX3_pair_30 rfl ?_
  refine fk_getR' X fd_2_1 q561 dX3_pair_31 hf (fun z1 hf => ?_)
  refine fk_aload_n X 0 dX3_pair_34 rfl ?_
  refine fk_getR' X fd_2_2 q562 dX3_pair_35 hf (fun z2 hf => ?_)
  refine fk_getR' X fd_5_3 q360 dX3_pair_38 hf (fun z3 hf => ?_)
  obtain ⟨u4, hq, hf⟩ := bI hf
  obtain ⟨z5, hv, hf⟩ := bI hf
  have hm : n1 ≤ nF ∧ k1 ≤ kF := Mo3.use hf (Mo3.ite ((mo_X3_pair_J53 G.2.2 x0 n1 k1 m0)) (Mo3.bind (fun u6 => Mo3.bind (fun m7 => (mo_X3_pair_J53 G.2.2 x0 n1 k1 m7)))))
  refine fk_callV0I (ci := 4) (rest := []) X hq rfl (c_X5_find hv) n_X5_find q717 q718 q719 q129 q720 rfl dX3_pair_41 rfl rfl rfl rfl rfl (by omega) (by omega) ?_
  refine fk_iconst (v := (-1)) X dX3_pair_44 rfl ?_
  refine fk_icmp_eq' X 53 dX3_pair_45 rfl hf (fun hf => ?_) (fun hf => ?_)
  · have hn : n0 ≤ n1 := by omega
    have hk : k0 ≤ k1 := by omega
    exact fk_cut' (w_X3_pair_J53 X Y x0 n1 k1 hn hk m0 hf) [0] rfl
  · refine fk_aload_n X 0 dX3_pair_48 rfl ?_
    refine fk_iconst (v := 3) X dX3_pair_49 rfl ?_
    obtain ⟨u6, hq, hf⟩ := bI hf
    obtain ⟨m7, hv, hf⟩ := bI hf
    have hm : n1 ≤ nF ∧ k1 ≤ kF := Mo3.use hf ((mo_X3_pair_J53 G.2.2 x0 n1 k1 m7))
    refine fk_callV0V (ci := 2) (rest := []) X hq rfl (c_X3_wrong hv) n_X3_wrong q658 q660 qs4 q127 q661 rfl dX3_pair_50 rfl rfl rfl rfl rfl (by omega) (by omega) ?_
    have hn : n0 ≤ n1 := by omega
    have hk : k0 ≤ k1 := by omega
    exact fk_cut' (w_X3_pair_J53 X Y x0 n1 k1 hn hk m7 hf) [0] rfl
def f_X3_pair (g : Nat → Nat) (a0 : Option Nat) (n1 k1 : Nat) (m0 : fk_M) : Option (Nat × Nat × fk_M) :=
  (gR m0 a0 2 1).bind fun z1 => (gR m0 z1 4 4).bind fun z2 => (isO m0 z2 14).bind fun u3 => (f_J2_size z2 m0).bind fun z4 => (isO m0 a0 2).bind fun u5 => bn3 (f_X3_begins g a0 z4 5 n1 k1 m0) fun n7 k8 m6 => (gR m6 a0 2 2).bind fun z9 => (isO m6 z9 5).bind fun u10 => bn2 (f_X6_isName g z9 m6) fun z11 m12 => if z11 = 0 then ((isO m12 a0 2).bind fun u13 => (f_X3_wrong a0 1 m12).bind fun m14 => f_X3_pair_J30 g a0 n7 k8 m14) else (f_X3_pair_J30 g a0 n7 k8 m12)
theorem mo_X3_pair (g : Nat → Nat) (a0 : Option Nat) (n1 k1 : Nat) (m0 : fk_M) : Mo3 n1 k1 (f_X3_pair g a0 n1 k1 m0) := by
  unfold f_X3_pair
  exact Mo3.bind (fun z1 => Mo3.bind (fun z2 => Mo3.bind (fun u3 => Mo3.bind (fun z4 => Mo3.bind (fun u5 => Mo3.bn3 (mo_X3_begins g a0 z4 5 n1 k1 m0) (fun n7 k8 m6 => Mo3.bind (fun z9 => Mo3.bind (fun u10 => Mo3.bn2 (fun z11 m12 => Mo3.ite (Mo3.bind (fun u13 => Mo3.bind (fun m14 => (mo_X3_pair_J30 g a0 n7 k8 m14)))) ((mo_X3_pair_J30 g a0 n7 k8 m12)))))))))))
set_option maxHeartbeats 4000000 in
theorem c_X3_pair {l : Launch} {G : fk_G} {b0 : Nat} {n1 k1 nF kF : Nat} {a0 : Option Nat} {m0 : fk_M} {mF : fk_M} (hf : f_X3_pair G.2.2 a0 n1 k1 m0 = some (nF, kF, mF)) : fk_Ct l G b0 yX3_pair cX3_pair 2 none 11 280 [tR a0] n1 m0 none nF mF (nF - n1) (kF - k1) := by
  refine fk_enter n_X3_pair.1 rfl ?_
  intro E X0 Y
  have X : fk_X E l G b0 "FigureKnee$Reader" "pair" cX3_pair 2 11 280 (nF - n1) (kF - k1) := X0
  show fk_W E 2 n1 m0 0 0 0 [(0, tR a0)] []
  refine fk_widen (cs2 := n1 - n1) (sl2 := k1 - k1) (Nat.zero_le _) (Nat.zero_le _) ?_
  unfold f_X3_pair at hf
  have h01 : n1 ≤ n1 := Nat.le_refl _
  have h02 : k1 ≤ k1 := Nat.le_refl _
  refine fk_aload_n X 0 dX3_pair_0 rfl ?_
  refine fk_aload_n X 0 dX3_pair_1 rfl ?_
  refine fk_getR' X fd_2_1 q561 dX3_pair_2 hf (fun z1 hf => ?_)
  refine fk_getR' X fd_4_4 q309 dX3_pair_5 hf (fun z2 hf => ?_)
  obtain ⟨u3, hq, hf⟩ := bI hf
  obtain ⟨z4, hv, hf⟩ := bI hf
  have hm : n1 ≤ nF ∧ k1 ≤ kF := Mo3.use hf (Mo3.bind (fun u5 => Mo3.bn3 (mo_X3_begins G.2.2 a0 z4 5 n1 k1 m0) (fun n7 k8 m6 => Mo3.bind (fun z9 => Mo3.bind (fun u10 => Mo3.bn2 (fun z11 m12 => Mo3.ite (Mo3.bind (fun u13 => Mo3.bind (fun m14 => (mo_X3_pair_J30 G.2.2 a0 n7 k8 m14)))) ((mo_X3_pair_J30 G.2.2 a0 n7 k8 m12))))))))
  refine fk_callV0I (ci := 14) (rest := [tR a0]) X hq rfl (c_J2_size hv) n_J2_size q698 q699 q700 q125 q701 rfl dX3_pair_8 rfl rfl rfl rfl rfl (by omega) (by omega) ?_
  refine fk_iconst (v := 5) X dX3_pair_11 rfl ?_
  obtain ⟨u5, hq, hf⟩ := bI hf
  obtain ⟨n7, k8, m6, hv, hf⟩ := bn3_eq hf
  have hmc := mo_X3_begins G.2.2 a0 z4 5 n1 k1 m0 _ _ _ hv
  have hm : n7 ≤ nF ∧ k8 ≤ kF := Mo3.use hf (Mo3.bind (fun z9 => Mo3.bind (fun u10 => Mo3.bn2 (fun z11 m12 => Mo3.ite (Mo3.bind (fun u13 => Mo3.bind (fun m14 => (mo_X3_pair_J30 G.2.2 a0 n7 k8 m14)))) ((mo_X3_pair_J30 G.2.2 a0 n7 k8 m12))))))
  refine fk_callV1V (ci := 2) (rest := []) (cs2 := n7 - n1) (sl2 := k8 - k1) X hq rfl (c_X3_begins hv) n_X3_begins q702 q704 qs12 q127 q705 rfl dX3_pair_12 rfl rfl rfl rfl rfl (by omega) (by omega) (by omega) (by omega) ?_
  refine fk_aload_n X 0 dX3_pair_15 rfl ?_
  refine fk_getR' X fd_2_2 q562 dX3_pair_16 hf (fun z9 hf => ?_)
  obtain ⟨u10, hq, hf⟩ := bI hf
  obtain ⟨z11, m12, hv, hf⟩ := bn2_eq hf
  have hm : n7 ≤ nF ∧ k8 ≤ kF := Mo3.use hf (Mo3.ite (Mo3.bind (fun u13 => Mo3.bind (fun m14 => (mo_X3_pair_J30 G.2.2 a0 n7 k8 m14)))) ((mo_X3_pair_J30 G.2.2 a0 n7 k8 m12)))
  refine fk_callV0I (ci := 5) (rest := []) X hq rfl (c_X6_isName hv) n_X6_isName q706 q707 q708 q130 q709 rfl dX3_pair_19 rfl rfl rfl rfl rfl (by omega) (by omega) ?_
  refine fk_if_ne' X 30 dX3_pair_22 rfl hf (fun hf => ?_) (fun hf => ?_)
  · have hn : n1 ≤ n7 := by omega
    have hk : k1 ≤ k8 := by omega
    exact fk_cut' (w_X3_pair_J30 X Y a0 n7 k8 hn hk m12 hf) [0] rfl
  · refine fk_aload_n X 0 dX3_pair_25 rfl ?_
    refine fk_iconst (v := 1) X dX3_pair_26 rfl ?_
    obtain ⟨u13, hq, hf⟩ := bI hf
    obtain ⟨m14, hv, hf⟩ := bI hf
    have hm : n7 ≤ nF ∧ k8 ≤ kF := Mo3.use hf ((mo_X3_pair_J30 G.2.2 a0 n7 k8 m14))
    refine fk_callV0V (ci := 2) (rest := []) X hq rfl (c_X3_wrong hv) n_X3_wrong q658 q660 qs4 q127 q661 rfl dX3_pair_27 rfl rfl rfl rfl rfl (by omega) (by omega) ?_
    have hn : n1 ≤ n7 := by omega
    have hk : k1 ≤ k8 := by omega
    exact fk_cut' (w_X3_pair_J30 X Y a0 n7 k8 hn hk m14 hf) [0] rfl
/-! FigureKnee$Reader known ()I -/
theorem n_X3_known : fk_N yX3_known 0 := ⟨by decide +kernel, by decide +kernel, by decide +kernel, by decide +kernel⟩
def f_X3_known_J40 (g : Nat → Nat) (x0 : Option Nat) (x1 : Int32) (m0 : fk_M) : Option (Int32 × fk_M) :=
  (isO m0 x0 2).bind fun u1 => (f_X3_isOver x0 m0).bind fun z2 => some ((if z2 = 0 then x1 else 0), m0)
set_option maxHeartbeats 4000000 in
theorem w_X3_known_J40 {E : fk_E} {l : Launch} {G : fk_G} {b0 n : Nat} {r : Int32} {mF : fk_M} (X : fk_X E l G b0 "FigureKnee$Reader" "known" cX3_known 2 6 172 0 0) (Y : fk_Y E (some .int) (some (tI r)) n mF 0 0) (x0 : Option Nat) (x1 : Int32)  (m0 : fk_M) (hf : f_X3_known_J40 G.2.2 x0 x1 m0 = some (r, mF)) : fk_W E 2 n m0 0 0 40 [(0, tR x0), (1, tI x1)] [] := by
  unfold f_X3_known_J40 at hf
  refine fk_aload_n X 0 dX3_known_40 rfl ?_
  obtain ⟨u1, hq, hf⟩ := bI hf
  obtain ⟨z2, hv, hf⟩ := bI hf
  refine fk_callV0I (ci := 2) (rest := []) X hq rfl (c_X3_isOver hv) n_X3_isOver q662 q664 qs5 q127 q665 rfl dX3_known_41 rfl rfl rfl rfl rfl (Nat.le_refl _) (Nat.le_refl _) ?_
  have J1 : fk_W E 2 n m0 0 0 52 [] [tI (if z2 = 0 then x1 else 0)] := by
    cases hf
    exact fk_ireturn X Y dX3_known_52 rfl
  refine fk_if_eq X 51 dX3_known_44 rfl (fun hc2 => ?_) (fun hc2 => ?_)
  · refine fk_iload_n X 1 dX3_known_51 rfl ?_
    simp only [if_pos hc2] at J1
    exact fk_cut' J1 [] rfl
  · refine fk_iconst (v := 0) X dX3_known_47 rfl ?_
    refine fk_goto X 52 dX3_known_48 rfl ?_
    simp only [if_neg hc2] at J1
    exact fk_cut' J1 [] rfl
def f_X3_known_J15 (g : Nat → Nat) (x0 : Option Nat) (m0 : fk_M) : Option (Int32 × fk_M) :=
  (gR m0 x0 2 1).bind fun z1 => (gR m0 x0 2 2).bind fun z2 => (gR m0 z2 5 3).bind fun z3 => (isO m0 z1 4).bind fun u4 => (f_X5_find z1 z3 m0).bind fun z5 => if z5 = (-1) then ((isO m0 x0 2).bind fun u6 => (f_X3_wrong x0 2 m0).bind fun m7 => f_X3_known_J40 g x0 z5 m7) else (f_X3_known_J40 g x0 z5 m0)
set_option maxHeartbeats 4000000 in
theorem w_X3_known_J15 {E : fk_E} {l : Launch} {G : fk_G} {b0 n : Nat} {r : Int32} {mF : fk_M} (X : fk_X E l G b0 "FigureKnee$Reader" "known" cX3_known 2 6 172 0 0) (Y : fk_Y E (some .int) (some (tI r)) n mF 0 0) (x0 : Option Nat)  (m0 : fk_M) (hf : f_X3_known_J15 G.2.2 x0 m0 = some (r, mF)) : fk_W E 2 n m0 0 0 15 [(0, tR x0)] [] := by
  unfold f_X3_known_J15 at hf
  refine fk_aload_n X 0 dX3_known_15 rfl ?_
  refine fk_getR' X fd_2_1 q561 dX3_known_16 hf (fun z1 hf => ?_)
  refine fk_aload_n X 0 dX3_known_19 rfl ?_
  refine fk_getR' X fd_2_2 q562 dX3_known_20 hf (fun z2 hf => ?_)
  refine fk_getR' X fd_5_3 q360 dX3_known_23 hf (fun z3 hf => ?_)
  obtain ⟨u4, hq, hf⟩ := bI hf
  obtain ⟨z5, hv, hf⟩ := bI hf
  refine fk_callV0I (ci := 4) (rest := []) X hq rfl (c_X5_find hv) n_X5_find q717 q718 q719 q129 q720 rfl dX3_known_26 rfl rfl rfl rfl rfl (Nat.le_refl _) (Nat.le_refl _) ?_
  refine fk_istore_n X [(1, tI z5), (0, tR x0)] dX3_known_29 rfl rfl ?_
  refine fk_iload_n X 0 dX3_known_30 rfl ?_
  refine fk_iconst (v := (-1)) X dX3_known_31 rfl ?_
  refine fk_icmp_ne' X 40 dX3_known_32 rfl hf (fun hf => ?_) (fun hf => ?_)
  · exact fk_cut' (w_X3_known_J40 X Y x0 z5 m0 hf) [1, 0] rfl
  · refine fk_aload_n X 1 dX3_known_35 rfl ?_
    refine fk_iconst (v := 2) X dX3_known_36 rfl ?_
    obtain ⟨u6, hq, hf⟩ := bI hf
    obtain ⟨m7, hv, hf⟩ := bI hf
    refine fk_callV0V (ci := 2) (rest := []) X hq rfl (c_X3_wrong hv) n_X3_wrong q658 q660 qs4 q127 q661 rfl dX3_known_37 rfl rfl rfl rfl rfl (Nat.le_refl _) (Nat.le_refl _) ?_
    exact fk_cut' (w_X3_known_J40 X Y x0 z5 m7 hf) [1, 0] rfl
def f_X3_known (g : Nat → Nat) (a0 : Option Nat) (m0 : fk_M) : Option (Int32 × fk_M) :=
  (gR m0 a0 2 2).bind fun z1 => (isO m0 z1 5).bind fun u2 => bn2 (f_X6_isName g z1 m0) fun z3 m4 => if z3 = 0 then ((isO m4 a0 2).bind fun u5 => (f_X3_wrong a0 1 m4).bind fun m6 => f_X3_known_J15 g a0 m6) else (f_X3_known_J15 g a0 m4)
set_option maxHeartbeats 4000000 in
theorem c_X3_known {l : Launch} {G : fk_G} {b0 : Nat} {n : Nat} {a0 : Option Nat} {m0 : fk_M} {r : Int32} {mF : fk_M} (hf : f_X3_known G.2.2 a0 m0 = some (r, mF)) : fk_Ct l G b0 yX3_known cX3_known 2 (some .int) 6 172 [tR a0] n m0 (some (tI r)) n mF 0 0 := by
  refine fk_enter n_X3_known.1 rfl ?_
  intro E X0 Y
  have X : fk_X E l G b0 "FigureKnee$Reader" "known" cX3_known 2 6 172 0 0 := X0
  show fk_W E 2 n m0 0 0 0 [(0, tR a0)] []
  unfold f_X3_known at hf
  refine fk_aload_n X 0 dX3_known_0 rfl ?_
  refine fk_getR' X fd_2_2 q562 dX3_known_1 hf (fun z1 hf => ?_)
  obtain ⟨u2, hq, hf⟩ := bI hf
  obtain ⟨z3, m4, hv, hf⟩ := bn2_eq hf
  refine fk_callV0I (ci := 5) (rest := []) X hq rfl (c_X6_isName hv) n_X6_isName q706 q707 q708 q130 q709 rfl dX3_known_4 rfl rfl rfl rfl rfl (Nat.le_refl _) (Nat.le_refl _) ?_
  refine fk_if_ne' X 15 dX3_known_7 rfl hf (fun hf => ?_) (fun hf => ?_)
  · exact fk_cut' (w_X3_known_J15 X Y a0 m4 hf) [0] rfl
  · refine fk_aload_n X 0 dX3_known_10 rfl ?_
    refine fk_iconst (v := 1) X dX3_known_11 rfl ?_
    obtain ⟨u5, hq, hf⟩ := bI hf
    obtain ⟨m6, hv, hf⟩ := bI hf
    refine fk_callV0V (ci := 2) (rest := []) X hq rfl (c_X3_wrong hv) n_X3_wrong q658 q660 qs4 q127 q661 rfl dX3_known_12 rfl rfl rfl rfl rfl (Nat.le_refl _) (Nat.le_refl _) ?_
    exact fk_cut' (w_X3_known_J15 X Y a0 m6 hf) [0] rfl
/-! FigureKnee$Reader contract ()V -/
theorem n_X3_contract : fk_N yX3_contract 0 := ⟨by decide +kernel, by decide +kernel, by decide +kernel, by decide +kernel⟩
def f_X3_contract_J43 (g : Nat → Nat) (x0 : Option Nat) (x1 : Int32) (n1 k1 : Nat) (m0 : fk_M) : Option (Nat × Nat × fk_M) :=
  (isO m0 x0 2).bind fun u1 => bn3 (f_X3_on g x0 n1 k1 m0) fun n3 k4 m2 => (isO m2 x0 2).bind fun u5 => bn4 (f_X3_part g x0 (some (g 22)) 1 9 n3 k4 m2) fun z6 n8 k9 m7 => (isO m7 x0 2).bind fun u10 => (f_X3_isOver x0 m7).bind fun z11 => if z11 = 0 then ((gR m7 x0 2 1).bind fun z12 => (gR m7 z12 4 4).bind fun z13 => (isO m7 z13 14).bind fun u14 => (f_J2_get z13 x1 m7).bind fun z15 => (cst m7 z15 6).bind fun _ => (pV m7 z15 6 4 (tI z6)).bind fun m16 => (gR m16 x0 2 1).bind fun z17 => (gI m16 z17 4 2).bind fun z18 => (pV m16 z17 4 2 (tI (z18 + 1))).bind fun m19 => some (n8, k9, m19)) else (some (n8, k9, m7))
theorem mo_X3_contract_J43 (g : Nat → Nat) (x0 : Option Nat) (x1 : Int32) (n1 k1 : Nat) (m0 : fk_M) : Mo3 n1 k1 (f_X3_contract_J43 g x0 x1 n1 k1 m0) := by
  unfold f_X3_contract_J43
  exact Mo3.bind (fun u1 => Mo3.bn3 (mo_X3_on g x0 n1 k1 m0) (fun n3 k4 m2 => Mo3.bind (fun u5 => Mo3.bn4 (mo_X3_part g x0 (some (g 22)) 1 9 n3 k4 m2) (fun z6 n8 k9 m7 => Mo3.bind (fun u10 => Mo3.bind (fun z11 => Mo3.ite (Mo3.bind (fun z12 => Mo3.bind (fun z13 => Mo3.bind (fun u14 => Mo3.bind (fun z15 => Mo3.bind (fun _ => Mo3.bind (fun m16 => Mo3.bind (fun z17 => Mo3.bind (fun z18 => Mo3.bind (fun m19 => Mo3.ok (by omega) (by omega))))))))))) (Mo3.ok (by omega) (by omega))))))))
set_option maxHeartbeats 4000000 in
theorem w_X3_contract_J43 {E : fk_E} {l : Launch} {G : fk_G} {b0 n0 k0 nF kF : Nat} {mF : fk_M} (X : fk_X E l G b0 "FigureKnee$Reader" "contract" cX3_contract 3 11 280 (nF - n0) (kF - k0)) (Y : fk_Y E none none nF mF (nF - n0) (kF - k0)) (x0 : Option Nat) (x1 : Int32)  (n1 k1 : Nat) (hn1 : n0 ≤ n1) (hk1 : k0 ≤ k1) (m0 : fk_M) (hf : f_X3_contract_J43 G.2.2 x0 x1 n1 k1 m0 = some (nF, kF, mF)) : fk_W E 3 n1 m0 (n1 - n0) (k1 - k0) 43 [(0, tR x0), (1, tI x1)] [] := by
  unfold f_X3_contract_J43 at hf
  refine fk_aload_n X 0 dX3_contract_43 rfl ?_
  obtain ⟨u1, hq, hf⟩ := bI hf
  obtain ⟨n3, k4, m2, hv, hf⟩ := bn3_eq hf
  have hmc := mo_X3_on G.2.2 x0 n1 k1 m0 _ _ _ hv
  have hm : n3 ≤ nF ∧ k4 ≤ kF := Mo3.use hf (Mo3.bind (fun u5 => Mo3.bn4 (mo_X3_part G.2.2 x0 (some (G.2.2 22)) 1 9 n3 k4 m2) (fun z6 n8 k9 m7 => Mo3.bind (fun u10 => Mo3.bind (fun z11 => Mo3.ite (Mo3.bind (fun z12 => Mo3.bind (fun z13 => Mo3.bind (fun u14 => Mo3.bind (fun z15 => Mo3.bind (fun _ => Mo3.bind (fun m16 => Mo3.bind (fun z17 => Mo3.bind (fun z18 => Mo3.bind (fun m19 => Mo3.ok (by omega) (by omega))))))))))) (Mo3.ok (by omega) (by omega)))))))
  refine fk_callV1V (ci := 2) (rest := []) (cs2 := n3 - n0) (sl2 := k4 - k0) X hq rfl (c_X3_on hv) n_X3_on q666 q668 qs6 q127 q669 rfl dX3_contract_44 rfl rfl rfl rfl rfl (by omega) (by omega) (by omega) (by omega) ?_
  refine fk_aload_n X 0 dX3_contract_47 rfl ?_
  refine fk_ldcS (i := 22) X rfl dX3_contract_48 ?_
  refine fk_iconst (v := 1) X dX3_contract_50 rfl ?_
  refine fk_bipush (v := 9) X dX3_contract_51 rfl ?_
  obtain ⟨u5, hq, hf⟩ := bI hf
  obtain ⟨z6, n8, k9, m7, hv, hf⟩ := bn4_eq hf
  have hmc := mo_X3_part G.2.2 x0 (some (G.2.2 22)) 1 9 n3 k4 m2 _ _ _ _ hv
  have hm : n8 ≤ nF ∧ k9 ≤ kF := Mo3.use hf (Mo3.bind (fun u10 => Mo3.bind (fun z11 => Mo3.ite (Mo3.bind (fun z12 => Mo3.bind (fun z13 => Mo3.bind (fun u14 => Mo3.bind (fun z15 => Mo3.bind (fun _ => Mo3.bind (fun m16 => Mo3.bind (fun z17 => Mo3.bind (fun z18 => Mo3.bind (fun m19 => Mo3.ok (by omega) (by omega))))))))))) (Mo3.ok (by omega) (by omega)))))
  refine fk_callV1I (ci := 2) (rest := []) (cs2 := n8 - n0) (sl2 := k9 - k0) X hq rfl (c_X3_part hv) n_X3_part q671 q673 qs7 q127 q674 rfl dX3_contract_53 rfl rfl rfl rfl rfl (by omega) (by omega) (by omega) (by omega) ?_
  refine fk_istore_n X [(2, tI z6), (0, tR x0), (1, tI x1)] dX3_contract_56 rfl rfl ?_
  refine fk_aload_n X 1 dX3_contract_57 rfl ?_
  obtain ⟨u10, hq, hf⟩ := bI hf
  obtain ⟨z11, hv, hf⟩ := bI hf
  have hm : n8 ≤ nF ∧ k9 ≤ kF := Mo3.use hf (Mo3.ite (Mo3.bind (fun z12 => Mo3.bind (fun z13 => Mo3.bind (fun u14 => Mo3.bind (fun z15 => Mo3.bind (fun _ => Mo3.bind (fun m16 => Mo3.bind (fun z17 => Mo3.bind (fun z18 => Mo3.bind (fun m19 => Mo3.ok (by omega) (by omega))))))))))) (Mo3.ok (by omega) (by omega)))
  refine fk_callV0I (ci := 2) (rest := []) X hq rfl (c_X3_isOver hv) n_X3_isOver q662 q664 qs5 q127 q665 rfl dX3_contract_58 rfl rfl rfl rfl rfl (by omega) (by omega) ?_
  refine fk_if_eq' X 65 dX3_contract_61 rfl hf (fun hf => ?_) (fun hf => ?_)
  · refine fk_aload_n X 1 dX3_contract_65 rfl ?_
    refine fk_getR' X fd_2_1 q561 dX3_contract_66 hf (fun z12 hf => ?_)
    refine fk_getR' X fd_4_4 q309 dX3_contract_69 hf (fun z13 hf => ?_)
    refine fk_iload_n X 2 dX3_contract_72 rfl ?_
    obtain ⟨u14, hq, hf⟩ := bI hf
    obtain ⟨z15, hv, hf⟩ := bI hf
    have hm : n8 ≤ nF ∧ k9 ≤ kF := Mo3.use hf (Mo3.bind (fun _ => Mo3.bind (fun m16 => Mo3.bind (fun z17 => Mo3.bind (fun z18 => Mo3.bind (fun m19 => Mo3.ok (by omega) (by omega)))))))
    refine fk_callV0R (ci := 14) (rest := []) X hq rfl (c_J2_get hv) n_J2_get q879 q723 q724 q125 q725 rfl dX3_contract_73 rfl rfl rfl rfl rfl (by omega) (by omega) ?_
    refine fk_cast' (ci := 6) X rfl q736 dX3_contract_76 hf (fun hf => ?_)
    refine fk_iload_n X 0 dX3_contract_79 rfl ?_
    refine fk_putI' X fd_6_4 q752 dX3_contract_80 (fit_I _) hf (fun m16 hf => ?_)
    refine fk_aload_n X 1 dX3_contract_83 rfl ?_
    refine fk_getR' X fd_2_1 q561 dX3_contract_84 hf (fun z17 hf => ?_)
    refine fk_dup X dX3_contract_87 rfl ?_
    refine fk_getI' X fd_4_2 q303 dX3_contract_88 hf (fun z18 hf => ?_)
    refine fk_iconst (v := 1) X dX3_contract_91 rfl ?_
    refine fk_iadd X dX3_contract_92 ?_
    refine fk_putI' X fd_4_2 q303 dX3_contract_93 (fit_I _) hf (fun m19 hf => ?_)
    cases hf
    exact fk_return X Y dX3_contract_96
  · cases hf
    exact fk_return X Y dX3_contract_64
def f_X3_contract (g : Nat → Nat) (a0 : Option Nat) (n1 k1 : Nat) (m0 : fk_M) : Option (Nat × Nat × fk_M) :=
  (isO m0 a0 2).bind fun u1 => bn3 (f_X3_begins g a0 (-1) 0 n1 k1 m0) fun n3 k4 m2 => (isO m2 a0 2).bind fun u5 => bn2 (f_X3_known g a0 m2) fun z6 m7 => (isO m7 a0 2).bind fun u8 => (f_X3_isOver a0 m7).bind fun z9 => if z9 = 0 then ((gR m7 a0 2 1).bind fun z10 => (gR m7 z10 4 4).bind fun z11 => (isO m7 z11 14).bind fun u12 => (f_J2_get z11 z6 m7).bind fun z13 => (cst m7 z13 6).bind fun _ => (gI m7 z13 6 4).bind fun z14 => if z14 ≤ 0 then (f_X3_contract_J43 g a0 z6 n3 k4 m7) else ((isO m7 a0 2).bind fun u15 => (f_X3_wrong a0 3 m7).bind fun m16 => f_X3_contract_J43 g a0 z6 n3 k4 m16)) else (f_X3_contract_J43 g a0 z6 n3 k4 m7)
theorem mo_X3_contract (g : Nat → Nat) (a0 : Option Nat) (n1 k1 : Nat) (m0 : fk_M) : Mo3 n1 k1 (f_X3_contract g a0 n1 k1 m0) := by
  unfold f_X3_contract
  exact Mo3.bind (fun u1 => Mo3.bn3 (mo_X3_begins g a0 (-1) 0 n1 k1 m0) (fun n3 k4 m2 => Mo3.bind (fun u5 => Mo3.bn2 (fun z6 m7 => Mo3.bind (fun u8 => Mo3.bind (fun z9 => Mo3.ite (Mo3.bind (fun z10 => Mo3.bind (fun z11 => Mo3.bind (fun u12 => Mo3.bind (fun z13 => Mo3.bind (fun _ => Mo3.bind (fun z14 => Mo3.ite ((mo_X3_contract_J43 g a0 z6 n3 k4 m7)) (Mo3.bind (fun u15 => Mo3.bind (fun m16 => (mo_X3_contract_J43 g a0 z6 n3 k4 m16))))))))))) ((mo_X3_contract_J43 g a0 z6 n3 k4 m7))))))))
set_option maxHeartbeats 4000000 in
theorem c_X3_contract {l : Launch} {G : fk_G} {b0 : Nat} {n1 k1 nF kF : Nat} {a0 : Option Nat} {m0 : fk_M} {mF : fk_M} (hf : f_X3_contract G.2.2 a0 n1 k1 m0 = some (nF, kF, mF)) : fk_Ct l G b0 yX3_contract cX3_contract 3 none 11 280 [tR a0] n1 m0 none nF mF (nF - n1) (kF - k1) := by
  refine fk_enter n_X3_contract.1 rfl ?_
  intro E X0 Y
  have X : fk_X E l G b0 "FigureKnee$Reader" "contract" cX3_contract 3 11 280 (nF - n1) (kF - k1) := X0
  show fk_W E 3 n1 m0 0 0 0 [(0, tR a0)] []
  refine fk_widen (cs2 := n1 - n1) (sl2 := k1 - k1) (Nat.zero_le _) (Nat.zero_le _) ?_
  unfold f_X3_contract at hf
  have h01 : n1 ≤ n1 := Nat.le_refl _
  have h02 : k1 ≤ k1 := Nat.le_refl _
  refine fk_aload_n X 0 dX3_contract_0 rfl ?_
  refine fk_iconst (v := (-1)) X dX3_contract_1 rfl ?_
  refine fk_iconst (v := 0) X dX3_contract_2 rfl ?_
  obtain ⟨u1, hq, hf⟩ := bI hf
  obtain ⟨n3, k4, m2, hv, hf⟩ := bn3_eq hf
  have hmc := mo_X3_begins G.2.2 a0 (-1) 0 n1 k1 m0 _ _ _ hv
  have hm : n3 ≤ nF ∧ k4 ≤ kF := Mo3.use hf (Mo3.bind (fun u5 => Mo3.bn2 (fun z6 m7 => Mo3.bind (fun u8 => Mo3.bind (fun z9 => Mo3.ite (Mo3.bind (fun z10 => Mo3.bind (fun z11 => Mo3.bind (fun u12 => Mo3.bind (fun z13 => Mo3.bind (fun _ => Mo3.bind (fun z14 => Mo3.ite ((mo_X3_contract_J43 G.2.2 a0 z6 n3 k4 m7)) (Mo3.bind (fun u15 => Mo3.bind (fun m16 => (mo_X3_contract_J43 G.2.2 a0 z6 n3 k4 m16))))))))))) ((mo_X3_contract_J43 G.2.2 a0 z6 n3 k4 m7)))))))
  refine fk_callV1V (ci := 2) (rest := []) (cs2 := n3 - n1) (sl2 := k4 - k1) X hq rfl (c_X3_begins hv) n_X3_begins q702 q704 qs12 q127 q705 rfl dX3_contract_3 rfl rfl rfl rfl rfl (by omega) (by omega) (by omega) (by omega) ?_
  refine fk_aload_n X 0 dX3_contract_6 rfl ?_
  obtain ⟨u5, hq, hf⟩ := bI hf
  obtain ⟨z6, m7, hv, hf⟩ := bn2_eq hf
  have hm : n3 ≤ nF ∧ k4 ≤ kF := Mo3.use hf (Mo3.bind (fun u8 => Mo3.bind (fun z9 => Mo3.ite (Mo3.bind (fun z10 => Mo3.bind (fun z11 => Mo3.bind (fun u12 => Mo3.bind (fun z13 => Mo3.bind (fun _ => Mo3.bind (fun z14 => Mo3.ite ((mo_X3_contract_J43 G.2.2 a0 z6 n3 k4 m7)) (Mo3.bind (fun u15 => Mo3.bind (fun m16 => (mo_X3_contract_J43 G.2.2 a0 z6 n3 k4 m16))))))))))) ((mo_X3_contract_J43 G.2.2 a0 z6 n3 k4 m7)))))
  refine fk_callV0I (ci := 2) (rest := []) X hq rfl (c_X3_known hv) n_X3_known q875 q877 qs18 q127 q878 rfl dX3_contract_7 rfl rfl rfl rfl rfl (by omega) (by omega) ?_
  refine fk_istore_n X [(1, tI z6), (0, tR a0)] dX3_contract_10 rfl rfl ?_
  refine fk_aload_n X 1 dX3_contract_11 rfl ?_
  obtain ⟨u8, hq, hf⟩ := bI hf
  obtain ⟨z9, hv, hf⟩ := bI hf
  have hm : n3 ≤ nF ∧ k4 ≤ kF := Mo3.use hf (Mo3.ite (Mo3.bind (fun z10 => Mo3.bind (fun z11 => Mo3.bind (fun u12 => Mo3.bind (fun z13 => Mo3.bind (fun _ => Mo3.bind (fun z14 => Mo3.ite ((mo_X3_contract_J43 G.2.2 a0 z6 n3 k4 m7)) (Mo3.bind (fun u15 => Mo3.bind (fun m16 => (mo_X3_contract_J43 G.2.2 a0 z6 n3 k4 m16))))))))))) ((mo_X3_contract_J43 G.2.2 a0 z6 n3 k4 m7)))
  refine fk_callV0I (ci := 2) (rest := []) X hq rfl (c_X3_isOver hv) n_X3_isOver q662 q664 qs5 q127 q665 rfl dX3_contract_12 rfl rfl rfl rfl rfl (by omega) (by omega) ?_
  refine fk_if_ne' X 43 dX3_contract_15 rfl hf (fun hf => ?_) (fun hf => ?_)
  · have hn : n1 ≤ n3 := by omega
    have hk : k1 ≤ k4 := by omega
    exact fk_cut' (w_X3_contract_J43 X Y a0 z6 n3 k4 hn hk m7 hf) [1, 0] rfl
  · refine fk_aload_n X 1 dX3_contract_18 rfl ?_
    refine fk_getR' X fd_2_1 q561 dX3_contract_19 hf (fun z10 hf => ?_)
    refine fk_getR' X fd_4_4 q309 dX3_contract_22 hf (fun z11 hf => ?_)
    refine fk_iload_n X 0 dX3_contract_25 rfl ?_
    obtain ⟨u12, hq, hf⟩ := bI hf
    obtain ⟨z13, hv, hf⟩ := bI hf
    have hm : n3 ≤ nF ∧ k4 ≤ kF := Mo3.use hf (Mo3.bind (fun _ => Mo3.bind (fun z14 => Mo3.ite ((mo_X3_contract_J43 G.2.2 a0 z6 n3 k4 m7)) (Mo3.bind (fun u15 => Mo3.bind (fun m16 => (mo_X3_contract_J43 G.2.2 a0 z6 n3 k4 m16)))))))
    refine fk_callV0R (ci := 14) (rest := []) X hq rfl (c_J2_get hv) n_J2_get q879 q723 q724 q125 q725 rfl dX3_contract_26 rfl rfl rfl rfl rfl (by omega) (by omega) ?_
    refine fk_cast' (ci := 6) X rfl q736 dX3_contract_29 hf (fun hf => ?_)
    refine fk_getI' X fd_6_4 q752 dX3_contract_32 hf (fun z14 hf => ?_)
    refine fk_if_le' X 43 dX3_contract_35 rfl hf (fun hf => ?_) (fun hf => ?_)
    · have hn : n1 ≤ n3 := by omega
      have hk : k1 ≤ k4 := by omega
      exact fk_cut' (w_X3_contract_J43 X Y a0 z6 n3 k4 hn hk m7 hf) [1, 0] rfl
    · refine fk_aload_n X 1 dX3_contract_38 rfl ?_
      refine fk_iconst (v := 3) X dX3_contract_39 rfl ?_
      obtain ⟨u15, hq, hf⟩ := bI hf
      obtain ⟨m16, hv, hf⟩ := bI hf
      have hm : n3 ≤ nF ∧ k4 ≤ kF := Mo3.use hf ((mo_X3_contract_J43 G.2.2 a0 z6 n3 k4 m16))
      refine fk_callV0V (ci := 2) (rest := []) X hq rfl (c_X3_wrong hv) n_X3_wrong q658 q660 qs4 q127 q661 rfl dX3_contract_40 rfl rfl rfl rfl rfl (by omega) (by omega) ?_
      have hn : n1 ≤ n3 := by omega
      have hk : k1 ≤ k4 := by omega
      exact fk_cut' (w_X3_contract_J43 X Y a0 z6 n3 k4 hn hk m16 hf) [1, 0] rfl
/-! FigureKnee$Reader told ()I -/
theorem n_X3_told : fk_N yX3_told 0 := ⟨by decide +kernel, by decide +kernel, by decide +kernel, by decide +kernel⟩
def f_X3_told (g : Nat → Nat) (a0 : Option Nat) (n1 k1 : Nat) (m0 : fk_M) : Option (Int32 × Nat × Nat × fk_M) :=
  (isO m0 a0 2).bind fun u1 => bn2 (f_X3_known g a0 m0) fun z2 m3 => (isO m3 a0 2).bind fun u4 => bn3 (f_X3_on g a0 n1 k1 m3) fun n6 k7 m5 => some (z2, n6, k7, m5)
theorem mo_X3_told (g : Nat → Nat) (a0 : Option Nat) (n1 k1 : Nat) (m0 : fk_M) : Mo4 n1 k1 (f_X3_told g a0 n1 k1 m0) := by
  unfold f_X3_told
  exact Mo4.bind (fun u1 => Mo4.bn2 (fun z2 m3 => Mo4.bind (fun u4 => Mo4.bn3 (mo_X3_on g a0 n1 k1 m3) (fun n6 k7 m5 => Mo4.ok (by omega) (by omega)))))
set_option maxHeartbeats 4000000 in
theorem c_X3_told {l : Launch} {G : fk_G} {b0 : Nat} {n1 k1 nF kF : Nat} {a0 : Option Nat} {m0 : fk_M} {r : Int32} {mF : fk_M} (hf : f_X3_told G.2.2 a0 n1 k1 m0 = some (r, nF, kF, mF)) : fk_Ct l G b0 yX3_told cX3_told 2 (some .int) 9 234 [tR a0] n1 m0 (some (tI r)) nF mF (nF - n1) (kF - k1) := by
  refine fk_enter n_X3_told.1 rfl ?_
  intro E X0 Y
  have X : fk_X E l G b0 "FigureKnee$Reader" "told" cX3_told 2 9 234 (nF - n1) (kF - k1) := X0
  show fk_W E 2 n1 m0 0 0 0 [(0, tR a0)] []
  refine fk_widen (cs2 := n1 - n1) (sl2 := k1 - k1) (Nat.zero_le _) (Nat.zero_le _) ?_
  unfold f_X3_told at hf
  have h01 : n1 ≤ n1 := Nat.le_refl _
  have h02 : k1 ≤ k1 := Nat.le_refl _
  refine fk_aload_n X 0 dX3_told_0 rfl ?_
  obtain ⟨u1, hq, hf⟩ := bI hf
  obtain ⟨z2, m3, hv, hf⟩ := bn2_eq hf
  have hm : n1 ≤ nF ∧ k1 ≤ kF := Mo4.use hf (Mo4.bind (fun u4 => Mo4.bn3 (mo_X3_on G.2.2 a0 n1 k1 m3) (fun n6 k7 m5 => Mo4.ok (by omega) (by omega))))
  refine fk_callV0I (ci := 2) (rest := []) X hq rfl (c_X3_known hv) n_X3_known q875 q877 qs18 q127 q878 rfl dX3_told_1 rfl rfl rfl rfl rfl (by omega) (by omega) ?_
  refine fk_istore_n X [(1, tI z2), (0, tR a0)] dX3_told_4 rfl rfl ?_
  refine fk_aload_n X 1 dX3_told_5 rfl ?_
  obtain ⟨u4, hq, hf⟩ := bI hf
  obtain ⟨n6, k7, m5, hv, hf⟩ := bn3_eq hf
  have hmc := mo_X3_on G.2.2 a0 n1 k1 m3 _ _ _ hv
  have hm : n6 ≤ nF ∧ k7 ≤ kF := Mo4.use hf (Mo4.ok (by omega) (by omega))
  refine fk_callV1V (ci := 2) (rest := []) (cs2 := n6 - n1) (sl2 := k7 - k1) X hq rfl (c_X3_on hv) n_X3_on q666 q668 qs6 q127 q669 rfl dX3_told_6 rfl rfl rfl rfl rfl (by omega) (by omega) (by omega) (by omega) ?_
  refine fk_iload_n X 0 dX3_told_9 rfl ?_
  cases hf
  exact fk_ireturn X Y dX3_told_10 rfl
/-! FigureKnee$Pier isOwed (II)Z -/
theorem n_X5_isOwed : fk_N yX5_isOwed 2 := ⟨by decide +kernel, by decide +kernel, by decide +kernel, by decide +kernel⟩
def f_X5_isOwed_J51 (R2 : Int32 → Option Int32) (x0 : Option Nat) (x1 : Int32) (x2 : Int32) (x3 : Int32) (m : fk_M) : Option Int32 :=
  R2 (x3 + 1)
set_option maxHeartbeats 4000000 in
theorem w_X5_isOwed_J51 {E : fk_E} {l : Launch} {G : fk_G} {b0 n : Nat} {m : fk_M} {r : Int32} (X : fk_X E l G b0 "FigureKnee$Pier" "isOwed" cX5_isOwed 4 4 124 0 0) (Y : fk_Y E (some .boolean) (some (tI r)) n m 0 0) (x0 : Option Nat) (x1 : Int32) (x2 : Int32) (x3 : Int32)  {R2 : Int32 → Option Int32} (hR2 : ∀ (v3 : Int32), R2 v3 = some r → fk_W E 4 n m 0 0 2 [(0, tR x0), (1, tI x1), (2, tI x2), (3, tI v3)] []) (hf : f_X5_isOwed_J51 R2 x0 x1 x2 x3 m = some r) : fk_W E 4 n m 0 0 51 [(0, tR x0), (1, tI x1), (2, tI x2), (3, tI x3)] [] := by
  unfold f_X5_isOwed_J51 at hf
  refine fk_iinc X 3 [(3, tI (x3 + 1)), (0, tR x0), (1, tI x1), (2, tI x2)] dX5_isOwed_51 rfl rfl rfl rfl ?_
  refine fk_goto X 2 dX5_isOwed_54 rfl ?_
  exact fk_cut' (hR2 (x3 + 1)  hf) [1, 2, 3, 0] rfl
def f_X5_isOwed_L2 (x0 : Option Nat) (x1 : Int32) (x2 : Int32) (m : fk_M) : Nat → Int32 → Option Int32
  | 0, _ => none
  | N + 1, x3 =>
  (gR m x0 4 5).bind fun z1 => (isO m z1 14).bind fun u2 => (f_J2_size z1 m).bind fun z3 => if z3 ≤ x3 then (some 0) else ((gR m x0 4 5).bind fun z4 => (isO m z4 14).bind fun u5 => (f_J2_get z4 x3 m).bind fun z6 => (cst m z6 11).bind fun _ => (gI m z6 11 0).bind fun z7 => if z7 = x1 then ((gR m x0 4 5).bind fun z8 => (isO m z8 14).bind fun u9 => (f_J2_get z8 x3 m).bind fun z10 => (cst m z10 11).bind fun _ => (gI m z10 11 1).bind fun z11 => if z11 = x2 then (some 1) else (f_X5_isOwed_J51 (f_X5_isOwed_L2 x0 x1 x2 m N) x0 x1 x2 x3 m)) else (f_X5_isOwed_J51 (f_X5_isOwed_L2 x0 x1 x2 m N) x0 x1 x2 x3 m))
set_option maxHeartbeats 4000000 in
theorem w_X5_isOwed_L2 {E : fk_E} {l : Launch} {G : fk_G} {b0 n : Nat} {m : fk_M} {r : Int32} (X : fk_X E l G b0 "FigureKnee$Pier" "isOwed" cX5_isOwed 4 4 124 0 0) (Y : fk_Y E (some .boolean) (some (tI r)) n m 0 0) (x0 : Option Nat) (x1 : Int32) (x2 : Int32) : ∀ (N : Nat) (x3 : Int32), f_X5_isOwed_L2 x0 x1 x2 m N x3 = some r → fk_W E 4 n m 0 0 2 [(0, tR x0), (1, tI x1), (2, tI x2), (3, tI x3)] [] := by
  intro N
  induction N with
  | zero =>
    intro x3 hf
    have hf : (none : Option Int32) = some _ := hf
    cases hf
  | succ N ih =>
    intro x3 hf
    rw [f_X5_isOwed_L2] at hf
    refine fk_iload_n X 3 dX5_isOwed_2 rfl ?_
    refine fk_aload_n X 0 dX5_isOwed_3 rfl ?_
    refine fk_getR' X fd_4_5 q311 dX5_isOwed_4 hf (fun z1 hf => ?_)
    obtain ⟨u2, hq, hf⟩ := bI hf
    obtain ⟨z3, hv, hf⟩ := bI hf
    refine fk_callV0I (ci := 14) (rest := [tI x3]) X hq rfl (c_J2_size hv) n_J2_size q721 q699 q700 q125 q701 rfl dX5_isOwed_7 rfl rfl rfl rfl rfl (Nat.le_refl _) (Nat.le_refl _) ?_
    refine fk_icmp_ge' X 57 dX5_isOwed_10 rfl hf (fun hf => ?_) (fun hf => ?_)
    · refine fk_iconst (v := 0) X dX5_isOwed_57 rfl ?_
      cases hf
      exact fk_ireturn X Y dX5_isOwed_58 (by decide +kernel)
    · refine fk_aload_n X 0 dX5_isOwed_13 rfl ?_
      refine fk_getR' X fd_4_5 q311 dX5_isOwed_14 hf (fun z4 hf => ?_)
      refine fk_iload_n X 3 dX5_isOwed_17 rfl ?_
      obtain ⟨u5, hq, hf⟩ := bI hf
      obtain ⟨z6, hv, hf⟩ := bI hf
      refine fk_callV0R (ci := 14) (rest := []) X hq rfl (c_J2_get hv) n_J2_get q722 q723 q724 q125 q725 rfl dX5_isOwed_18 rfl rfl rfl rfl rfl (Nat.le_refl _) (Nat.le_refl _) ?_
      refine fk_cast' (ci := 11) X rfl q893 dX5_isOwed_21 hf (fun hf => ?_)
      refine fk_getI' X fd_11_0 q902 dX5_isOwed_24 hf (fun z7 hf => ?_)
      refine fk_iload_n X 1 dX5_isOwed_27 rfl ?_
      refine fk_icmp_ne' X 51 dX5_isOwed_28 rfl hf (fun hf => ?_) (fun hf => ?_)
      · exact fk_cut' (w_X5_isOwed_J51 X Y x0 x1 x2 x3 ih hf) [0, 1, 2, 3] rfl
      · refine fk_aload_n X 0 dX5_isOwed_31 rfl ?_
        refine fk_getR' X fd_4_5 q311 dX5_isOwed_32 hf (fun z8 hf => ?_)
        refine fk_iload_n X 3 dX5_isOwed_35 rfl ?_
        obtain ⟨u9, hq, hf⟩ := bI hf
        obtain ⟨z10, hv, hf⟩ := bI hf
        refine fk_callV0R (ci := 14) (rest := []) X hq rfl (c_J2_get hv) n_J2_get q722 q723 q724 q125 q725 rfl dX5_isOwed_36 rfl rfl rfl rfl rfl (Nat.le_refl _) (Nat.le_refl _) ?_
        refine fk_cast' (ci := 11) X rfl q893 dX5_isOwed_39 hf (fun hf => ?_)
        refine fk_getI' X fd_11_1 q905 dX5_isOwed_42 hf (fun z11 hf => ?_)
        refine fk_iload_n X 2 dX5_isOwed_45 rfl ?_
        refine fk_icmp_ne' X 51 dX5_isOwed_46 rfl hf (fun hf => ?_) (fun hf => ?_)
        · exact fk_cut' (w_X5_isOwed_J51 X Y x0 x1 x2 x3 ih hf) [0, 1, 2, 3] rfl
        · refine fk_iconst (v := 1) X dX5_isOwed_49 rfl ?_
          cases hf
          exact fk_ireturn X Y dX5_isOwed_50 (by decide +kernel)
def f_X5_isOwed (a0 : Option Nat) (a1 : Int32) (a2 : Int32) (m : fk_M) : Option Int32 :=
  f_X5_isOwed_L2 a0 a1 a2 m fk_fuel 0
set_option maxHeartbeats 4000000 in
theorem c_X5_isOwed {l : Launch} {G : fk_G} {b0 : Nat} {n : Nat} {a0 : Option Nat} {a1 : Int32} {a2 : Int32} {m : fk_M} {r : Int32} (hf : f_X5_isOwed a0 a1 a2 m = some r) : fk_Ct l G b0 yX5_isOwed cX5_isOwed 4 (some .boolean) 4 124 [tR a0, tI a1, tI a2] n m (some (tI r)) n m 0 0 := by
  refine fk_enter n_X5_isOwed.1 rfl ?_
  intro E X0 Y
  have X : fk_X E l G b0 "FigureKnee$Pier" "isOwed" cX5_isOwed 4 4 124 0 0 := X0
  show fk_W E 4 n m 0 0 0 [(0, tR a0), (1, tI a1), (2, tI a2)] []
  unfold f_X5_isOwed at hf
  refine fk_iconst (v := 0) X dX5_isOwed_0 rfl ?_
  refine fk_istore_n X [(3, tI 0), (0, tR a0), (1, tI a1), (2, tI a2)] dX5_isOwed_1 rfl rfl ?_
  exact fk_cut' (w_X5_isOwed_L2 X Y a0 a1 a2 fk_fuel 0 hf) [1, 2, 3, 0] rfl
/-! FigureKnee$Debt <init> (III)V -/
theorem n_X13_init : fk_N yX13_init 3 := ⟨by decide +kernel, by decide +kernel, by decide +kernel, by decide +kernel⟩
def f_X13_init (a0 : Option Nat) (a1 : Int32) (a2 : Int32) (a3 : Int32) (m0 : fk_M) : Option fk_M :=
  (isS a0).bind fun _ => (pV m0 a0 11 0 (tI a1)).bind fun m1 => (pV m1 a0 11 1 (tI a2)).bind fun m2 => (pV m2 a0 11 2 (tI a3)).bind fun m3 => some m3
set_option maxHeartbeats 4000000 in
theorem c_X13_init {l : Launch} {G : fk_G} {b0 : Nat} {n : Nat} {a0 : Option Nat} {a1 : Int32} {a2 : Int32} {a3 : Int32} {m0 : fk_M} {mF : fk_M} (hf : f_X13_init a0 a1 a2 a3 m0 = some mF) : fk_Ct l G b0 yX13_init cX13_init 4 none 1 60 [tR a0, tI a1, tI a2, tI a3] n m0 none n mF 0 0 := by
  refine fk_enter n_X13_init.1 rfl ?_
  intro E X0 Y
  have X : fk_X E l G b0 "FigureKnee$Debt" "<init>" cX13_init 4 1 60 0 0 := X0
  show fk_W E 4 n m0 0 0 0 [(0, tR a0), (1, tI a1), (2, tI a2), (3, tI a3)] []
  unfold f_X13_init at hf
  refine fk_aload_n X 0 dX13_init_0 rfl ?_
  refine fk_objInit' X q899 q161 q162 dX13_init_1 rfl rfl hf (fun hf => ?_)
  refine fk_aload_n X 0 dX13_init_4 rfl ?_
  refine fk_iload_n X 1 dX13_init_5 rfl ?_
  refine fk_putFI' X fd_11_0 q900 dX13_init_6 (fit_I _) hf (fun m1 hf => ?_)
  refine fk_aload_n X 0 dX13_init_9 rfl ?_
  refine fk_iload_n X 2 dX13_init_10 rfl ?_
  refine fk_putFI' X fd_11_1 q903 dX13_init_11 (fit_I _) hf (fun m2 hf => ?_)
  refine fk_aload_n X 0 dX13_init_14 rfl ?_
  refine fk_iload_n X 3 dX13_init_15 rfl ?_
  refine fk_putFI' X fd_11_2 q906 dX13_init_16 (fit_I _) hf (fun m3 hf => ?_)
  cases hf
  exact fk_return X Y dX13_init_19
/-! FigureKnee$Reader debt ()V -/
theorem n_X3_debt : fk_N yX3_debt 0 := ⟨by decide +kernel, by decide +kernel, by decide +kernel, by decide +kernel⟩
def f_X3_debt_J55 (g : Nat → Nat) (x0 : Option Nat) (x1 : Int32) (x2 : Int32) (n1 k1 : Nat) (m0 : fk_M) : Option (Nat × Nat × fk_M) :=
  (isO m0 x0 2).bind fun u1 => bn3 (f_X3_on g x0 n1 k1 m0) fun n3 k4 m2 => (isO m2 x0 2).bind fun u5 => bn4 (f_X3_whole g x0 1 99 n3 k4 m2) fun z6 n8 k9 m7 => (isO m7 x0 2).bind fun u10 => (f_X3_isOver x0 m7).bind fun z11 => if z11 = 0 then ((gR m7 x0 2 1).bind fun z12 => (gR m7 z12 4 5).bind fun z13 => (isS (some n8)).bind fun u15 => (f_X13_init (some n8) x1 x2 z6 (fk_up m7 n8 (oB 11 (fk_V0 tyX13)))).bind fun m16 => (isO m16 z13 14).bind fun u17 => bn4 (f_J2_add g z13 (some n8) (n8 + 1) (k9 + 3) m16) fun z18 n20 k21 m19 => some (n20, k21, m19)) else (some (n8, k9, m7))
theorem mo_X3_debt_J55 (g : Nat → Nat) (x0 : Option Nat) (x1 : Int32) (x2 : Int32) (n1 k1 : Nat) (m0 : fk_M) : Mo3 n1 k1 (f_X3_debt_J55 g x0 x1 x2 n1 k1 m0) := by
  unfold f_X3_debt_J55
  exact Mo3.bind (fun u1 => Mo3.bn3 (mo_X3_on g x0 n1 k1 m0) (fun n3 k4 m2 => Mo3.bind (fun u5 => Mo3.bn4 (mo_X3_whole g x0 1 99 n3 k4 m2) (fun z6 n8 k9 m7 => Mo3.bind (fun u10 => Mo3.bind (fun z11 => Mo3.ite (Mo3.bind (fun z12 => Mo3.bind (fun z13 => Mo3.le (n1 := (n8 + 1)) (k1 := (k9 + 3)) (Mo3.bind (fun u15 => Mo3.bind (fun m16 => Mo3.bind (fun u17 => Mo3.bn4 (mo_J2_add g z13 (some n8) (n8 + 1) (k9 + 3) m16) (fun z18 n20 k21 m19 => Mo3.ok (by omega) (by omega)))))) (by omega) (by omega)))) (Mo3.ok (by omega) (by omega))))))))
set_option maxHeartbeats 4000000 in
theorem w_X3_debt_J55 {E : fk_E} {l : Launch} {G : fk_G} {b0 n0 k0 nF kF : Nat} {mF : fk_M} (X : fk_X E l G b0 "FigureKnee$Reader" "debt" cX3_debt 4 10 257 (nF - n0) (kF - k0)) (Y : fk_Y E none none nF mF (nF - n0) (kF - k0)) (x0 : Option Nat) (x1 : Int32) (x2 : Int32)  (n1 k1 : Nat) (hn1 : n0 ≤ n1) (hk1 : k0 ≤ k1) (m0 : fk_M) (hf : f_X3_debt_J55 G.2.2 x0 x1 x2 n1 k1 m0 = some (nF, kF, mF)) : fk_W E 4 n1 m0 (n1 - n0) (k1 - k0) 55 [(0, tR x0), (1, tI x1), (2, tI x2)] [] := by
  unfold f_X3_debt_J55 at hf
  refine fk_aload_n X 0 dX3_debt_55 rfl ?_
  obtain ⟨u1, hq, hf⟩ := bI hf
  obtain ⟨n3, k4, m2, hv, hf⟩ := bn3_eq hf
  have hmc := mo_X3_on G.2.2 x0 n1 k1 m0 _ _ _ hv
  have hm : n3 ≤ nF ∧ k4 ≤ kF := Mo3.use hf (Mo3.bind (fun u5 => Mo3.bn4 (mo_X3_whole G.2.2 x0 1 99 n3 k4 m2) (fun z6 n8 k9 m7 => Mo3.bind (fun u10 => Mo3.bind (fun z11 => Mo3.ite (Mo3.bind (fun z12 => Mo3.bind (fun z13 => Mo3.le (n1 := (n8 + 1)) (k1 := (k9 + 3)) (Mo3.bind (fun u15 => Mo3.bind (fun m16 => Mo3.bind (fun u17 => Mo3.bn4 (mo_J2_add G.2.2 z13 (some n8) (n8 + 1) (k9 + 3) m16) (fun z18 n20 k21 m19 => Mo3.ok (by omega) (by omega)))))) (by omega) (by omega)))) (Mo3.ok (by omega) (by omega)))))))
  refine fk_callV1V (ci := 2) (rest := []) (cs2 := n3 - n0) (sl2 := k4 - k0) X hq rfl (c_X3_on hv) n_X3_on q666 q668 qs6 q127 q669 rfl dX3_debt_56 rfl rfl rfl rfl rfl (by omega) (by omega) (by omega) (by omega) ?_
  refine fk_aload_n X 0 dX3_debt_59 rfl ?_
  refine fk_iconst (v := 1) X dX3_debt_60 rfl ?_
  refine fk_bipush (v := 99) X dX3_debt_61 rfl ?_
  obtain ⟨u5, hq, hf⟩ := bI hf
  obtain ⟨z6, n8, k9, m7, hv, hf⟩ := bn4_eq hf
  have hmc := mo_X3_whole G.2.2 x0 1 99 n3 k4 m2 _ _ _ _ hv
  have hm : n8 ≤ nF ∧ k9 ≤ kF := Mo3.use hf (Mo3.bind (fun u10 => Mo3.bind (fun z11 => Mo3.ite (Mo3.bind (fun z12 => Mo3.bind (fun z13 => Mo3.le (n1 := (n8 + 1)) (k1 := (k9 + 3)) (Mo3.bind (fun u15 => Mo3.bind (fun m16 => Mo3.bind (fun u17 => Mo3.bn4 (mo_J2_add G.2.2 z13 (some n8) (n8 + 1) (k9 + 3) m16) (fun z18 n20 k21 m19 => Mo3.ok (by omega) (by omega)))))) (by omega) (by omega)))) (Mo3.ok (by omega) (by omega)))))
  refine fk_callV1I (ci := 2) (rest := []) (cs2 := n8 - n0) (sl2 := k9 - k0) X hq rfl (c_X3_whole hv) n_X3_whole q684 q686 qs9 q127 q687 rfl dX3_debt_63 rfl rfl rfl rfl rfl (by omega) (by omega) (by omega) (by omega) ?_
  refine fk_istore_n X [(3, tI z6), (0, tR x0), (1, tI x1), (2, tI x2)] dX3_debt_66 rfl rfl ?_
  refine fk_aload_n X 1 dX3_debt_67 rfl ?_
  obtain ⟨u10, hq, hf⟩ := bI hf
  obtain ⟨z11, hv, hf⟩ := bI hf
  have hm : n8 ≤ nF ∧ k9 ≤ kF := Mo3.use hf (Mo3.ite (Mo3.bind (fun z12 => Mo3.bind (fun z13 => Mo3.le (n1 := (n8 + 1)) (k1 := (k9 + 3)) (Mo3.bind (fun u15 => Mo3.bind (fun m16 => Mo3.bind (fun u17 => Mo3.bn4 (mo_J2_add G.2.2 z13 (some n8) (n8 + 1) (k9 + 3) m16) (fun z18 n20 k21 m19 => Mo3.ok (by omega) (by omega)))))) (by omega) (by omega)))) (Mo3.ok (by omega) (by omega)))
  refine fk_callV0I (ci := 2) (rest := []) X hq rfl (c_X3_isOver hv) n_X3_isOver q662 q664 qs5 q127 q665 rfl dX3_debt_68 rfl rfl rfl rfl rfl (by omega) (by omega) ?_
  refine fk_if_ne' X 95 dX3_debt_71 rfl hf (fun hf => ?_) (fun hf => ?_)
  · cases hf
    exact fk_return X Y dX3_debt_95
  · refine fk_aload_n X 1 dX3_debt_74 rfl ?_
    refine fk_getR' X fd_2_1 q561 dX3_debt_75 hf (fun z12 hf => ?_)
    refine fk_getR' X fd_4_5 q313 dX3_debt_78 hf (fun z13 hf => ?_)
    have hm : (n8 + 1) ≤ nF ∧ (k9 + 3) ≤ kF := Mo3.use hf (Mo3.bind (fun u15 => Mo3.bind (fun m16 => Mo3.bind (fun u17 => Mo3.bn4 (mo_J2_add G.2.2 z13 (some n8) (n8 + 1) (k9 + 3) m16) (fun z18 n20 k21 m19 => Mo3.ok (by omega) (by omega))))))
    refine fk_new (cs2 := (n8 + 1) - n0) (sl2 := (k9 + 3) - k0) X cl_11 q894 dX3_debt_81 (by omega) (by omega) (by omega) (by omega) ?_
    refine fk_dup X dX3_debt_84 rfl ?_
    refine fk_iload_n X 2 dX3_debt_85 rfl ?_
    refine fk_iload_n X 3 dX3_debt_86 rfl ?_
    refine fk_iload_n X 0 dX3_debt_87 rfl ?_
    obtain ⟨u15, hq, hf⟩ := bI hf
    obtain ⟨m16, hv, hf⟩ := bI hf
    have hm : (n8 + 1) ≤ nF ∧ (k9 + 3) ≤ kF := Mo3.use hf (Mo3.bind (fun u17 => Mo3.bn4 (mo_J2_add G.2.2 z13 (some n8) (n8 + 1) (k9 + 3) m16) (fun z18 n20 k21 m19 => Mo3.ok (by omega) (by omega))))
    refine fk_callI0V (rest := [tR (some n8), tR z13]) X hq (c_X13_init hv) n_X13_init rfl q896 q897 q148 q898 dX3_debt_88 rfl rfl rfl rfl rfl (by omega) (by omega) ?_
    obtain ⟨u17, hq, hf⟩ := bI hf
    obtain ⟨z18, n20, k21, m19, hv, hf⟩ := bn4_eq hf
    have hmc := mo_J2_add G.2.2 z13 (some n8) (n8 + 1) (k9 + 3) m16 _ _ _ _ hv
    have hm : n20 ≤ nF ∧ k21 ≤ kF := Mo3.use hf (Mo3.ok (by omega) (by omega))
    refine fk_callV1I (ci := 14) (rest := []) (cs2 := n20 - n0) (sl2 := k21 - k0) X hq rfl (c_J2_add hv) n_J2_add q820 q821 q822 q125 q823 rfl dX3_debt_91 rfl rfl rfl rfl rfl (by omega) (by omega) (by omega) (by omega) ?_
    refine fk_pop X dX3_debt_94 rfl ?_
    cases hf
    exact fk_return X Y dX3_debt_95
def f_X3_debt_J50 (g : Nat → Nat) (x0 : Option Nat) (x1 : Int32) (x2 : Int32) (n1 k1 : Nat) (m0 : fk_M) : Option (Nat × Nat × fk_M) :=
  (isO m0 x0 2).bind fun u1 => (f_X3_wrong x0 3 m0).bind fun m2 => f_X3_debt_J55 g x0 x1 x2 n1 k1 m2
theorem mo_X3_debt_J50 (g : Nat → Nat) (x0 : Option Nat) (x1 : Int32) (x2 : Int32) (n1 k1 : Nat) (m0 : fk_M) : Mo3 n1 k1 (f_X3_debt_J50 g x0 x1 x2 n1 k1 m0) := by
  unfold f_X3_debt_J50
  exact Mo3.bind (fun u1 => Mo3.bind (fun m2 => (mo_X3_debt_J55 g x0 x1 x2 n1 k1 m2)))
set_option maxHeartbeats 4000000 in
theorem w_X3_debt_J50 {E : fk_E} {l : Launch} {G : fk_G} {b0 n0 k0 nF kF : Nat} {mF : fk_M} (X : fk_X E l G b0 "FigureKnee$Reader" "debt" cX3_debt 4 10 257 (nF - n0) (kF - k0)) (Y : fk_Y E none none nF mF (nF - n0) (kF - k0)) (x0 : Option Nat) (x1 : Int32) (x2 : Int32)  (n1 k1 : Nat) (hn1 : n0 ≤ n1) (hk1 : k0 ≤ k1) (m0 : fk_M) (hf : f_X3_debt_J50 G.2.2 x0 x1 x2 n1 k1 m0 = some (nF, kF, mF)) : fk_W E 4 n1 m0 (n1 - n0) (k1 - k0) 50 [(0, tR x0), (1, tI x1), (2, tI x2)] [] := by
  unfold f_X3_debt_J50 at hf
  refine fk_aload_n X 0 dX3_debt_50 rfl ?_
  refine fk_iconst (v := 3) X dX3_debt_51 rfl ?_
  obtain ⟨u1, hq, hf⟩ := bI hf
  obtain ⟨m2, hv, hf⟩ := bI hf
  have hm : n1 ≤ nF ∧ k1 ≤ kF := Mo3.use hf ((mo_X3_debt_J55 G.2.2 x0 x1 x2 n1 k1 m2))
  refine fk_callV0V (ci := 2) (rest := []) X hq rfl (c_X3_wrong hv) n_X3_wrong q658 q660 qs4 q127 q661 rfl dX3_debt_52 rfl rfl rfl rfl rfl (by omega) (by omega) ?_
  have hn : n0 ≤ n1 := by omega
  have hk : k0 ≤ k1 := by omega
  exact fk_cut' (w_X3_debt_J55 X Y x0 x1 x2 n1 k1 hn hk m2 hf) [0, 1, 2] rfl
def f_X3_debt (g : Nat → Nat) (a0 : Option Nat) (n1 k1 : Nat) (m0 : fk_M) : Option (Nat × Nat × fk_M) :=
  (gR m0 a0 2 1).bind fun z1 => (gR m0 z1 4 5).bind fun z2 => (isO m0 z2 14).bind fun u3 => (f_J2_size z2 m0).bind fun z4 => (isO m0 a0 2).bind fun u5 => bn3 (f_X3_begins g a0 z4 10 n1 k1 m0) fun n7 k8 m6 => (isO m6 a0 2).bind fun u9 => bn4 (f_X3_told g a0 n7 k8 m6) fun z10 n12 k13 m11 => (isO m11 a0 2).bind fun u14 => bn2 (f_X3_known g a0 m11) fun z15 m16 => (isO m16 a0 2).bind fun u17 => (f_X3_isOver a0 m16).bind fun z18 => if z18 = 0 then (if z10 = z15 then (f_X3_debt_J50 g a0 z10 z15 n12 k13 m16) else ((gR m16 a0 2 1).bind fun z19 => (isO m16 z19 4).bind fun u20 => (f_X5_isOwed z19 z10 z15 m16).bind fun z21 => if z21 = 0 then (f_X3_debt_J55 g a0 z10 z15 n12 k13 m16) else (f_X3_debt_J50 g a0 z10 z15 n12 k13 m16))) else (f_X3_debt_J55 g a0 z10 z15 n12 k13 m16)
theorem mo_X3_debt (g : Nat → Nat) (a0 : Option Nat) (n1 k1 : Nat) (m0 : fk_M) : Mo3 n1 k1 (f_X3_debt g a0 n1 k1 m0) := by
  unfold f_X3_debt
  exact Mo3.bind (fun z1 => Mo3.bind (fun z2 => Mo3.bind (fun u3 => Mo3.bind (fun z4 => Mo3.bind (fun u5 => Mo3.bn3 (mo_X3_begins g a0 z4 10 n1 k1 m0) (fun n7 k8 m6 => Mo3.bind (fun u9 => Mo3.bn4 (mo_X3_told g a0 n7 k8 m6) (fun z10 n12 k13 m11 => Mo3.bind (fun u14 => Mo3.bn2 (fun z15 m16 => Mo3.bind (fun u17 => Mo3.bind (fun z18 => Mo3.ite (Mo3.ite ((mo_X3_debt_J50 g a0 z10 z15 n12 k13 m16)) (Mo3.bind (fun z19 => Mo3.bind (fun u20 => Mo3.bind (fun z21 => Mo3.ite ((mo_X3_debt_J55 g a0 z10 z15 n12 k13 m16)) ((mo_X3_debt_J50 g a0 z10 z15 n12 k13 m16))))))) ((mo_X3_debt_J55 g a0 z10 z15 n12 k13 m16))))))))))))))
set_option maxHeartbeats 4000000 in
theorem c_X3_debt {l : Launch} {G : fk_G} {b0 : Nat} {n1 k1 nF kF : Nat} {a0 : Option Nat} {m0 : fk_M} {mF : fk_M} (hf : f_X3_debt G.2.2 a0 n1 k1 m0 = some (nF, kF, mF)) : fk_Ct l G b0 yX3_debt cX3_debt 4 none 10 257 [tR a0] n1 m0 none nF mF (nF - n1) (kF - k1) := by
  refine fk_enter n_X3_debt.1 rfl ?_
  intro E X0 Y
  have X : fk_X E l G b0 "FigureKnee$Reader" "debt" cX3_debt 4 10 257 (nF - n1) (kF - k1) := X0
  show fk_W E 4 n1 m0 0 0 0 [(0, tR a0)] []
  refine fk_widen (cs2 := n1 - n1) (sl2 := k1 - k1) (Nat.zero_le _) (Nat.zero_le _) ?_
  unfold f_X3_debt at hf
  have h01 : n1 ≤ n1 := Nat.le_refl _
  have h02 : k1 ≤ k1 := Nat.le_refl _
  refine fk_aload_n X 0 dX3_debt_0 rfl ?_
  refine fk_aload_n X 0 dX3_debt_1 rfl ?_
  refine fk_getR' X fd_2_1 q561 dX3_debt_2 hf (fun z1 hf => ?_)
  refine fk_getR' X fd_4_5 q313 dX3_debt_5 hf (fun z2 hf => ?_)
  obtain ⟨u3, hq, hf⟩ := bI hf
  obtain ⟨z4, hv, hf⟩ := bI hf
  have hm : n1 ≤ nF ∧ k1 ≤ kF := Mo3.use hf (Mo3.bind (fun u5 => Mo3.bn3 (mo_X3_begins G.2.2 a0 z4 10 n1 k1 m0) (fun n7 k8 m6 => Mo3.bind (fun u9 => Mo3.bn4 (mo_X3_told G.2.2 a0 n7 k8 m6) (fun z10 n12 k13 m11 => Mo3.bind (fun u14 => Mo3.bn2 (fun z15 m16 => Mo3.bind (fun u17 => Mo3.bind (fun z18 => Mo3.ite (Mo3.ite ((mo_X3_debt_J50 G.2.2 a0 z10 z15 n12 k13 m16)) (Mo3.bind (fun z19 => Mo3.bind (fun u20 => Mo3.bind (fun z21 => Mo3.ite ((mo_X3_debt_J55 G.2.2 a0 z10 z15 n12 k13 m16)) ((mo_X3_debt_J50 G.2.2 a0 z10 z15 n12 k13 m16))))))) ((mo_X3_debt_J55 G.2.2 a0 z10 z15 n12 k13 m16)))))))))))
  refine fk_callV0I (ci := 14) (rest := [tR a0]) X hq rfl (c_J2_size hv) n_J2_size q698 q699 q700 q125 q701 rfl dX3_debt_8 rfl rfl rfl rfl rfl (by omega) (by omega) ?_
  refine fk_bipush (v := 10) X dX3_debt_11 rfl ?_
  obtain ⟨u5, hq, hf⟩ := bI hf
  obtain ⟨n7, k8, m6, hv, hf⟩ := bn3_eq hf
  have hmc := mo_X3_begins G.2.2 a0 z4 10 n1 k1 m0 _ _ _ hv
  have hm : n7 ≤ nF ∧ k8 ≤ kF := Mo3.use hf (Mo3.bind (fun u9 => Mo3.bn4 (mo_X3_told G.2.2 a0 n7 k8 m6) (fun z10 n12 k13 m11 => Mo3.bind (fun u14 => Mo3.bn2 (fun z15 m16 => Mo3.bind (fun u17 => Mo3.bind (fun z18 => Mo3.ite (Mo3.ite ((mo_X3_debt_J50 G.2.2 a0 z10 z15 n12 k13 m16)) (Mo3.bind (fun z19 => Mo3.bind (fun u20 => Mo3.bind (fun z21 => Mo3.ite ((mo_X3_debt_J55 G.2.2 a0 z10 z15 n12 k13 m16)) ((mo_X3_debt_J50 G.2.2 a0 z10 z15 n12 k13 m16))))))) ((mo_X3_debt_J55 G.2.2 a0 z10 z15 n12 k13 m16)))))))))
  refine fk_callV1V (ci := 2) (rest := []) (cs2 := n7 - n1) (sl2 := k8 - k1) X hq rfl (c_X3_begins hv) n_X3_begins q702 q704 qs12 q127 q705 rfl dX3_debt_13 rfl rfl rfl rfl rfl (by omega) (by omega) (by omega) (by omega) ?_
  refine fk_aload_n X 0 dX3_debt_16 rfl ?_
  obtain ⟨u9, hq, hf⟩ := bI hf
  obtain ⟨z10, n12, k13, m11, hv, hf⟩ := bn4_eq hf
  have hmc := mo_X3_told G.2.2 a0 n7 k8 m6 _ _ _ _ hv
  have hm : n12 ≤ nF ∧ k13 ≤ kF := Mo3.use hf (Mo3.bind (fun u14 => Mo3.bn2 (fun z15 m16 => Mo3.bind (fun u17 => Mo3.bind (fun z18 => Mo3.ite (Mo3.ite ((mo_X3_debt_J50 G.2.2 a0 z10 z15 n12 k13 m16)) (Mo3.bind (fun z19 => Mo3.bind (fun u20 => Mo3.bind (fun z21 => Mo3.ite ((mo_X3_debt_J55 G.2.2 a0 z10 z15 n12 k13 m16)) ((mo_X3_debt_J50 G.2.2 a0 z10 z15 n12 k13 m16))))))) ((mo_X3_debt_J55 G.2.2 a0 z10 z15 n12 k13 m16)))))))
  refine fk_callV1I (ci := 2) (rest := []) (cs2 := n12 - n1) (sl2 := k13 - k1) X hq rfl (c_X3_told hv) n_X3_told q885 q887 qs20 q127 q888 rfl dX3_debt_17 rfl rfl rfl rfl rfl (by omega) (by omega) (by omega) (by omega) ?_
  refine fk_istore_n X [(1, tI z10), (0, tR a0)] dX3_debt_20 rfl rfl ?_
  refine fk_aload_n X 1 dX3_debt_21 rfl ?_
  obtain ⟨u14, hq, hf⟩ := bI hf
  obtain ⟨z15, m16, hv, hf⟩ := bn2_eq hf
  have hm : n12 ≤ nF ∧ k13 ≤ kF := Mo3.use hf (Mo3.bind (fun u17 => Mo3.bind (fun z18 => Mo3.ite (Mo3.ite ((mo_X3_debt_J50 G.2.2 a0 z10 z15 n12 k13 m16)) (Mo3.bind (fun z19 => Mo3.bind (fun u20 => Mo3.bind (fun z21 => Mo3.ite ((mo_X3_debt_J55 G.2.2 a0 z10 z15 n12 k13 m16)) ((mo_X3_debt_J50 G.2.2 a0 z10 z15 n12 k13 m16))))))) ((mo_X3_debt_J55 G.2.2 a0 z10 z15 n12 k13 m16)))))
  refine fk_callV0I (ci := 2) (rest := []) X hq rfl (c_X3_known hv) n_X3_known q875 q877 qs18 q127 q878 rfl dX3_debt_22 rfl rfl rfl rfl rfl (by omega) (by omega) ?_
  refine fk_istore_n X [(2, tI z15), (1, tI z10), (0, tR a0)] dX3_debt_25 rfl rfl ?_
  refine fk_aload_n X 2 dX3_debt_26 rfl ?_
  obtain ⟨u17, hq, hf⟩ := bI hf
  obtain ⟨z18, hv, hf⟩ := bI hf
  have hm : n12 ≤ nF ∧ k13 ≤ kF := Mo3.use hf (Mo3.ite (Mo3.ite ((mo_X3_debt_J50 G.2.2 a0 z10 z15 n12 k13 m16)) (Mo3.bind (fun z19 => Mo3.bind (fun u20 => Mo3.bind (fun z21 => Mo3.ite ((mo_X3_debt_J55 G.2.2 a0 z10 z15 n12 k13 m16)) ((mo_X3_debt_J50 G.2.2 a0 z10 z15 n12 k13 m16))))))) ((mo_X3_debt_J55 G.2.2 a0 z10 z15 n12 k13 m16)))
  refine fk_callV0I (ci := 2) (rest := []) X hq rfl (c_X3_isOver hv) n_X3_isOver q662 q664 qs5 q127 q665 rfl dX3_debt_27 rfl rfl rfl rfl rfl (by omega) (by omega) ?_
  refine fk_if_ne' X 55 dX3_debt_30 rfl hf (fun hf => ?_) (fun hf => ?_)
  · have hn : n1 ≤ n12 := by omega
    have hk : k1 ≤ k13 := by omega
    exact fk_cut' (w_X3_debt_J55 X Y a0 z10 z15 n12 k13 hn hk m16 hf) [2, 1, 0] rfl
  · refine fk_iload_n X 1 dX3_debt_33 rfl ?_
    refine fk_iload_n X 0 dX3_debt_34 rfl ?_
    refine fk_icmp_eq' X 50 dX3_debt_35 rfl hf (fun hf => ?_) (fun hf => ?_)
    · have hn : n1 ≤ n12 := by omega
      have hk : k1 ≤ k13 := by omega
      exact fk_cut' (w_X3_debt_J50 X Y a0 z10 z15 n12 k13 hn hk m16 hf) [2, 1, 0] rfl
    · refine fk_aload_n X 2 dX3_debt_38 rfl ?_
      refine fk_getR' X fd_2_1 q561 dX3_debt_39 hf (fun z19 hf => ?_)
      refine fk_iload_n X 1 dX3_debt_42 rfl ?_
      refine fk_iload_n X 0 dX3_debt_43 rfl ?_
      obtain ⟨u20, hq, hf⟩ := bI hf
      obtain ⟨z21, hv, hf⟩ := bI hf
      have hm : n12 ≤ nF ∧ k13 ≤ kF := Mo3.use hf (Mo3.ite ((mo_X3_debt_J55 G.2.2 a0 z10 z15 n12 k13 m16)) ((mo_X3_debt_J50 G.2.2 a0 z10 z15 n12 k13 m16)))
      refine fk_callV0I (ci := 4) (rest := []) X hq rfl (c_X5_isOwed hv) n_X5_isOwed q889 q890 q891 q129 q892 rfl dX3_debt_44 rfl rfl rfl rfl rfl (by omega) (by omega) ?_
      refine fk_if_eq' X 55 dX3_debt_47 rfl hf (fun hf => ?_) (fun hf => ?_)
      · have hn : n1 ≤ n12 := by omega
        have hk : k1 ≤ k13 := by omega
        exact fk_cut' (w_X3_debt_J55 X Y a0 z10 z15 n12 k13 hn hk m16 hf) [2, 1, 0] rfl
      · have hn : n1 ≤ n12 := by omega
        have hk : k1 ≤ k13 := by omega
        exact fk_cut' (w_X3_debt_J50 X Y a0 z10 z15 n12 k13 hn hk m16 hf) [2, 1, 0] rfl
/-! FigureKnee$Reader unsure ()V -/
theorem n_X3_unsure : fk_N yX3_unsure 0 := ⟨by decide +kernel, by decide +kernel, by decide +kernel, by decide +kernel⟩
def f_X3_unsure_J49 (g : Nat → Nat) (x0 : Option Nat) (x1 : Int32) (n1 k1 : Nat) (m0 : fk_M) : Option (Nat × Nat × fk_M) :=
  (isO m0 x0 2).bind fun u1 => bn3 (f_X3_on g x0 n1 k1 m0) fun n3 k4 m2 => (isO m2 x0 2).bind fun u5 => bn4 (f_X3_whole g x0 0 20 n3 k4 m2) fun z6 n8 k9 m7 => (isO m7 x0 2).bind fun u10 => (f_X3_isOver x0 m7).bind fun z11 => if z11 = 0 then ((gR m7 x0 2 1).bind fun z12 => (gR m7 z12 4 4).bind fun z13 => (isO m7 z13 14).bind fun u14 => (f_J2_get z13 x1 m7).bind fun z15 => (cst m7 z15 6).bind fun _ => (pZ m7 z15 6 6 1).bind fun m16 => (gR m16 x0 2 1).bind fun z17 => (gR m16 z17 4 4).bind fun z18 => (isO m16 z18 14).bind fun u19 => (f_J2_get z18 x1 m16).bind fun z20 => (cst m16 z20 6).bind fun _ => (pV m16 z20 6 5 (tI z6)).bind fun m21 => (gR m21 x0 2 1).bind fun z22 => (gR m21 z22 4 7).bind fun z23 => (gR m21 x0 2 1).bind fun z24 => (gI m21 z24 4 3).bind fun z25 => (sI m21 z23 0 z25 x1).bind fun m26 => (gR m26 x0 2 1).bind fun z27 => (gI m26 z27 4 3).bind fun z28 => (pV m26 z27 4 3 (tI (z28 + 1))).bind fun m29 => some (n8, k9, m29)) else (some (n8, k9, m7))
theorem mo_X3_unsure_J49 (g : Nat → Nat) (x0 : Option Nat) (x1 : Int32) (n1 k1 : Nat) (m0 : fk_M) : Mo3 n1 k1 (f_X3_unsure_J49 g x0 x1 n1 k1 m0) := by
  unfold f_X3_unsure_J49
  exact Mo3.bind (fun u1 => Mo3.bn3 (mo_X3_on g x0 n1 k1 m0) (fun n3 k4 m2 => Mo3.bind (fun u5 => Mo3.bn4 (mo_X3_whole g x0 0 20 n3 k4 m2) (fun z6 n8 k9 m7 => Mo3.bind (fun u10 => Mo3.bind (fun z11 => Mo3.ite (Mo3.bind (fun z12 => Mo3.bind (fun z13 => Mo3.bind (fun u14 => Mo3.bind (fun z15 => Mo3.bind (fun _ => Mo3.bind (fun m16 => Mo3.bind (fun z17 => Mo3.bind (fun z18 => Mo3.bind (fun u19 => Mo3.bind (fun z20 => Mo3.bind (fun _ => Mo3.bind (fun m21 => Mo3.bind (fun z22 => Mo3.bind (fun z23 => Mo3.bind (fun z24 => Mo3.bind (fun z25 => Mo3.bind (fun m26 => Mo3.bind (fun z27 => Mo3.bind (fun z28 => Mo3.bind (fun m29 => Mo3.ok (by omega) (by omega)))))))))))))))))))))) (Mo3.ok (by omega) (by omega))))))))
set_option maxHeartbeats 4000000 in
theorem w_X3_unsure_J49 {E : fk_E} {l : Launch} {G : fk_G} {b0 n0 k0 nF kF : Nat} {mF : fk_M} (X : fk_X E l G b0 "FigureKnee$Reader" "unsure" cX3_unsure 3 10 257 (nF - n0) (kF - k0)) (Y : fk_Y E none none nF mF (nF - n0) (kF - k0)) (x0 : Option Nat) (x1 : Int32)  (n1 k1 : Nat) (hn1 : n0 ≤ n1) (hk1 : k0 ≤ k1) (m0 : fk_M) (hf : f_X3_unsure_J49 G.2.2 x0 x1 n1 k1 m0 = some (nF, kF, mF)) : fk_W E 3 n1 m0 (n1 - n0) (k1 - k0) 49 [(0, tR x0), (1, tI x1)] [] := by
  unfold f_X3_unsure_J49 at hf
  refine fk_aload_n X 0 dX3_unsure_49 rfl ?_
  obtain ⟨u1, hq, hf⟩ := bI hf
  obtain ⟨n3, k4, m2, hv, hf⟩ := bn3_eq hf
  have hmc := mo_X3_on G.2.2 x0 n1 k1 m0 _ _ _ hv
  have hm : n3 ≤ nF ∧ k4 ≤ kF := Mo3.use hf (Mo3.bind (fun u5 => Mo3.bn4 (mo_X3_whole G.2.2 x0 0 20 n3 k4 m2) (fun z6 n8 k9 m7 => Mo3.bind (fun u10 => Mo3.bind (fun z11 => Mo3.ite (Mo3.bind (fun z12 => Mo3.bind (fun z13 => Mo3.bind (fun u14 => Mo3.bind (fun z15 => Mo3.bind (fun _ => Mo3.bind (fun m16 => Mo3.bind (fun z17 => Mo3.bind (fun z18 => Mo3.bind (fun u19 => Mo3.bind (fun z20 => Mo3.bind (fun _ => Mo3.bind (fun m21 => Mo3.bind (fun z22 => Mo3.bind (fun z23 => Mo3.bind (fun z24 => Mo3.bind (fun z25 => Mo3.bind (fun m26 => Mo3.bind (fun z27 => Mo3.bind (fun z28 => Mo3.bind (fun m29 => Mo3.ok (by omega) (by omega)))))))))))))))))))))) (Mo3.ok (by omega) (by omega)))))))
  refine fk_callV1V (ci := 2) (rest := []) (cs2 := n3 - n0) (sl2 := k4 - k0) X hq rfl (c_X3_on hv) n_X3_on q666 q668 qs6 q127 q669 rfl dX3_unsure_50 rfl rfl rfl rfl rfl (by omega) (by omega) (by omega) (by omega) ?_
  refine fk_aload_n X 0 dX3_unsure_53 rfl ?_
  refine fk_iconst (v := 0) X dX3_unsure_54 rfl ?_
  refine fk_bipush (v := 20) X dX3_unsure_55 rfl ?_
  obtain ⟨u5, hq, hf⟩ := bI hf
  obtain ⟨z6, n8, k9, m7, hv, hf⟩ := bn4_eq hf
  have hmc := mo_X3_whole G.2.2 x0 0 20 n3 k4 m2 _ _ _ _ hv
  have hm : n8 ≤ nF ∧ k9 ≤ kF := Mo3.use hf (Mo3.bind (fun u10 => Mo3.bind (fun z11 => Mo3.ite (Mo3.bind (fun z12 => Mo3.bind (fun z13 => Mo3.bind (fun u14 => Mo3.bind (fun z15 => Mo3.bind (fun _ => Mo3.bind (fun m16 => Mo3.bind (fun z17 => Mo3.bind (fun z18 => Mo3.bind (fun u19 => Mo3.bind (fun z20 => Mo3.bind (fun _ => Mo3.bind (fun m21 => Mo3.bind (fun z22 => Mo3.bind (fun z23 => Mo3.bind (fun z24 => Mo3.bind (fun z25 => Mo3.bind (fun m26 => Mo3.bind (fun z27 => Mo3.bind (fun z28 => Mo3.bind (fun m29 => Mo3.ok (by omega) (by omega)))))))))))))))))))))) (Mo3.ok (by omega) (by omega)))))
  refine fk_callV1I (ci := 2) (rest := []) (cs2 := n8 - n0) (sl2 := k9 - k0) X hq rfl (c_X3_whole hv) n_X3_whole q684 q686 qs9 q127 q687 rfl dX3_unsure_57 rfl rfl rfl rfl rfl (by omega) (by omega) (by omega) (by omega) ?_
  refine fk_istore_n X [(2, tI z6), (0, tR x0), (1, tI x1)] dX3_unsure_60 rfl rfl ?_
  refine fk_aload_n X 1 dX3_unsure_61 rfl ?_
  obtain ⟨u10, hq, hf⟩ := bI hf
  obtain ⟨z11, hv, hf⟩ := bI hf
  have hm : n8 ≤ nF ∧ k9 ≤ kF := Mo3.use hf (Mo3.ite (Mo3.bind (fun z12 => Mo3.bind (fun z13 => Mo3.bind (fun u14 => Mo3.bind (fun z15 => Mo3.bind (fun _ => Mo3.bind (fun m16 => Mo3.bind (fun z17 => Mo3.bind (fun z18 => Mo3.bind (fun u19 => Mo3.bind (fun z20 => Mo3.bind (fun _ => Mo3.bind (fun m21 => Mo3.bind (fun z22 => Mo3.bind (fun z23 => Mo3.bind (fun z24 => Mo3.bind (fun z25 => Mo3.bind (fun m26 => Mo3.bind (fun z27 => Mo3.bind (fun z28 => Mo3.bind (fun m29 => Mo3.ok (by omega) (by omega)))))))))))))))))))))) (Mo3.ok (by omega) (by omega)))
  refine fk_callV0I (ci := 2) (rest := []) X hq rfl (c_X3_isOver hv) n_X3_isOver q662 q664 qs5 q127 q665 rfl dX3_unsure_62 rfl rfl rfl rfl rfl (by omega) (by omega) ?_
  refine fk_if_eq' X 69 dX3_unsure_65 rfl hf (fun hf => ?_) (fun hf => ?_)
  · refine fk_aload_n X 1 dX3_unsure_69 rfl ?_
    refine fk_getR' X fd_2_1 q561 dX3_unsure_70 hf (fun z12 hf => ?_)
    refine fk_getR' X fd_4_4 q309 dX3_unsure_73 hf (fun z13 hf => ?_)
    refine fk_iload_n X 2 dX3_unsure_76 rfl ?_
    obtain ⟨u14, hq, hf⟩ := bI hf
    obtain ⟨z15, hv, hf⟩ := bI hf
    have hm : n8 ≤ nF ∧ k9 ≤ kF := Mo3.use hf (Mo3.bind (fun _ => Mo3.bind (fun m16 => Mo3.bind (fun z17 => Mo3.bind (fun z18 => Mo3.bind (fun u19 => Mo3.bind (fun z20 => Mo3.bind (fun _ => Mo3.bind (fun m21 => Mo3.bind (fun z22 => Mo3.bind (fun z23 => Mo3.bind (fun z24 => Mo3.bind (fun z25 => Mo3.bind (fun m26 => Mo3.bind (fun z27 => Mo3.bind (fun z28 => Mo3.bind (fun m29 => Mo3.ok (by omega) (by omega))))))))))))))))))
    refine fk_callV0R (ci := 14) (rest := []) X hq rfl (c_J2_get hv) n_J2_get q879 q723 q724 q125 q725 rfl dX3_unsure_77 rfl rfl rfl rfl rfl (by omega) (by omega) ?_
    refine fk_cast' (ci := 6) X rfl q736 dX3_unsure_80 hf (fun hf => ?_)
    refine fk_iconst (v := 1) X dX3_unsure_83 rfl ?_
    refine fk_putZ' X fd_6_6 q756 dX3_unsure_84 hf (fun m16 hf => ?_)
    refine fk_aload_n X 1 dX3_unsure_87 rfl ?_
    refine fk_getR' X fd_2_1 q561 dX3_unsure_88 hf (fun z17 hf => ?_)
    refine fk_getR' X fd_4_4 q309 dX3_unsure_91 hf (fun z18 hf => ?_)
    refine fk_iload_n X 2 dX3_unsure_94 rfl ?_
    obtain ⟨u19, hq, hf⟩ := bI hf
    obtain ⟨z20, hv, hf⟩ := bI hf
    have hm : n8 ≤ nF ∧ k9 ≤ kF := Mo3.use hf (Mo3.bind (fun _ => Mo3.bind (fun m21 => Mo3.bind (fun z22 => Mo3.bind (fun z23 => Mo3.bind (fun z24 => Mo3.bind (fun z25 => Mo3.bind (fun m26 => Mo3.bind (fun z27 => Mo3.bind (fun z28 => Mo3.bind (fun m29 => Mo3.ok (by omega) (by omega))))))))))))
    refine fk_callV0R (ci := 14) (rest := []) X hq rfl (c_J2_get hv) n_J2_get q879 q723 q724 q125 q725 rfl dX3_unsure_95 rfl rfl rfl rfl rfl (by omega) (by omega) ?_
    refine fk_cast' (ci := 6) X rfl q736 dX3_unsure_98 hf (fun hf => ?_)
    refine fk_iload_n X 0 dX3_unsure_101 rfl ?_
    refine fk_putI' X fd_6_5 q754 dX3_unsure_102 (fit_I _) hf (fun m21 hf => ?_)
    refine fk_aload_n X 1 dX3_unsure_105 rfl ?_
    refine fk_getR' X fd_2_1 q561 dX3_unsure_106 hf (fun z22 hf => ?_)
    refine fk_getR' X fd_4_7 q319 dX3_unsure_109 hf (fun z23 hf => ?_)
    refine fk_aload_n X 1 dX3_unsure_112 rfl ?_
    refine fk_getR' X fd_2_1 q561 dX3_unsure_113 hf (fun z24 hf => ?_)
    refine fk_getI' X fd_4_3 q305 dX3_unsure_116 hf (fun z25 hf => ?_)
    refine fk_iload_n X 2 dX3_unsure_119 rfl ?_
    refine fk_iastore' X dX3_unsure_120 hf (fun m26 hf => ?_)
    refine fk_aload_n X 1 dX3_unsure_121 rfl ?_
    refine fk_getR' X fd_2_1 q561 dX3_unsure_122 hf (fun z27 hf => ?_)
    refine fk_dup X dX3_unsure_125 rfl ?_
    refine fk_getI' X fd_4_3 q305 dX3_unsure_126 hf (fun z28 hf => ?_)
    refine fk_iconst (v := 1) X dX3_unsure_129 rfl ?_
    refine fk_iadd X dX3_unsure_130 ?_
    refine fk_putI' X fd_4_3 q305 dX3_unsure_131 (fit_I _) hf (fun m29 hf => ?_)
    cases hf
    exact fk_return X Y dX3_unsure_134
  · cases hf
    exact fk_return X Y dX3_unsure_68
def f_X3_unsure (g : Nat → Nat) (a0 : Option Nat) (n1 k1 : Nat) (m0 : fk_M) : Option (Nat × Nat × fk_M) :=
  (gR m0 a0 2 1).bind fun z1 => (gI m0 z1 4 3).bind fun z2 => (isO m0 a0 2).bind fun u3 => bn3 (f_X3_begins g a0 z2 4 n1 k1 m0) fun n5 k6 m4 => (isO m4 a0 2).bind fun u7 => bn2 (f_X3_known g a0 m4) fun z8 m9 => (isO m9 a0 2).bind fun u10 => (f_X3_isOver a0 m9).bind fun z11 => if z11 = 0 then ((gR m9 a0 2 1).bind fun z12 => (gR m9 z12 4 4).bind fun z13 => (isO m9 z13 14).bind fun u14 => (f_J2_get z13 z8 m9).bind fun z15 => (cst m9 z15 6).bind fun _ => (gI m9 z15 6 6).bind fun z16 => if z16 = 0 then (f_X3_unsure_J49 g a0 z8 n5 k6 m9) else ((isO m9 a0 2).bind fun u17 => (f_X3_wrong a0 3 m9).bind fun m18 => f_X3_unsure_J49 g a0 z8 n5 k6 m18)) else (f_X3_unsure_J49 g a0 z8 n5 k6 m9)
theorem mo_X3_unsure (g : Nat → Nat) (a0 : Option Nat) (n1 k1 : Nat) (m0 : fk_M) : Mo3 n1 k1 (f_X3_unsure g a0 n1 k1 m0) := by
  unfold f_X3_unsure
  exact Mo3.bind (fun z1 => Mo3.bind (fun z2 => Mo3.bind (fun u3 => Mo3.bn3 (mo_X3_begins g a0 z2 4 n1 k1 m0) (fun n5 k6 m4 => Mo3.bind (fun u7 => Mo3.bn2 (fun z8 m9 => Mo3.bind (fun u10 => Mo3.bind (fun z11 => Mo3.ite (Mo3.bind (fun z12 => Mo3.bind (fun z13 => Mo3.bind (fun u14 => Mo3.bind (fun z15 => Mo3.bind (fun _ => Mo3.bind (fun z16 => Mo3.ite ((mo_X3_unsure_J49 g a0 z8 n5 k6 m9)) (Mo3.bind (fun u17 => Mo3.bind (fun m18 => (mo_X3_unsure_J49 g a0 z8 n5 k6 m18))))))))))) ((mo_X3_unsure_J49 g a0 z8 n5 k6 m9))))))))))
set_option maxHeartbeats 4000000 in
theorem c_X3_unsure {l : Launch} {G : fk_G} {b0 : Nat} {n1 k1 nF kF : Nat} {a0 : Option Nat} {m0 : fk_M} {mF : fk_M} (hf : f_X3_unsure G.2.2 a0 n1 k1 m0 = some (nF, kF, mF)) : fk_Ct l G b0 yX3_unsure cX3_unsure 3 none 10 257 [tR a0] n1 m0 none nF mF (nF - n1) (kF - k1) := by
  refine fk_enter n_X3_unsure.1 rfl ?_
  intro E X0 Y
  have X : fk_X E l G b0 "FigureKnee$Reader" "unsure" cX3_unsure 3 10 257 (nF - n1) (kF - k1) := X0
  show fk_W E 3 n1 m0 0 0 0 [(0, tR a0)] []
  refine fk_widen (cs2 := n1 - n1) (sl2 := k1 - k1) (Nat.zero_le _) (Nat.zero_le _) ?_
  unfold f_X3_unsure at hf
  have h01 : n1 ≤ n1 := Nat.le_refl _
  have h02 : k1 ≤ k1 := Nat.le_refl _
  refine fk_aload_n X 0 dX3_unsure_0 rfl ?_
  refine fk_aload_n X 0 dX3_unsure_1 rfl ?_
  refine fk_getR' X fd_2_1 q561 dX3_unsure_2 hf (fun z1 hf => ?_)
  refine fk_getI' X fd_4_3 q305 dX3_unsure_5 hf (fun z2 hf => ?_)
  refine fk_iconst (v := 4) X dX3_unsure_8 rfl ?_
  obtain ⟨u3, hq, hf⟩ := bI hf
  obtain ⟨n5, k6, m4, hv, hf⟩ := bn3_eq hf
  have hmc := mo_X3_begins G.2.2 a0 z2 4 n1 k1 m0 _ _ _ hv
  have hm : n5 ≤ nF ∧ k6 ≤ kF := Mo3.use hf (Mo3.bind (fun u7 => Mo3.bn2 (fun z8 m9 => Mo3.bind (fun u10 => Mo3.bind (fun z11 => Mo3.ite (Mo3.bind (fun z12 => Mo3.bind (fun z13 => Mo3.bind (fun u14 => Mo3.bind (fun z15 => Mo3.bind (fun _ => Mo3.bind (fun z16 => Mo3.ite ((mo_X3_unsure_J49 G.2.2 a0 z8 n5 k6 m9)) (Mo3.bind (fun u17 => Mo3.bind (fun m18 => (mo_X3_unsure_J49 G.2.2 a0 z8 n5 k6 m18))))))))))) ((mo_X3_unsure_J49 G.2.2 a0 z8 n5 k6 m9)))))))
  refine fk_callV1V (ci := 2) (rest := []) (cs2 := n5 - n1) (sl2 := k6 - k1) X hq rfl (c_X3_begins hv) n_X3_begins q702 q704 qs12 q127 q705 rfl dX3_unsure_9 rfl rfl rfl rfl rfl (by omega) (by omega) (by omega) (by omega) ?_
  refine fk_aload_n X 0 dX3_unsure_12 rfl ?_
  obtain ⟨u7, hq, hf⟩ := bI hf
  obtain ⟨z8, m9, hv, hf⟩ := bn2_eq hf
  have hm : n5 ≤ nF ∧ k6 ≤ kF := Mo3.use hf (Mo3.bind (fun u10 => Mo3.bind (fun z11 => Mo3.ite (Mo3.bind (fun z12 => Mo3.bind (fun z13 => Mo3.bind (fun u14 => Mo3.bind (fun z15 => Mo3.bind (fun _ => Mo3.bind (fun z16 => Mo3.ite ((mo_X3_unsure_J49 G.2.2 a0 z8 n5 k6 m9)) (Mo3.bind (fun u17 => Mo3.bind (fun m18 => (mo_X3_unsure_J49 G.2.2 a0 z8 n5 k6 m18))))))))))) ((mo_X3_unsure_J49 G.2.2 a0 z8 n5 k6 m9)))))
  refine fk_callV0I (ci := 2) (rest := []) X hq rfl (c_X3_known hv) n_X3_known q875 q877 qs18 q127 q878 rfl dX3_unsure_13 rfl rfl rfl rfl rfl (by omega) (by omega) ?_
  refine fk_istore_n X [(1, tI z8), (0, tR a0)] dX3_unsure_16 rfl rfl ?_
  refine fk_aload_n X 1 dX3_unsure_17 rfl ?_
  obtain ⟨u10, hq, hf⟩ := bI hf
  obtain ⟨z11, hv, hf⟩ := bI hf
  have hm : n5 ≤ nF ∧ k6 ≤ kF := Mo3.use hf (Mo3.ite (Mo3.bind (fun z12 => Mo3.bind (fun z13 => Mo3.bind (fun u14 => Mo3.bind (fun z15 => Mo3.bind (fun _ => Mo3.bind (fun z16 => Mo3.ite ((mo_X3_unsure_J49 G.2.2 a0 z8 n5 k6 m9)) (Mo3.bind (fun u17 => Mo3.bind (fun m18 => (mo_X3_unsure_J49 G.2.2 a0 z8 n5 k6 m18))))))))))) ((mo_X3_unsure_J49 G.2.2 a0 z8 n5 k6 m9)))
  refine fk_callV0I (ci := 2) (rest := []) X hq rfl (c_X3_isOver hv) n_X3_isOver q662 q664 qs5 q127 q665 rfl dX3_unsure_18 rfl rfl rfl rfl rfl (by omega) (by omega) ?_
  refine fk_if_ne' X 49 dX3_unsure_21 rfl hf (fun hf => ?_) (fun hf => ?_)
  · have hn : n1 ≤ n5 := by omega
    have hk : k1 ≤ k6 := by omega
    exact fk_cut' (w_X3_unsure_J49 X Y a0 z8 n5 k6 hn hk m9 hf) [1, 0] rfl
  · refine fk_aload_n X 1 dX3_unsure_24 rfl ?_
    refine fk_getR' X fd_2_1 q561 dX3_unsure_25 hf (fun z12 hf => ?_)
    refine fk_getR' X fd_4_4 q309 dX3_unsure_28 hf (fun z13 hf => ?_)
    refine fk_iload_n X 0 dX3_unsure_31 rfl ?_
    obtain ⟨u14, hq, hf⟩ := bI hf
    obtain ⟨z15, hv, hf⟩ := bI hf
    have hm : n5 ≤ nF ∧ k6 ≤ kF := Mo3.use hf (Mo3.bind (fun _ => Mo3.bind (fun z16 => Mo3.ite ((mo_X3_unsure_J49 G.2.2 a0 z8 n5 k6 m9)) (Mo3.bind (fun u17 => Mo3.bind (fun m18 => (mo_X3_unsure_J49 G.2.2 a0 z8 n5 k6 m18)))))))
    refine fk_callV0R (ci := 14) (rest := []) X hq rfl (c_J2_get hv) n_J2_get q879 q723 q724 q125 q725 rfl dX3_unsure_32 rfl rfl rfl rfl rfl (by omega) (by omega) ?_
    refine fk_cast' (ci := 6) X rfl q736 dX3_unsure_35 hf (fun hf => ?_)
    refine fk_getI' X fd_6_6 q756 dX3_unsure_38 hf (fun z16 hf => ?_)
    refine fk_if_eq' X 49 dX3_unsure_41 rfl hf (fun hf => ?_) (fun hf => ?_)
    · have hn : n1 ≤ n5 := by omega
      have hk : k1 ≤ k6 := by omega
      exact fk_cut' (w_X3_unsure_J49 X Y a0 z8 n5 k6 hn hk m9 hf) [1, 0] rfl
    · refine fk_aload_n X 1 dX3_unsure_44 rfl ?_
      refine fk_iconst (v := 3) X dX3_unsure_45 rfl ?_
      obtain ⟨u17, hq, hf⟩ := bI hf
      obtain ⟨m18, hv, hf⟩ := bI hf
      have hm : n5 ≤ nF ∧ k6 ≤ kF := Mo3.use hf ((mo_X3_unsure_J49 G.2.2 a0 z8 n5 k6 m18))
      refine fk_callV0V (ci := 2) (rest := []) X hq rfl (c_X3_wrong hv) n_X3_wrong q658 q660 qs4 q127 q661 rfl dX3_unsure_46 rfl rfl rfl rfl rfl (by omega) (by omega) ?_
      have hn : n1 ≤ n5 := by omega
      have hk : k1 ≤ k6 := by omega
      exact fk_cut' (w_X3_unsure_J49 X Y a0 z8 n5 k6 hn hk m18 hf) [1, 0] rfl
/-! FigureKnee$Pier isHeard (II)Z -/
theorem n_X5_isHeard : fk_N yX5_isHeard 2 := ⟨by decide +kernel, by decide +kernel, by decide +kernel, by decide +kernel⟩
def f_X5_isHeard_J51 (R2 : Int32 → Option Int32) (x0 : Option Nat) (x1 : Int32) (x2 : Int32) (x3 : Int32) (m : fk_M) : Option Int32 :=
  R2 (x3 + 1)
set_option maxHeartbeats 4000000 in
theorem w_X5_isHeard_J51 {E : fk_E} {l : Launch} {G : fk_G} {b0 n : Nat} {m : fk_M} {r : Int32} (X : fk_X E l G b0 "FigureKnee$Pier" "isHeard" cX5_isHeard 4 4 124 0 0) (Y : fk_Y E (some .boolean) (some (tI r)) n m 0 0) (x0 : Option Nat) (x1 : Int32) (x2 : Int32) (x3 : Int32)  {R2 : Int32 → Option Int32} (hR2 : ∀ (v3 : Int32), R2 v3 = some r → fk_W E 4 n m 0 0 2 [(0, tR x0), (1, tI x1), (2, tI x2), (3, tI v3)] []) (hf : f_X5_isHeard_J51 R2 x0 x1 x2 x3 m = some r) : fk_W E 4 n m 0 0 51 [(0, tR x0), (1, tI x1), (2, tI x2), (3, tI x3)] [] := by
  unfold f_X5_isHeard_J51 at hf
  refine fk_iinc X 3 [(3, tI (x3 + 1)), (0, tR x0), (1, tI x1), (2, tI x2)] dX5_isHeard_51 rfl rfl rfl rfl ?_
  refine fk_goto X 2 dX5_isHeard_54 rfl ?_
  exact fk_cut' (hR2 (x3 + 1)  hf) [1, 2, 3, 0] rfl
def f_X5_isHeard_L2 (x0 : Option Nat) (x1 : Int32) (x2 : Int32) (m : fk_M) : Nat → Int32 → Option Int32
  | 0, _ => none
  | N + 1, x3 =>
  (gR m x0 4 6).bind fun z1 => (isO m z1 14).bind fun u2 => (f_J2_size z1 m).bind fun z3 => if z3 ≤ x3 then (some 0) else ((gR m x0 4 6).bind fun z4 => (isO m z4 14).bind fun u5 => (f_J2_get z4 x3 m).bind fun z6 => (cst m z6 12).bind fun _ => (gI m z6 12 0).bind fun z7 => if z7 = x1 then ((gR m x0 4 6).bind fun z8 => (isO m z8 14).bind fun u9 => (f_J2_get z8 x3 m).bind fun z10 => (cst m z10 12).bind fun _ => (gI m z10 12 1).bind fun z11 => if z11 = x2 then (some 1) else (f_X5_isHeard_J51 (f_X5_isHeard_L2 x0 x1 x2 m N) x0 x1 x2 x3 m)) else (f_X5_isHeard_J51 (f_X5_isHeard_L2 x0 x1 x2 m N) x0 x1 x2 x3 m))
set_option maxHeartbeats 4000000 in
theorem w_X5_isHeard_L2 {E : fk_E} {l : Launch} {G : fk_G} {b0 n : Nat} {m : fk_M} {r : Int32} (X : fk_X E l G b0 "FigureKnee$Pier" "isHeard" cX5_isHeard 4 4 124 0 0) (Y : fk_Y E (some .boolean) (some (tI r)) n m 0 0) (x0 : Option Nat) (x1 : Int32) (x2 : Int32) : ∀ (N : Nat) (x3 : Int32), f_X5_isHeard_L2 x0 x1 x2 m N x3 = some r → fk_W E 4 n m 0 0 2 [(0, tR x0), (1, tI x1), (2, tI x2), (3, tI x3)] [] := by
  intro N
  induction N with
  | zero =>
    intro x3 hf
    have hf : (none : Option Int32) = some _ := hf
    cases hf
  | succ N ih =>
    intro x3 hf
    rw [f_X5_isHeard_L2] at hf
    refine fk_iload_n X 3 dX5_isHeard_2 rfl ?_
    refine fk_aload_n X 0 dX5_isHeard_3 rfl ?_
    refine fk_getR' X fd_4_6 q315 dX5_isHeard_4 hf (fun z1 hf => ?_)
    obtain ⟨u2, hq, hf⟩ := bI hf
    obtain ⟨z3, hv, hf⟩ := bI hf
    refine fk_callV0I (ci := 14) (rest := [tI x3]) X hq rfl (c_J2_size hv) n_J2_size q721 q699 q700 q125 q701 rfl dX5_isHeard_7 rfl rfl rfl rfl rfl (Nat.le_refl _) (Nat.le_refl _) ?_
    refine fk_icmp_ge' X 57 dX5_isHeard_10 rfl hf (fun hf => ?_) (fun hf => ?_)
    · refine fk_iconst (v := 0) X dX5_isHeard_57 rfl ?_
      cases hf
      exact fk_ireturn X Y dX5_isHeard_58 (by decide +kernel)
    · refine fk_aload_n X 0 dX5_isHeard_13 rfl ?_
      refine fk_getR' X fd_4_6 q315 dX5_isHeard_14 hf (fun z4 hf => ?_)
      refine fk_iload_n X 3 dX5_isHeard_17 rfl ?_
      obtain ⟨u5, hq, hf⟩ := bI hf
      obtain ⟨z6, hv, hf⟩ := bI hf
      refine fk_callV0R (ci := 14) (rest := []) X hq rfl (c_J2_get hv) n_J2_get q722 q723 q724 q125 q725 rfl dX5_isHeard_18 rfl rfl rfl rfl rfl (Nat.le_refl _) (Nat.le_refl _) ?_
      refine fk_cast' (ci := 12) X rfl q928 dX5_isHeard_21 hf (fun hf => ?_)
      refine fk_getI' X fd_12_0 q936 dX5_isHeard_24 hf (fun z7 hf => ?_)
      refine fk_iload_n X 1 dX5_isHeard_27 rfl ?_
      refine fk_icmp_ne' X 51 dX5_isHeard_28 rfl hf (fun hf => ?_) (fun hf => ?_)
      · exact fk_cut' (w_X5_isHeard_J51 X Y x0 x1 x2 x3 ih hf) [0, 1, 2, 3] rfl
      · refine fk_aload_n X 0 dX5_isHeard_31 rfl ?_
        refine fk_getR' X fd_4_6 q315 dX5_isHeard_32 hf (fun z8 hf => ?_)
        refine fk_iload_n X 3 dX5_isHeard_35 rfl ?_
        obtain ⟨u9, hq, hf⟩ := bI hf
        obtain ⟨z10, hv, hf⟩ := bI hf
        refine fk_callV0R (ci := 14) (rest := []) X hq rfl (c_J2_get hv) n_J2_get q722 q723 q724 q125 q725 rfl dX5_isHeard_36 rfl rfl rfl rfl rfl (Nat.le_refl _) (Nat.le_refl _) ?_
        refine fk_cast' (ci := 12) X rfl q928 dX5_isHeard_39 hf (fun hf => ?_)
        refine fk_getI' X fd_12_1 q939 dX5_isHeard_42 hf (fun z11 hf => ?_)
        refine fk_iload_n X 2 dX5_isHeard_45 rfl ?_
        refine fk_icmp_ne' X 51 dX5_isHeard_46 rfl hf (fun hf => ?_) (fun hf => ?_)
        · exact fk_cut' (w_X5_isHeard_J51 X Y x0 x1 x2 x3 ih hf) [0, 1, 2, 3] rfl
        · refine fk_iconst (v := 1) X dX5_isHeard_49 rfl ?_
          cases hf
          exact fk_ireturn X Y dX5_isHeard_50 (by decide +kernel)
def f_X5_isHeard (a0 : Option Nat) (a1 : Int32) (a2 : Int32) (m : fk_M) : Option Int32 :=
  f_X5_isHeard_L2 a0 a1 a2 m fk_fuel 0
set_option maxHeartbeats 4000000 in
theorem c_X5_isHeard {l : Launch} {G : fk_G} {b0 : Nat} {n : Nat} {a0 : Option Nat} {a1 : Int32} {a2 : Int32} {m : fk_M} {r : Int32} (hf : f_X5_isHeard a0 a1 a2 m = some r) : fk_Ct l G b0 yX5_isHeard cX5_isHeard 4 (some .boolean) 4 124 [tR a0, tI a1, tI a2] n m (some (tI r)) n m 0 0 := by
  refine fk_enter n_X5_isHeard.1 rfl ?_
  intro E X0 Y
  have X : fk_X E l G b0 "FigureKnee$Pier" "isHeard" cX5_isHeard 4 4 124 0 0 := X0
  show fk_W E 4 n m 0 0 0 [(0, tR a0), (1, tI a1), (2, tI a2)] []
  unfold f_X5_isHeard at hf
  refine fk_iconst (v := 0) X dX5_isHeard_0 rfl ?_
  refine fk_istore_n X [(3, tI 0), (0, tR a0), (1, tI a1), (2, tI a2)] dX5_isHeard_1 rfl rfl ?_
  exact fk_cut' (w_X5_isHeard_L2 X Y a0 a1 a2 fk_fuel 0 hf) [1, 2, 3, 0] rfl
/-! FigureKnee$Heard <init> (III)V -/
theorem n_X14_init : fk_N yX14_init 3 := ⟨by decide +kernel, by decide +kernel, by decide +kernel, by decide +kernel⟩
def f_X14_init (a0 : Option Nat) (a1 : Int32) (a2 : Int32) (a3 : Int32) (m0 : fk_M) : Option fk_M :=
  (isS a0).bind fun _ => (pV m0 a0 12 0 (tI a1)).bind fun m1 => (pV m1 a0 12 1 (tI a2)).bind fun m2 => (pV m2 a0 12 2 (tI a3)).bind fun m3 => some m3
set_option maxHeartbeats 4000000 in
theorem c_X14_init {l : Launch} {G : fk_G} {b0 : Nat} {n : Nat} {a0 : Option Nat} {a1 : Int32} {a2 : Int32} {a3 : Int32} {m0 : fk_M} {mF : fk_M} (hf : f_X14_init a0 a1 a2 a3 m0 = some mF) : fk_Ct l G b0 yX14_init cX14_init 4 none 1 60 [tR a0, tI a1, tI a2, tI a3] n m0 none n mF 0 0 := by
  refine fk_enter n_X14_init.1 rfl ?_
  intro E X0 Y
  have X : fk_X E l G b0 "FigureKnee$Heard" "<init>" cX14_init 4 1 60 0 0 := X0
  show fk_W E 4 n m0 0 0 0 [(0, tR a0), (1, tI a1), (2, tI a2), (3, tI a3)] []
  unfold f_X14_init at hf
  refine fk_aload_n X 0 dX14_init_0 rfl ?_
  refine fk_objInit' X q934 q161 q162 dX14_init_1 rfl rfl hf (fun hf => ?_)
  refine fk_aload_n X 0 dX14_init_4 rfl ?_
  refine fk_iload_n X 1 dX14_init_5 rfl ?_
  refine fk_putFI' X fd_12_0 q935 dX14_init_6 (fit_I _) hf (fun m1 hf => ?_)
  refine fk_aload_n X 0 dX14_init_9 rfl ?_
  refine fk_iload_n X 2 dX14_init_10 rfl ?_
  refine fk_putFI' X fd_12_1 q938 dX14_init_11 (fit_I _) hf (fun m2 hf => ?_)
  refine fk_aload_n X 0 dX14_init_14 rfl ?_
  refine fk_iload_n X 3 dX14_init_15 rfl ?_
  refine fk_putFI' X fd_12_2 q941 dX14_init_16 (fit_I _) hf (fun m3 hf => ?_)
  cases hf
  exact fk_return X Y dX14_init_19
/-! FigureKnee$Reader heard ()V -/
theorem n_X3_heard : fk_N yX3_heard 0 := ⟨by decide +kernel, by decide +kernel, by decide +kernel, by decide +kernel⟩
def f_X3_heard_J59 (g : Nat → Nat) (x0 : Option Nat) (x1 : Int32) (x2 : Int32) (n1 k1 : Nat) (m0 : fk_M) : Option (Nat × Nat × fk_M) :=
  (isO m0 x0 2).bind fun u1 => bn3 (f_X3_on g x0 n1 k1 m0) fun n3 k4 m2 => (gR m2 x0 2 1).bind fun z5 => (gI m2 z5 4 0).bind fun z6 => (isO m2 x0 2).bind fun u7 => bn4 (f_X3_part g x0 (some (g 20)) 0 z6 n3 k4 m2) fun z8 n10 k11 m9 => (isO m9 x0 2).bind fun u12 => (f_X3_isOver x0 m9).bind fun z13 => if z13 = 0 then ((gR m9 x0 2 1).bind fun z14 => (gR m9 z14 4 6).bind fun z15 => (isS (some n10)).bind fun u17 => (f_X14_init (some n10) x1 x2 z8 (fk_up m9 n10 (oB 12 (fk_V0 tyX14)))).bind fun m18 => (isO m18 z15 14).bind fun u19 => bn4 (f_J2_add g z15 (some n10) (n10 + 1) (k11 + 3) m18) fun z20 n22 k23 m21 => some (n22, k23, m21)) else (some (n10, k11, m9))
theorem mo_X3_heard_J59 (g : Nat → Nat) (x0 : Option Nat) (x1 : Int32) (x2 : Int32) (n1 k1 : Nat) (m0 : fk_M) : Mo3 n1 k1 (f_X3_heard_J59 g x0 x1 x2 n1 k1 m0) := by
  unfold f_X3_heard_J59
  exact Mo3.bind (fun u1 => Mo3.bn3 (mo_X3_on g x0 n1 k1 m0) (fun n3 k4 m2 => Mo3.bind (fun z5 => Mo3.bind (fun z6 => Mo3.bind (fun u7 => Mo3.bn4 (mo_X3_part g x0 (some (g 20)) 0 z6 n3 k4 m2) (fun z8 n10 k11 m9 => Mo3.bind (fun u12 => Mo3.bind (fun z13 => Mo3.ite (Mo3.bind (fun z14 => Mo3.bind (fun z15 => Mo3.le (n1 := (n10 + 1)) (k1 := (k11 + 3)) (Mo3.bind (fun u17 => Mo3.bind (fun m18 => Mo3.bind (fun u19 => Mo3.bn4 (mo_J2_add g z15 (some n10) (n10 + 1) (k11 + 3) m18) (fun z20 n22 k23 m21 => Mo3.ok (by omega) (by omega)))))) (by omega) (by omega)))) (Mo3.ok (by omega) (by omega))))))))))
set_option maxHeartbeats 4000000 in
theorem w_X3_heard_J59 {E : fk_E} {l : Launch} {G : fk_G} {b0 n0 k0 nF kF : Nat} {mF : fk_M} (X : fk_X E l G b0 "FigureKnee$Reader" "heard" cX3_heard 4 11 280 (nF - n0) (kF - k0)) (Y : fk_Y E none none nF mF (nF - n0) (kF - k0)) (x0 : Option Nat) (x1 : Int32) (x2 : Int32)  (n1 k1 : Nat) (hn1 : n0 ≤ n1) (hk1 : k0 ≤ k1) (m0 : fk_M) (hf : f_X3_heard_J59 G.2.2 x0 x1 x2 n1 k1 m0 = some (nF, kF, mF)) : fk_W E 4 n1 m0 (n1 - n0) (k1 - k0) 59 [(0, tR x0), (1, tI x1), (2, tI x2)] [] := by
  unfold f_X3_heard_J59 at hf
  refine fk_aload_n X 0 dX3_heard_59 rfl ?_
  obtain ⟨u1, hq, hf⟩ := bI hf
  obtain ⟨n3, k4, m2, hv, hf⟩ := bn3_eq hf
  have hmc := mo_X3_on G.2.2 x0 n1 k1 m0 _ _ _ hv
  have hm : n3 ≤ nF ∧ k4 ≤ kF := Mo3.use hf (Mo3.bind (fun z5 => Mo3.bind (fun z6 => Mo3.bind (fun u7 => Mo3.bn4 (mo_X3_part G.2.2 x0 (some (G.2.2 20)) 0 z6 n3 k4 m2) (fun z8 n10 k11 m9 => Mo3.bind (fun u12 => Mo3.bind (fun z13 => Mo3.ite (Mo3.bind (fun z14 => Mo3.bind (fun z15 => Mo3.le (n1 := (n10 + 1)) (k1 := (k11 + 3)) (Mo3.bind (fun u17 => Mo3.bind (fun m18 => Mo3.bind (fun u19 => Mo3.bn4 (mo_J2_add G.2.2 z15 (some n10) (n10 + 1) (k11 + 3) m18) (fun z20 n22 k23 m21 => Mo3.ok (by omega) (by omega)))))) (by omega) (by omega)))) (Mo3.ok (by omega) (by omega)))))))))
  refine fk_callV1V (ci := 2) (rest := []) (cs2 := n3 - n0) (sl2 := k4 - k0) X hq rfl (c_X3_on hv) n_X3_on q666 q668 qs6 q127 q669 rfl dX3_heard_60 rfl rfl rfl rfl rfl (by omega) (by omega) (by omega) (by omega) ?_
  refine fk_aload_n X 0 dX3_heard_63 rfl ?_
  refine fk_ldcS (i := 20) X rfl dX3_heard_64 ?_
  refine fk_iconst (v := 0) X dX3_heard_66 rfl ?_
  refine fk_aload_n X 0 dX3_heard_67 rfl ?_
  refine fk_getR' X fd_2_1 q561 dX3_heard_68 hf (fun z5 hf => ?_)
  refine fk_getI' X fd_4_0 q299 dX3_heard_71 hf (fun z6 hf => ?_)
  obtain ⟨u7, hq, hf⟩ := bI hf
  obtain ⟨z8, n10, k11, m9, hv, hf⟩ := bn4_eq hf
  have hmc := mo_X3_part G.2.2 x0 (some (G.2.2 20)) 0 z6 n3 k4 m2 _ _ _ _ hv
  have hm : n10 ≤ nF ∧ k11 ≤ kF := Mo3.use hf (Mo3.bind (fun u12 => Mo3.bind (fun z13 => Mo3.ite (Mo3.bind (fun z14 => Mo3.bind (fun z15 => Mo3.le (n1 := (n10 + 1)) (k1 := (k11 + 3)) (Mo3.bind (fun u17 => Mo3.bind (fun m18 => Mo3.bind (fun u19 => Mo3.bn4 (mo_J2_add G.2.2 z15 (some n10) (n10 + 1) (k11 + 3) m18) (fun z20 n22 k23 m21 => Mo3.ok (by omega) (by omega)))))) (by omega) (by omega)))) (Mo3.ok (by omega) (by omega)))))
  refine fk_callV1I (ci := 2) (rest := []) (cs2 := n10 - n0) (sl2 := k11 - k0) X hq rfl (c_X3_part hv) n_X3_part q671 q673 qs7 q127 q674 rfl dX3_heard_74 rfl rfl rfl rfl rfl (by omega) (by omega) (by omega) (by omega) ?_
  refine fk_istore_n X [(3, tI z8), (0, tR x0), (1, tI x1), (2, tI x2)] dX3_heard_77 rfl rfl ?_
  refine fk_aload_n X 1 dX3_heard_78 rfl ?_
  obtain ⟨u12, hq, hf⟩ := bI hf
  obtain ⟨z13, hv, hf⟩ := bI hf
  have hm : n10 ≤ nF ∧ k11 ≤ kF := Mo3.use hf (Mo3.ite (Mo3.bind (fun z14 => Mo3.bind (fun z15 => Mo3.le (n1 := (n10 + 1)) (k1 := (k11 + 3)) (Mo3.bind (fun u17 => Mo3.bind (fun m18 => Mo3.bind (fun u19 => Mo3.bn4 (mo_J2_add G.2.2 z15 (some n10) (n10 + 1) (k11 + 3) m18) (fun z20 n22 k23 m21 => Mo3.ok (by omega) (by omega)))))) (by omega) (by omega)))) (Mo3.ok (by omega) (by omega)))
  refine fk_callV0I (ci := 2) (rest := []) X hq rfl (c_X3_isOver hv) n_X3_isOver q662 q664 qs5 q127 q665 rfl dX3_heard_79 rfl rfl rfl rfl rfl (by omega) (by omega) ?_
  refine fk_if_ne' X 106 dX3_heard_82 rfl hf (fun hf => ?_) (fun hf => ?_)
  · cases hf
    exact fk_return X Y dX3_heard_106
  · refine fk_aload_n X 1 dX3_heard_85 rfl ?_
    refine fk_getR' X fd_2_1 q561 dX3_heard_86 hf (fun z14 hf => ?_)
    refine fk_getR' X fd_4_6 q316 dX3_heard_89 hf (fun z15 hf => ?_)
    have hm : (n10 + 1) ≤ nF ∧ (k11 + 3) ≤ kF := Mo3.use hf (Mo3.bind (fun u17 => Mo3.bind (fun m18 => Mo3.bind (fun u19 => Mo3.bn4 (mo_J2_add G.2.2 z15 (some n10) (n10 + 1) (k11 + 3) m18) (fun z20 n22 k23 m21 => Mo3.ok (by omega) (by omega))))))
    refine fk_new (cs2 := (n10 + 1) - n0) (sl2 := (k11 + 3) - k0) X cl_12 q929 dX3_heard_92 (by omega) (by omega) (by omega) (by omega) ?_
    refine fk_dup X dX3_heard_95 rfl ?_
    refine fk_iload_n X 2 dX3_heard_96 rfl ?_
    refine fk_iload_n X 3 dX3_heard_97 rfl ?_
    refine fk_iload_n X 0 dX3_heard_98 rfl ?_
    obtain ⟨u17, hq, hf⟩ := bI hf
    obtain ⟨m18, hv, hf⟩ := bI hf
    have hm : (n10 + 1) ≤ nF ∧ (k11 + 3) ≤ kF := Mo3.use hf (Mo3.bind (fun u19 => Mo3.bn4 (mo_J2_add G.2.2 z15 (some n10) (n10 + 1) (k11 + 3) m18) (fun z20 n22 k23 m21 => Mo3.ok (by omega) (by omega))))
    refine fk_callI0V (rest := [tR (some n10), tR z15]) X hq (c_X14_init hv) n_X14_init rfl q931 q932 q149 q933 dX3_heard_99 rfl rfl rfl rfl rfl (by omega) (by omega) ?_
    obtain ⟨u19, hq, hf⟩ := bI hf
    obtain ⟨z20, n22, k23, m21, hv, hf⟩ := bn4_eq hf
    have hmc := mo_J2_add G.2.2 z15 (some n10) (n10 + 1) (k11 + 3) m18 _ _ _ _ hv
    have hm : n22 ≤ nF ∧ k23 ≤ kF := Mo3.use hf (Mo3.ok (by omega) (by omega))
    refine fk_callV1I (ci := 14) (rest := []) (cs2 := n22 - n0) (sl2 := k23 - k0) X hq rfl (c_J2_add hv) n_J2_add q820 q821 q822 q125 q823 rfl dX3_heard_102 rfl rfl rfl rfl rfl (by omega) (by omega) (by omega) (by omega) ?_
    refine fk_pop X dX3_heard_105 rfl ?_
    cases hf
    exact fk_return X Y dX3_heard_106
def f_X3_heard (g : Nat → Nat) (a0 : Option Nat) (n1 k1 : Nat) (m0 : fk_M) : Option (Nat × Nat × fk_M) :=
  (gR m0 a0 2 1).bind fun z1 => (gR m0 z1 4 6).bind fun z2 => (isO m0 z2 14).bind fun u3 => (f_J2_size z2 m0).bind fun z4 => (isO m0 a0 2).bind fun u5 => bn3 (f_X3_begins g a0 z4 8 n1 k1 m0) fun n7 k8 m6 => (isO m6 a0 2).bind fun u9 => bn4 (f_X3_told g a0 n7 k8 m6) fun z10 n12 k13 m11 => (isO m11 a0 2).bind fun u14 => bn3 (f_X3_needs g a0 (some (g 23)) n12 k13 m11) fun n16 k17 m15 => (isO m15 a0 2).bind fun u18 => bn2 (f_X3_wholeAt a0 1 30 m15) fun z19 m20 => (isO m20 a0 2).bind fun u21 => (f_X3_isOver a0 m20).bind fun z22 => if z22 = 0 then ((gR m20 a0 2 1).bind fun z23 => (isO m20 z23 4).bind fun u24 => (f_X5_isHeard z23 z10 z19 m20).bind fun z25 => if z25 = 0 then (f_X3_heard_J59 g a0 z10 z19 n16 k17 m20) else ((isO m20 a0 2).bind fun u26 => (f_X3_wrong a0 3 m20).bind fun m27 => f_X3_heard_J59 g a0 z10 z19 n16 k17 m27)) else (f_X3_heard_J59 g a0 z10 z19 n16 k17 m20)
theorem mo_X3_heard (g : Nat → Nat) (a0 : Option Nat) (n1 k1 : Nat) (m0 : fk_M) : Mo3 n1 k1 (f_X3_heard g a0 n1 k1 m0) := by
  unfold f_X3_heard
  exact Mo3.bind (fun z1 => Mo3.bind (fun z2 => Mo3.bind (fun u3 => Mo3.bind (fun z4 => Mo3.bind (fun u5 => Mo3.bn3 (mo_X3_begins g a0 z4 8 n1 k1 m0) (fun n7 k8 m6 => Mo3.bind (fun u9 => Mo3.bn4 (mo_X3_told g a0 n7 k8 m6) (fun z10 n12 k13 m11 => Mo3.bind (fun u14 => Mo3.bn3 (mo_X3_needs g a0 (some (g 23)) n12 k13 m11) (fun n16 k17 m15 => Mo3.bind (fun u18 => Mo3.bn2 (fun z19 m20 => Mo3.bind (fun u21 => Mo3.bind (fun z22 => Mo3.ite (Mo3.bind (fun z23 => Mo3.bind (fun u24 => Mo3.bind (fun z25 => Mo3.ite ((mo_X3_heard_J59 g a0 z10 z19 n16 k17 m20)) (Mo3.bind (fun u26 => Mo3.bind (fun m27 => (mo_X3_heard_J59 g a0 z10 z19 n16 k17 m27)))))))) ((mo_X3_heard_J59 g a0 z10 z19 n16 k17 m20))))))))))))))))
set_option maxHeartbeats 4000000 in
theorem c_X3_heard {l : Launch} {G : fk_G} {b0 : Nat} {n1 k1 nF kF : Nat} {a0 : Option Nat} {m0 : fk_M} {mF : fk_M} (hf : f_X3_heard G.2.2 a0 n1 k1 m0 = some (nF, kF, mF)) : fk_Ct l G b0 yX3_heard cX3_heard 4 none 11 280 [tR a0] n1 m0 none nF mF (nF - n1) (kF - k1) := by
  refine fk_enter n_X3_heard.1 rfl ?_
  intro E X0 Y
  have X : fk_X E l G b0 "FigureKnee$Reader" "heard" cX3_heard 4 11 280 (nF - n1) (kF - k1) := X0
  show fk_W E 4 n1 m0 0 0 0 [(0, tR a0)] []
  refine fk_widen (cs2 := n1 - n1) (sl2 := k1 - k1) (Nat.zero_le _) (Nat.zero_le _) ?_
  unfold f_X3_heard at hf
  have h01 : n1 ≤ n1 := Nat.le_refl _
  have h02 : k1 ≤ k1 := Nat.le_refl _
  refine fk_aload_n X 0 dX3_heard_0 rfl ?_
  refine fk_aload_n X 0 dX3_heard_1 rfl ?_
  refine fk_getR' X fd_2_1 q561 dX3_heard_2 hf (fun z1 hf => ?_)
  refine fk_getR' X fd_4_6 q316 dX3_heard_5 hf (fun z2 hf => ?_)
  obtain ⟨u3, hq, hf⟩ := bI hf
  obtain ⟨z4, hv, hf⟩ := bI hf
  have hm : n1 ≤ nF ∧ k1 ≤ kF := Mo3.use hf (Mo3.bind (fun u5 => Mo3.bn3 (mo_X3_begins G.2.2 a0 z4 8 n1 k1 m0) (fun n7 k8 m6 => Mo3.bind (fun u9 => Mo3.bn4 (mo_X3_told G.2.2 a0 n7 k8 m6) (fun z10 n12 k13 m11 => Mo3.bind (fun u14 => Mo3.bn3 (mo_X3_needs G.2.2 a0 (some (G.2.2 23)) n12 k13 m11) (fun n16 k17 m15 => Mo3.bind (fun u18 => Mo3.bn2 (fun z19 m20 => Mo3.bind (fun u21 => Mo3.bind (fun z22 => Mo3.ite (Mo3.bind (fun z23 => Mo3.bind (fun u24 => Mo3.bind (fun z25 => Mo3.ite ((mo_X3_heard_J59 G.2.2 a0 z10 z19 n16 k17 m20)) (Mo3.bind (fun u26 => Mo3.bind (fun m27 => (mo_X3_heard_J59 G.2.2 a0 z10 z19 n16 k17 m27)))))))) ((mo_X3_heard_J59 G.2.2 a0 z10 z19 n16 k17 m20)))))))))))))
  refine fk_callV0I (ci := 14) (rest := [tR a0]) X hq rfl (c_J2_size hv) n_J2_size q698 q699 q700 q125 q701 rfl dX3_heard_8 rfl rfl rfl rfl rfl (by omega) (by omega) ?_
  refine fk_bipush (v := 8) X dX3_heard_11 rfl ?_
  obtain ⟨u5, hq, hf⟩ := bI hf
  obtain ⟨n7, k8, m6, hv, hf⟩ := bn3_eq hf
  have hmc := mo_X3_begins G.2.2 a0 z4 8 n1 k1 m0 _ _ _ hv
  have hm : n7 ≤ nF ∧ k8 ≤ kF := Mo3.use hf (Mo3.bind (fun u9 => Mo3.bn4 (mo_X3_told G.2.2 a0 n7 k8 m6) (fun z10 n12 k13 m11 => Mo3.bind (fun u14 => Mo3.bn3 (mo_X3_needs G.2.2 a0 (some (G.2.2 23)) n12 k13 m11) (fun n16 k17 m15 => Mo3.bind (fun u18 => Mo3.bn2 (fun z19 m20 => Mo3.bind (fun u21 => Mo3.bind (fun z22 => Mo3.ite (Mo3.bind (fun z23 => Mo3.bind (fun u24 => Mo3.bind (fun z25 => Mo3.ite ((mo_X3_heard_J59 G.2.2 a0 z10 z19 n16 k17 m20)) (Mo3.bind (fun u26 => Mo3.bind (fun m27 => (mo_X3_heard_J59 G.2.2 a0 z10 z19 n16 k17 m27)))))))) ((mo_X3_heard_J59 G.2.2 a0 z10 z19 n16 k17 m20)))))))))))
  refine fk_callV1V (ci := 2) (rest := []) (cs2 := n7 - n1) (sl2 := k8 - k1) X hq rfl (c_X3_begins hv) n_X3_begins q702 q704 qs12 q127 q705 rfl dX3_heard_13 rfl rfl rfl rfl rfl (by omega) (by omega) (by omega) (by omega) ?_
  refine fk_aload_n X 0 dX3_heard_16 rfl ?_
  obtain ⟨u9, hq, hf⟩ := bI hf
  obtain ⟨z10, n12, k13, m11, hv, hf⟩ := bn4_eq hf
  have hmc := mo_X3_told G.2.2 a0 n7 k8 m6 _ _ _ _ hv
  have hm : n12 ≤ nF ∧ k13 ≤ kF := Mo3.use hf (Mo3.bind (fun u14 => Mo3.bn3 (mo_X3_needs G.2.2 a0 (some (G.2.2 23)) n12 k13 m11) (fun n16 k17 m15 => Mo3.bind (fun u18 => Mo3.bn2 (fun z19 m20 => Mo3.bind (fun u21 => Mo3.bind (fun z22 => Mo3.ite (Mo3.bind (fun z23 => Mo3.bind (fun u24 => Mo3.bind (fun z25 => Mo3.ite ((mo_X3_heard_J59 G.2.2 a0 z10 z19 n16 k17 m20)) (Mo3.bind (fun u26 => Mo3.bind (fun m27 => (mo_X3_heard_J59 G.2.2 a0 z10 z19 n16 k17 m27)))))))) ((mo_X3_heard_J59 G.2.2 a0 z10 z19 n16 k17 m20)))))))))
  refine fk_callV1I (ci := 2) (rest := []) (cs2 := n12 - n1) (sl2 := k13 - k1) X hq rfl (c_X3_told hv) n_X3_told q885 q887 qs20 q127 q888 rfl dX3_heard_17 rfl rfl rfl rfl rfl (by omega) (by omega) (by omega) (by omega) ?_
  refine fk_istore_n X [(1, tI z10), (0, tR a0)] dX3_heard_20 rfl rfl ?_
  refine fk_aload_n X 1 dX3_heard_21 rfl ?_
  refine fk_ldcS (i := 23) X rfl dX3_heard_22 ?_
  obtain ⟨u14, hq, hf⟩ := bI hf
  obtain ⟨n16, k17, m15, hv, hf⟩ := bn3_eq hf
  have hmc := mo_X3_needs G.2.2 a0 (some (G.2.2 23)) n12 k13 m11 _ _ _ hv
  have hm : n16 ≤ nF ∧ k17 ≤ kF := Mo3.use hf (Mo3.bind (fun u18 => Mo3.bn2 (fun z19 m20 => Mo3.bind (fun u21 => Mo3.bind (fun z22 => Mo3.ite (Mo3.bind (fun z23 => Mo3.bind (fun u24 => Mo3.bind (fun z25 => Mo3.ite ((mo_X3_heard_J59 G.2.2 a0 z10 z19 n16 k17 m20)) (Mo3.bind (fun u26 => Mo3.bind (fun m27 => (mo_X3_heard_J59 G.2.2 a0 z10 z19 n16 k17 m27)))))))) ((mo_X3_heard_J59 G.2.2 a0 z10 z19 n16 k17 m20)))))))
  refine fk_callV1V (ci := 2) (rest := []) (cs2 := n16 - n1) (sl2 := k17 - k1) X hq rfl (c_X3_needs hv) n_X3_needs q675 q677 qs8 q127 q678 rfl dX3_heard_24 rfl rfl rfl rfl rfl (by omega) (by omega) (by omega) (by omega) ?_
  refine fk_aload_n X 1 dX3_heard_27 rfl ?_
  refine fk_iconst (v := 1) X dX3_heard_28 rfl ?_
  refine fk_bipush (v := 30) X dX3_heard_29 rfl ?_
  obtain ⟨u18, hq, hf⟩ := bI hf
  obtain ⟨z19, m20, hv, hf⟩ := bn2_eq hf
  have hm : n16 ≤ nF ∧ k17 ≤ kF := Mo3.use hf (Mo3.bind (fun u21 => Mo3.bind (fun z22 => Mo3.ite (Mo3.bind (fun z23 => Mo3.bind (fun u24 => Mo3.bind (fun z25 => Mo3.ite ((mo_X3_heard_J59 G.2.2 a0 z10 z19 n16 k17 m20)) (Mo3.bind (fun u26 => Mo3.bind (fun m27 => (mo_X3_heard_J59 G.2.2 a0 z10 z19 n16 k17 m27)))))))) ((mo_X3_heard_J59 G.2.2 a0 z10 z19 n16 k17 m20)))))
  refine fk_callV0I (ci := 2) (rest := []) X hq rfl (c_X3_wholeAt hv) n_X3_wholeAt q688 q690 qs10 q127 q691 rfl dX3_heard_31 rfl rfl rfl rfl rfl (by omega) (by omega) ?_
  refine fk_istore_n X [(2, tI z19), (1, tI z10), (0, tR a0)] dX3_heard_34 rfl rfl ?_
  refine fk_aload_n X 2 dX3_heard_35 rfl ?_
  obtain ⟨u21, hq, hf⟩ := bI hf
  obtain ⟨z22, hv, hf⟩ := bI hf
  have hm : n16 ≤ nF ∧ k17 ≤ kF := Mo3.use hf (Mo3.ite (Mo3.bind (fun z23 => Mo3.bind (fun u24 => Mo3.bind (fun z25 => Mo3.ite ((mo_X3_heard_J59 G.2.2 a0 z10 z19 n16 k17 m20)) (Mo3.bind (fun u26 => Mo3.bind (fun m27 => (mo_X3_heard_J59 G.2.2 a0 z10 z19 n16 k17 m27)))))))) ((mo_X3_heard_J59 G.2.2 a0 z10 z19 n16 k17 m20)))
  refine fk_callV0I (ci := 2) (rest := []) X hq rfl (c_X3_isOver hv) n_X3_isOver q662 q664 qs5 q127 q665 rfl dX3_heard_36 rfl rfl rfl rfl rfl (by omega) (by omega) ?_
  refine fk_if_ne' X 59 dX3_heard_39 rfl hf (fun hf => ?_) (fun hf => ?_)
  · have hn : n1 ≤ n16 := by omega
    have hk : k1 ≤ k17 := by omega
    exact fk_cut' (w_X3_heard_J59 X Y a0 z10 z19 n16 k17 hn hk m20 hf) [2, 1, 0] rfl
  · refine fk_aload_n X 2 dX3_heard_42 rfl ?_
    refine fk_getR' X fd_2_1 q561 dX3_heard_43 hf (fun z23 hf => ?_)
    refine fk_iload_n X 1 dX3_heard_46 rfl ?_
    refine fk_iload_n X 0 dX3_heard_47 rfl ?_
    obtain ⟨u24, hq, hf⟩ := bI hf
    obtain ⟨z25, hv, hf⟩ := bI hf
    have hm : n16 ≤ nF ∧ k17 ≤ kF := Mo3.use hf (Mo3.ite ((mo_X3_heard_J59 G.2.2 a0 z10 z19 n16 k17 m20)) (Mo3.bind (fun u26 => Mo3.bind (fun m27 => (mo_X3_heard_J59 G.2.2 a0 z10 z19 n16 k17 m27)))))
    refine fk_callV0I (ci := 4) (rest := []) X hq rfl (c_X5_isHeard hv) n_X5_isHeard q924 q925 q926 q129 q927 rfl dX3_heard_48 rfl rfl rfl rfl rfl (by omega) (by omega) ?_
    refine fk_if_eq' X 59 dX3_heard_51 rfl hf (fun hf => ?_) (fun hf => ?_)
    · have hn : n1 ≤ n16 := by omega
      have hk : k1 ≤ k17 := by omega
      exact fk_cut' (w_X3_heard_J59 X Y a0 z10 z19 n16 k17 hn hk m20 hf) [2, 1, 0] rfl
    · refine fk_aload_n X 2 dX3_heard_54 rfl ?_
      refine fk_iconst (v := 3) X dX3_heard_55 rfl ?_
      obtain ⟨u26, hq, hf⟩ := bI hf
      obtain ⟨m27, hv, hf⟩ := bI hf
      have hm : n16 ≤ nF ∧ k17 ≤ kF := Mo3.use hf ((mo_X3_heard_J59 G.2.2 a0 z10 z19 n16 k17 m27))
      refine fk_callV0V (ci := 2) (rest := []) X hq rfl (c_X3_wrong hv) n_X3_wrong q658 q660 qs4 q127 q661 rfl dX3_heard_56 rfl rfl rfl rfl rfl (by omega) (by omega) ?_
      have hn : n1 ≤ n16 := by omega
      have hk : k1 ≤ k17 := by omega
      exact fk_cut' (w_X3_heard_J59 X Y a0 z10 z19 n16 k17 hn hk m27 hf) [2, 1, 0] rfl
/-! FigureKnee$Reader line ()V -/
theorem n_X3_line : fk_N yX3_line 0 := ⟨by decide +kernel, by decide +kernel, by decide +kernel, by decide +kernel⟩
def f_X3_line_J169 (g : Nat → Nat) (x0 : Option Nat) (x2 : Int32) (n1 k1 : Nat) (m0 : fk_M) : Option (Nat × Nat × fk_M) :=
  if x2 = 0 then ((isO m0 x0 2).bind fun u1 => bn3 (f_X3_pierLine g x0 n1 k1 m0) fun n3 k4 m2 => some (n3, k4, m2)) else (if x2 = 1 then ((isO m0 x0 2).bind fun u5 => bn3 (f_X3_pair g x0 n1 k1 m0) fun n7 k8 m6 => some (n7, k8, m6)) else (if x2 = 2 then ((isO m0 x0 2).bind fun u9 => bn3 (f_X3_contract g x0 n1 k1 m0) fun n11 k12 m10 => some (n11, k12, m10)) else (if x2 = 3 then ((isO m0 x0 2).bind fun u13 => bn3 (f_X3_debt g x0 n1 k1 m0) fun n15 k16 m14 => some (n15, k16, m14)) else (if x2 = 4 then ((isO m0 x0 2).bind fun u17 => bn3 (f_X3_unsure g x0 n1 k1 m0) fun n19 k20 m18 => some (n19, k20, m18)) else (if x2 = 5 then ((isO m0 x0 2).bind fun u21 => bn3 (f_X3_heard g x0 n1 k1 m0) fun n23 k24 m22 => some (n23, k24, m22)) else ((isO m0 x0 2).bind fun u25 => (f_X3_wrong x0 1 m0).bind fun m26 => some (n1, k1, m26)))))))
theorem mo_X3_line_J169 (g : Nat → Nat) (x0 : Option Nat) (x2 : Int32) (n1 k1 : Nat) (m0 : fk_M) : Mo3 n1 k1 (f_X3_line_J169 g x0 x2 n1 k1 m0) := by
  unfold f_X3_line_J169
  exact Mo3.ite (Mo3.bind (fun u1 => Mo3.bn3 (mo_X3_pierLine g x0 n1 k1 m0) (fun n3 k4 m2 => Mo3.ok (by omega) (by omega)))) (Mo3.ite (Mo3.bind (fun u5 => Mo3.bn3 (mo_X3_pair g x0 n1 k1 m0) (fun n7 k8 m6 => Mo3.ok (by omega) (by omega)))) (Mo3.ite (Mo3.bind (fun u9 => Mo3.bn3 (mo_X3_contract g x0 n1 k1 m0) (fun n11 k12 m10 => Mo3.ok (by omega) (by omega)))) (Mo3.ite (Mo3.bind (fun u13 => Mo3.bn3 (mo_X3_debt g x0 n1 k1 m0) (fun n15 k16 m14 => Mo3.ok (by omega) (by omega)))) (Mo3.ite (Mo3.bind (fun u17 => Mo3.bn3 (mo_X3_unsure g x0 n1 k1 m0) (fun n19 k20 m18 => Mo3.ok (by omega) (by omega)))) (Mo3.ite (Mo3.bind (fun u21 => Mo3.bn3 (mo_X3_heard g x0 n1 k1 m0) (fun n23 k24 m22 => Mo3.ok (by omega) (by omega)))) (Mo3.bind (fun u25 => Mo3.bind (fun m26 => Mo3.ok (by omega) (by omega)))))))))
set_option maxHeartbeats 4000000 in
theorem w_X3_line_J169 {E : fk_E} {l : Launch} {G : fk_G} {b0 n0 k0 nF kF : Nat} {mF : fk_M} (X : fk_X E l G b0 "FigureKnee$Reader" "line" cX3_line 3 12 303 (nF - n0) (kF - k0)) (Y : fk_Y E none none nF mF (nF - n0) (kF - k0)) (x0 : Option Nat) (x2 : Int32)  (n1 k1 : Nat) (hn1 : n0 ≤ n1) (hk1 : k0 ≤ k1) (m0 : fk_M) (hf : f_X3_line_J169 G.2.2 x0 x2 n1 k1 m0 = some (nF, kF, mF)) : fk_W E 3 n1 m0 (n1 - n0) (k1 - k0) 169 [(0, tR x0), (2, tI x2)] [] := by
  unfold f_X3_line_J169 at hf
  refine fk_iload_n X 1 dX3_line_169 rfl ?_
  by_cases hs1 : x2 = 0
  · rw [if_pos hs1] at hf
    refine fk_tableIn X 208 dX3_line_170 (by rw [hs1]; decide) (by rw [hs1]; decide) (by rw [hs1]; rfl) rfl ?_
    refine fk_aload_n X 0 dX3_line_208 rfl ?_
    obtain ⟨u1, hq, hf⟩ := bI hf
    obtain ⟨n3, k4, m2, hv, hf⟩ := bn3_eq hf
    have hmc := mo_X3_pierLine G.2.2 x0 n1 k1 m0 _ _ _ hv
    have hm : n3 ≤ nF ∧ k4 ≤ kF := Mo3.use hf (Mo3.ok (by omega) (by omega))
    refine fk_callV1V (ci := 2) (rest := []) (cs2 := n3 - n0) (sl2 := k4 - k0) X hq rfl (c_X3_pierLine hv) n_X3_pierLine q654 q656 qs3 q127 q657 rfl dX3_line_209 rfl rfl rfl rfl rfl (by omega) (by omega) (by omega) (by omega) ?_
    refine fk_goto X 255 dX3_line_212 rfl ?_
    cases hf
    exact fk_return X Y dX3_line_255
  rw [if_neg hs1] at hf
  by_cases hs2 : x2 = 1
  · rw [if_pos hs2] at hf
    refine fk_tableIn X 215 dX3_line_170 (by rw [hs2]; decide) (by rw [hs2]; decide) (by rw [hs2]; rfl) rfl ?_
    refine fk_aload_n X 0 dX3_line_215 rfl ?_
    obtain ⟨u5, hq, hf⟩ := bI hf
    obtain ⟨n7, k8, m6, hv, hf⟩ := bn3_eq hf
    have hmc := mo_X3_pair G.2.2 x0 n1 k1 m0 _ _ _ hv
    have hm : n7 ≤ nF ∧ k8 ≤ kF := Mo3.use hf (Mo3.ok (by omega) (by omega))
    refine fk_callV1V (ci := 2) (rest := []) (cs2 := n7 - n0) (sl2 := k8 - k0) X hq rfl (c_X3_pair hv) n_X3_pair q694 q696 qs11 q127 q697 rfl dX3_line_216 rfl rfl rfl rfl rfl (by omega) (by omega) (by omega) (by omega) ?_
    refine fk_goto X 255 dX3_line_219 rfl ?_
    cases hf
    exact fk_return X Y dX3_line_255
  rw [if_neg hs2] at hf
  by_cases hs3 : x2 = 2
  · rw [if_pos hs3] at hf
    refine fk_tableIn X 222 dX3_line_170 (by rw [hs3]; decide) (by rw [hs3]; decide) (by rw [hs3]; rfl) rfl ?_
    refine fk_aload_n X 0 dX3_line_222 rfl ?_
    obtain ⟨u9, hq, hf⟩ := bI hf
    obtain ⟨n11, k12, m10, hv, hf⟩ := bn3_eq hf
    have hmc := mo_X3_contract G.2.2 x0 n1 k1 m0 _ _ _ hv
    have hm : n11 ≤ nF ∧ k12 ≤ kF := Mo3.use hf (Mo3.ok (by omega) (by omega))
    refine fk_callV1V (ci := 2) (rest := []) (cs2 := n11 - n0) (sl2 := k12 - k0) X hq rfl (c_X3_contract hv) n_X3_contract q871 q873 qs17 q127 q874 rfl dX3_line_223 rfl rfl rfl rfl rfl (by omega) (by omega) (by omega) (by omega) ?_
    refine fk_goto X 255 dX3_line_226 rfl ?_
    cases hf
    exact fk_return X Y dX3_line_255
  rw [if_neg hs3] at hf
  by_cases hs4 : x2 = 3
  · rw [if_pos hs4] at hf
    refine fk_tableIn X 229 dX3_line_170 (by rw [hs4]; decide) (by rw [hs4]; decide) (by rw [hs4]; rfl) rfl ?_
    refine fk_aload_n X 0 dX3_line_229 rfl ?_
    obtain ⟨u13, hq, hf⟩ := bI hf
    obtain ⟨n15, k16, m14, hv, hf⟩ := bn3_eq hf
    have hmc := mo_X3_debt G.2.2 x0 n1 k1 m0 _ _ _ hv
    have hm : n15 ≤ nF ∧ k16 ≤ kF := Mo3.use hf (Mo3.ok (by omega) (by omega))
    refine fk_callV1V (ci := 2) (rest := []) (cs2 := n15 - n0) (sl2 := k16 - k0) X hq rfl (c_X3_debt hv) n_X3_debt q881 q883 qs19 q127 q884 rfl dX3_line_230 rfl rfl rfl rfl rfl (by omega) (by omega) (by omega) (by omega) ?_
    refine fk_goto X 255 dX3_line_233 rfl ?_
    cases hf
    exact fk_return X Y dX3_line_255
  rw [if_neg hs4] at hf
  by_cases hs5 : x2 = 4
  · rw [if_pos hs5] at hf
    refine fk_tableIn X 236 dX3_line_170 (by rw [hs5]; decide) (by rw [hs5]; decide) (by rw [hs5]; rfl) rfl ?_
    refine fk_aload_n X 0 dX3_line_236 rfl ?_
    obtain ⟨u17, hq, hf⟩ := bI hf
    obtain ⟨n19, k20, m18, hv, hf⟩ := bn3_eq hf
    have hmc := mo_X3_unsure G.2.2 x0 n1 k1 m0 _ _ _ hv
    have hm : n19 ≤ nF ∧ k20 ≤ kF := Mo3.use hf (Mo3.ok (by omega) (by omega))
    refine fk_callV1V (ci := 2) (rest := []) (cs2 := n19 - n0) (sl2 := k20 - k0) X hq rfl (c_X3_unsure hv) n_X3_unsure q915 q917 qs21 q127 q918 rfl dX3_line_237 rfl rfl rfl rfl rfl (by omega) (by omega) (by omega) (by omega) ?_
    refine fk_goto X 255 dX3_line_240 rfl ?_
    cases hf
    exact fk_return X Y dX3_line_255
  rw [if_neg hs5] at hf
  by_cases hs6 : x2 = 5
  · rw [if_pos hs6] at hf
    refine fk_tableIn X 243 dX3_line_170 (by rw [hs6]; decide) (by rw [hs6]; decide) (by rw [hs6]; rfl) rfl ?_
    refine fk_aload_n X 0 dX3_line_243 rfl ?_
    obtain ⟨u21, hq, hf⟩ := bI hf
    obtain ⟨n23, k24, m22, hv, hf⟩ := bn3_eq hf
    have hmc := mo_X3_heard G.2.2 x0 n1 k1 m0 _ _ _ hv
    have hm : n23 ≤ nF ∧ k24 ≤ kF := Mo3.use hf (Mo3.ok (by omega) (by omega))
    refine fk_callV1V (ci := 2) (rest := []) (cs2 := n23 - n0) (sl2 := k24 - k0) X hq rfl (c_X3_heard hv) n_X3_heard q919 q921 qs22 q127 q922 rfl dX3_line_244 rfl rfl rfl rfl rfl (by omega) (by omega) (by omega) (by omega) ?_
    refine fk_goto X 255 dX3_line_247 rfl ?_
    cases hf
    exact fk_return X Y dX3_line_255
  rw [if_neg hs6] at hf
  refine fk_tableOut X 250 dX3_line_170 (by have e0 := lv_neT hs1 (show (0 : Int32).toInt = 0 from by decide); have e1 := lv_neT hs2 (show (1 : Int32).toInt = 1 from by decide); have e2 := lv_neT hs3 (show (2 : Int32).toInt = 2 from by decide); have e3 := lv_neT hs4 (show (3 : Int32).toInt = 3 from by decide); have e4 := lv_neT hs5 (show (4 : Int32).toInt = 4 from by decide); have e5 := lv_neT hs6 (show (5 : Int32).toInt = 5 from by decide); omega) rfl ?_
  refine fk_aload_n X 0 dX3_line_250 rfl ?_
  refine fk_iconst (v := 1) X dX3_line_251 rfl ?_
  obtain ⟨u25, hq, hf⟩ := bI hf
  obtain ⟨m26, hv, hf⟩ := bI hf
  have hm : n1 ≤ nF ∧ k1 ≤ kF := Mo3.use hf (Mo3.ok (by omega) (by omega))
  refine fk_callV0V (ci := 2) (rest := []) X hq rfl (c_X3_wrong hv) n_X3_wrong q658 q660 qs4 q127 q661 rfl dX3_line_252 rfl rfl rfl rfl rfl (by omega) (by omega) ?_
  cases hf
  exact fk_return X Y dX3_line_255
def f_X3_line_J23 (g : Nat → Nat) (x0 : Option Nat) (y0 : Option Nat) (n1 k1 : Nat) (m0 : fk_M) : Option (Nat × Nat × fk_M) :=
  (isO m0 y0 16).bind fun u1 => bn2 (f_J5_hashCode y0 m0) fun z2 m3 => if z2 = (-840227282) then ((isO m3 y0 16).bind fun u4 => (f_J5_equals y0 (some (g 6)) m3).bind fun z5 => f_X3_line_J169 g x0 (if z5 = 0 then ((-1) : Int32) else 4) n1 k1 m3) else (if z2 = (-566947566) then ((isO m3 y0 16).bind fun u6 => (f_J5_equals y0 (some (g 4)) m3).bind fun z7 => f_X3_line_J169 g x0 (if z7 = 0 then ((-1) : Int32) else 2) n1 k1 m3) else (if z2 = 3079315 then ((isO m3 y0 16).bind fun u8 => (f_J5_equals y0 (some (g 5)) m3).bind fun z9 => f_X3_line_J169 g x0 (if z9 = 0 then ((-1) : Int32) else 3) n1 k1 m3) else (if z2 = 3433178 then ((isO m3 y0 16).bind fun u10 => (f_J5_equals y0 (some (g 3)) m3).bind fun z11 => f_X3_line_J169 g x0 (if z11 = 0 then ((-1) : Int32) else 1) n1 k1 m3) else (if z2 = 3440742 then ((isO m3 y0 16).bind fun u12 => (f_J5_equals y0 (some (g 2)) m3).bind fun z13 => f_X3_line_J169 g x0 (if z13 = 0 then ((-1) : Int32) else 0) n1 k1 m3) else (if z2 = 99151926 then ((isO m3 y0 16).bind fun u14 => (f_J5_equals y0 (some (g 7)) m3).bind fun z15 => f_X3_line_J169 g x0 (if z15 = 0 then ((-1) : Int32) else 5) n1 k1 m3) else (f_X3_line_J169 g x0 (-1) n1 k1 m3))))))
theorem mo_X3_line_J23 (g : Nat → Nat) (x0 : Option Nat) (y0 : Option Nat) (n1 k1 : Nat) (m0 : fk_M) : Mo3 n1 k1 (f_X3_line_J23 g x0 y0 n1 k1 m0) := by
  unfold f_X3_line_J23
  exact Mo3.bind (fun u1 => Mo3.bn2 (fun z2 m3 => Mo3.ite (Mo3.bind (fun u4 => Mo3.bind (fun z5 => (mo_X3_line_J169 g x0 (if z5 = 0 then ((-1) : Int32) else 4) n1 k1 m3)))) (Mo3.ite (Mo3.bind (fun u6 => Mo3.bind (fun z7 => (mo_X3_line_J169 g x0 (if z7 = 0 then ((-1) : Int32) else 2) n1 k1 m3)))) (Mo3.ite (Mo3.bind (fun u8 => Mo3.bind (fun z9 => (mo_X3_line_J169 g x0 (if z9 = 0 then ((-1) : Int32) else 3) n1 k1 m3)))) (Mo3.ite (Mo3.bind (fun u10 => Mo3.bind (fun z11 => (mo_X3_line_J169 g x0 (if z11 = 0 then ((-1) : Int32) else 1) n1 k1 m3)))) (Mo3.ite (Mo3.bind (fun u12 => Mo3.bind (fun z13 => (mo_X3_line_J169 g x0 (if z13 = 0 then ((-1) : Int32) else 0) n1 k1 m3)))) (Mo3.ite (Mo3.bind (fun u14 => Mo3.bind (fun z15 => (mo_X3_line_J169 g x0 (if z15 = 0 then ((-1) : Int32) else 5) n1 k1 m3)))) ((mo_X3_line_J169 g x0 (-1) n1 k1 m3)))))))))
set_option maxHeartbeats 4000000 in
theorem w_X3_line_J23 {E : fk_E} {l : Launch} {G : fk_G} {b0 n0 k0 nF kF : Nat} {mF : fk_M} (X : fk_X E l G b0 "FigureKnee$Reader" "line" cX3_line 3 12 303 (nF - n0) (kF - k0)) (Y : fk_Y E none none nF mF (nF - n0) (kF - k0)) (x0 : Option Nat) (y0 : Option Nat) (n1 k1 : Nat) (hn1 : n0 ≤ n1) (hk1 : k0 ≤ k1) (m0 : fk_M) (hf : f_X3_line_J23 G.2.2 x0 y0 n1 k1 m0 = some (nF, kF, mF)) : fk_W E 3 n1 m0 (n1 - n0) (k1 - k0) 23 [(0, tR x0)] [tR y0] := by
  unfold f_X3_line_J23 at hf
  refine fk_astore_n X [(1, tR y0), (0, tR x0)] dX3_line_23 rfl rfl ?_
  refine fk_iconst (v := (-1)) X dX3_line_24 rfl ?_
  refine fk_istore_n X [(2, tI (-1)), (1, tR y0), (0, tR x0)] dX3_line_25 rfl rfl ?_
  refine fk_aload_n X 1 dX3_line_26 rfl ?_
  obtain ⟨u1, hq, hf⟩ := bI hf
  obtain ⟨z2, m3, hv, hf⟩ := bn2_eq hf
  have hm : n1 ≤ nF ∧ k1 ≤ kF := Mo3.use hf (Mo3.ite (Mo3.bind (fun u4 => Mo3.bind (fun z5 => (mo_X3_line_J169 G.2.2 x0 (if z5 = 0 then ((-1) : Int32) else 4) n1 k1 m3)))) (Mo3.ite (Mo3.bind (fun u6 => Mo3.bind (fun z7 => (mo_X3_line_J169 G.2.2 x0 (if z7 = 0 then ((-1) : Int32) else 2) n1 k1 m3)))) (Mo3.ite (Mo3.bind (fun u8 => Mo3.bind (fun z9 => (mo_X3_line_J169 G.2.2 x0 (if z9 = 0 then ((-1) : Int32) else 3) n1 k1 m3)))) (Mo3.ite (Mo3.bind (fun u10 => Mo3.bind (fun z11 => (mo_X3_line_J169 G.2.2 x0 (if z11 = 0 then ((-1) : Int32) else 1) n1 k1 m3)))) (Mo3.ite (Mo3.bind (fun u12 => Mo3.bind (fun z13 => (mo_X3_line_J169 G.2.2 x0 (if z13 = 0 then ((-1) : Int32) else 0) n1 k1 m3)))) (Mo3.ite (Mo3.bind (fun u14 => Mo3.bind (fun z15 => (mo_X3_line_J169 G.2.2 x0 (if z15 = 0 then ((-1) : Int32) else 5) n1 k1 m3)))) ((mo_X3_line_J169 G.2.2 x0 (-1) n1 k1 m3))))))))
  refine fk_callV0I (ci := 16) (rest := []) X hq rfl (c_J5_hashCode hv) n_J5_hashCode q587 q588 q589 q133 q590 rfl dX3_line_27 rfl rfl rfl rfl rfl (by omega) (by omega) ?_
  by_cases hs3 : z2 = (-840227282)
  · rw [if_pos hs3] at hf
    refine fk_lookup (off := 114) X 144 dX3_line_30 (by decide) (by rw [hs3]; decide +kernel) rfl ?_
    refine fk_aload_n X 1 dX3_line_144 rfl ?_
    refine fk_ldcS (i := 6) X rfl dX3_line_145 ?_
    obtain ⟨u4, hq, hf⟩ := bI hf
    obtain ⟨z5, hv, hf⟩ := bI hf
    have hm : n1 ≤ nF ∧ k1 ≤ kF := Mo3.use hf ((mo_X3_line_J169 G.2.2 x0 (if z5 = 0 then ((-1) : Int32) else 4) n1 k1 m3))
    refine fk_callV0I (ci := 16) (rest := []) X hq rfl (c_J5_equals hv) n_J5_equals q641 q642 q643 q133 q644 rfl dX3_line_147 rfl rfl rfl rfl rfl (by omega) (by omega) ?_
    have J1 : fk_W E 3 n1 m3 (n1 - n0) (k1 - k0) 169 [(2, tI (if z5 = 0 then ((-1) : Int32) else 4)), (0, tR x0)] [] := by
      have hn : n0 ≤ n1 := by omega
      have hk : k0 ≤ k1 := by omega
      exact fk_cut' (w_X3_line_J169 X Y x0 (if z5 = 0 then ((-1) : Int32) else 4) n1 k1 hn hk m3 hf) [1, 0] rfl
    refine fk_if_eq X 169 dX3_line_150 rfl (fun hc2 => ?_) (fun hc2 => ?_)
    · simp only [if_pos hc2] at J1
      exact fk_cut' J1 [0, 2] rfl
    · refine fk_iconst (v := 4) X dX3_line_153 rfl ?_
      refine fk_istore_n X [(2, tI 4), (1, tR y0), (0, tR x0)] dX3_line_154 rfl rfl ?_
      refine fk_goto X 169 dX3_line_155 rfl ?_
      simp only [if_neg hc2] at J1
      exact fk_cut' J1 [0, 2] rfl
  rw [if_neg hs3] at hf
  by_cases hs6 : z2 = (-566947566)
  · rw [if_pos hs6] at hf
    refine fk_lookup (off := 86) X 116 dX3_line_30 (by decide) (by rw [hs6]; decide +kernel) rfl ?_
    refine fk_aload_n X 1 dX3_line_116 rfl ?_
    refine fk_ldcS (i := 4) X rfl dX3_line_117 ?_
    obtain ⟨u6, hq, hf⟩ := bI hf
    obtain ⟨z7, hv, hf⟩ := bI hf
    have hm : n1 ≤ nF ∧ k1 ≤ kF := Mo3.use hf ((mo_X3_line_J169 G.2.2 x0 (if z7 = 0 then ((-1) : Int32) else 2) n1 k1 m3))
    refine fk_callV0I (ci := 16) (rest := []) X hq rfl (c_J5_equals hv) n_J5_equals q641 q642 q643 q133 q644 rfl dX3_line_119 rfl rfl rfl rfl rfl (by omega) (by omega) ?_
    have J4 : fk_W E 3 n1 m3 (n1 - n0) (k1 - k0) 169 [(2, tI (if z7 = 0 then ((-1) : Int32) else 2)), (0, tR x0)] [] := by
      have hn : n0 ≤ n1 := by omega
      have hk : k0 ≤ k1 := by omega
      exact fk_cut' (w_X3_line_J169 X Y x0 (if z7 = 0 then ((-1) : Int32) else 2) n1 k1 hn hk m3 hf) [1, 0] rfl
    refine fk_if_eq X 169 dX3_line_122 rfl (fun hc5 => ?_) (fun hc5 => ?_)
    · simp only [if_pos hc5] at J4
      exact fk_cut' J4 [0, 2] rfl
    · refine fk_iconst (v := 2) X dX3_line_125 rfl ?_
      refine fk_istore_n X [(2, tI 2), (1, tR y0), (0, tR x0)] dX3_line_126 rfl rfl ?_
      refine fk_goto X 169 dX3_line_127 rfl ?_
      simp only [if_neg hc5] at J4
      exact fk_cut' J4 [0, 2] rfl
  rw [if_neg hs6] at hf
  by_cases hs9 : z2 = 3079315
  · rw [if_pos hs9] at hf
    refine fk_lookup (off := 100) X 130 dX3_line_30 (by decide) (by rw [hs9]; decide +kernel) rfl ?_
    refine fk_aload_n X 1 dX3_line_130 rfl ?_
    refine fk_ldcS (i := 5) X rfl dX3_line_131 ?_
    obtain ⟨u8, hq, hf⟩ := bI hf
    obtain ⟨z9, hv, hf⟩ := bI hf
    have hm : n1 ≤ nF ∧ k1 ≤ kF := Mo3.use hf ((mo_X3_line_J169 G.2.2 x0 (if z9 = 0 then ((-1) : Int32) else 3) n1 k1 m3))
    refine fk_callV0I (ci := 16) (rest := []) X hq rfl (c_J5_equals hv) n_J5_equals q641 q642 q643 q133 q644 rfl dX3_line_133 rfl rfl rfl rfl rfl (by omega) (by omega) ?_
    have J7 : fk_W E 3 n1 m3 (n1 - n0) (k1 - k0) 169 [(2, tI (if z9 = 0 then ((-1) : Int32) else 3)), (0, tR x0)] [] := by
      have hn : n0 ≤ n1 := by omega
      have hk : k0 ≤ k1 := by omega
      exact fk_cut' (w_X3_line_J169 X Y x0 (if z9 = 0 then ((-1) : Int32) else 3) n1 k1 hn hk m3 hf) [1, 0] rfl
    refine fk_if_eq X 169 dX3_line_136 rfl (fun hc8 => ?_) (fun hc8 => ?_)
    · simp only [if_pos hc8] at J7
      exact fk_cut' J7 [0, 2] rfl
    · refine fk_iconst (v := 3) X dX3_line_139 rfl ?_
      refine fk_istore_n X [(2, tI 3), (1, tR y0), (0, tR x0)] dX3_line_140 rfl rfl ?_
      refine fk_goto X 169 dX3_line_141 rfl ?_
      simp only [if_neg hc8] at J7
      exact fk_cut' J7 [0, 2] rfl
  rw [if_neg hs9] at hf
  by_cases hs12 : z2 = 3433178
  · rw [if_pos hs12] at hf
    refine fk_lookup (off := 72) X 102 dX3_line_30 (by decide) (by rw [hs12]; decide +kernel) rfl ?_
    refine fk_aload_n X 1 dX3_line_102 rfl ?_
    refine fk_ldcS (i := 3) X rfl dX3_line_103 ?_
    obtain ⟨u10, hq, hf⟩ := bI hf
    obtain ⟨z11, hv, hf⟩ := bI hf
    have hm : n1 ≤ nF ∧ k1 ≤ kF := Mo3.use hf ((mo_X3_line_J169 G.2.2 x0 (if z11 = 0 then ((-1) : Int32) else 1) n1 k1 m3))
    refine fk_callV0I (ci := 16) (rest := []) X hq rfl (c_J5_equals hv) n_J5_equals q641 q642 q643 q133 q644 rfl dX3_line_105 rfl rfl rfl rfl rfl (by omega) (by omega) ?_
    have J10 : fk_W E 3 n1 m3 (n1 - n0) (k1 - k0) 169 [(2, tI (if z11 = 0 then ((-1) : Int32) else 1)), (0, tR x0)] [] := by
      have hn : n0 ≤ n1 := by omega
      have hk : k0 ≤ k1 := by omega
      exact fk_cut' (w_X3_line_J169 X Y x0 (if z11 = 0 then ((-1) : Int32) else 1) n1 k1 hn hk m3 hf) [1, 0] rfl
    refine fk_if_eq X 169 dX3_line_108 rfl (fun hc11 => ?_) (fun hc11 => ?_)
    · simp only [if_pos hc11] at J10
      exact fk_cut' J10 [0, 2] rfl
    · refine fk_iconst (v := 1) X dX3_line_111 rfl ?_
      refine fk_istore_n X [(2, tI 1), (1, tR y0), (0, tR x0)] dX3_line_112 rfl rfl ?_
      refine fk_goto X 169 dX3_line_113 rfl ?_
      simp only [if_neg hc11] at J10
      exact fk_cut' J10 [0, 2] rfl
  rw [if_neg hs12] at hf
  by_cases hs15 : z2 = 3440742
  · rw [if_pos hs15] at hf
    refine fk_lookup (off := 58) X 88 dX3_line_30 (by decide) (by rw [hs15]; decide +kernel) rfl ?_
    refine fk_aload_n X 1 dX3_line_88 rfl ?_
    refine fk_ldcS (i := 2) X rfl dX3_line_89 ?_
    obtain ⟨u12, hq, hf⟩ := bI hf
    obtain ⟨z13, hv, hf⟩ := bI hf
    have hm : n1 ≤ nF ∧ k1 ≤ kF := Mo3.use hf ((mo_X3_line_J169 G.2.2 x0 (if z13 = 0 then ((-1) : Int32) else 0) n1 k1 m3))
    refine fk_callV0I (ci := 16) (rest := []) X hq rfl (c_J5_equals hv) n_J5_equals q641 q642 q643 q133 q644 rfl dX3_line_91 rfl rfl rfl rfl rfl (by omega) (by omega) ?_
    have J13 : fk_W E 3 n1 m3 (n1 - n0) (k1 - k0) 169 [(2, tI (if z13 = 0 then ((-1) : Int32) else 0)), (0, tR x0)] [] := by
      have hn : n0 ≤ n1 := by omega
      have hk : k0 ≤ k1 := by omega
      exact fk_cut' (w_X3_line_J169 X Y x0 (if z13 = 0 then ((-1) : Int32) else 0) n1 k1 hn hk m3 hf) [1, 0] rfl
    refine fk_if_eq X 169 dX3_line_94 rfl (fun hc14 => ?_) (fun hc14 => ?_)
    · simp only [if_pos hc14] at J13
      exact fk_cut' J13 [0, 2] rfl
    · refine fk_iconst (v := 0) X dX3_line_97 rfl ?_
      refine fk_istore_n X [(2, tI 0), (1, tR y0), (0, tR x0)] dX3_line_98 rfl rfl ?_
      refine fk_goto X 169 dX3_line_99 rfl ?_
      simp only [if_neg hc14] at J13
      exact fk_cut' J13 [0, 2] rfl
  rw [if_neg hs15] at hf
  by_cases hs18 : z2 = 99151926
  · rw [if_pos hs18] at hf
    refine fk_lookup (off := 128) X 158 dX3_line_30 (by decide) (by rw [hs18]; decide +kernel) rfl ?_
    refine fk_aload_n X 1 dX3_line_158 rfl ?_
    refine fk_ldcS (i := 7) X rfl dX3_line_159 ?_
    obtain ⟨u14, hq, hf⟩ := bI hf
    obtain ⟨z15, hv, hf⟩ := bI hf
    have hm : n1 ≤ nF ∧ k1 ≤ kF := Mo3.use hf ((mo_X3_line_J169 G.2.2 x0 (if z15 = 0 then ((-1) : Int32) else 5) n1 k1 m3))
    refine fk_callV0I (ci := 16) (rest := []) X hq rfl (c_J5_equals hv) n_J5_equals q641 q642 q643 q133 q644 rfl dX3_line_161 rfl rfl rfl rfl rfl (by omega) (by omega) ?_
    have J16 : fk_W E 3 n1 m3 (n1 - n0) (k1 - k0) 169 [(2, tI (if z15 = 0 then ((-1) : Int32) else 5)), (0, tR x0)] [] := by
      have hn : n0 ≤ n1 := by omega
      have hk : k0 ≤ k1 := by omega
      exact fk_cut' (w_X3_line_J169 X Y x0 (if z15 = 0 then ((-1) : Int32) else 5) n1 k1 hn hk m3 hf) [1, 0] rfl
    refine fk_if_eq X 169 dX3_line_164 rfl (fun hc17 => ?_) (fun hc17 => ?_)
    · simp only [if_pos hc17] at J16
      exact fk_cut' J16 [0, 2] rfl
    · refine fk_iconst (v := 5) X dX3_line_167 rfl ?_
      refine fk_istore_n X [(2, tI 5), (1, tR y0), (0, tR x0)] dX3_line_168 rfl rfl ?_
      simp only [if_neg hc17] at J16
      exact fk_cut' J16 [0, 2] rfl
  rw [if_neg hs18] at hf
  refine fk_lookup (off := 139) X 169 dX3_line_30 (by decide) (by show Op.lookupswitch.offset [(-840227282, 114), (-566947566, 86), (3079315, 100), (3433178, 72), (3440742, 58), (99151926, 128)] 139 _ = _; rw [lv_osw hs3 (show ((-840227282) : Int32).toInt = (-840227282) from by decide +kernel), lv_osw hs6 (show ((-566947566) : Int32).toInt = (-566947566) from by decide +kernel), lv_osw hs9 (show (3079315 : Int32).toInt = 3079315 from by decide +kernel), lv_osw hs12 (show (3433178 : Int32).toInt = 3433178 from by decide +kernel), lv_osw hs15 (show (3440742 : Int32).toInt = 3440742 from by decide +kernel), lv_osw hs18 (show (99151926 : Int32).toInt = 99151926 from by decide +kernel)]; rfl) rfl ?_
  have hn : n0 ≤ n1 := by omega
  have hk : k0 ≤ k1 := by omega
  exact fk_cut' (w_X3_line_J169 X Y x0 (-1) n1 k1 hn hk m3 hf) [2, 0] rfl
def f_X3_line (g : Nat → Nat) (a0 : Option Nat) (n1 k1 : Nat) (m0 : fk_M) : Option (Nat × Nat × fk_M) :=
  (gR m0 a0 2 2).bind fun z1 => (gI m0 z1 5 0).bind fun z2 => if z2 = 2 then ((gR m0 a0 2 2).bind fun z3 => (gR m0 z3 5 3).bind fun z4 => f_X3_line_J23 g a0 z4 n1 k1 m0) else (f_X3_line_J23 g a0 (some (g 1)) n1 k1 m0)
theorem mo_X3_line (g : Nat → Nat) (a0 : Option Nat) (n1 k1 : Nat) (m0 : fk_M) : Mo3 n1 k1 (f_X3_line g a0 n1 k1 m0) := by
  unfold f_X3_line
  exact Mo3.bind (fun z1 => Mo3.bind (fun z2 => Mo3.ite (Mo3.bind (fun z3 => Mo3.bind (fun z4 => (mo_X3_line_J23 g a0 z4 n1 k1 m0)))) ((mo_X3_line_J23 g a0 (some (g 1)) n1 k1 m0))))
set_option maxHeartbeats 4000000 in
theorem c_X3_line {l : Launch} {G : fk_G} {b0 : Nat} {n1 k1 nF kF : Nat} {a0 : Option Nat} {m0 : fk_M} {mF : fk_M} (hf : f_X3_line G.2.2 a0 n1 k1 m0 = some (nF, kF, mF)) : fk_Ct l G b0 yX3_line cX3_line 3 none 12 303 [tR a0] n1 m0 none nF mF (nF - n1) (kF - k1) := by
  refine fk_enter n_X3_line.1 rfl ?_
  intro E X0 Y
  have X : fk_X E l G b0 "FigureKnee$Reader" "line" cX3_line 3 12 303 (nF - n1) (kF - k1) := X0
  show fk_W E 3 n1 m0 0 0 0 [(0, tR a0)] []
  refine fk_widen (cs2 := n1 - n1) (sl2 := k1 - k1) (Nat.zero_le _) (Nat.zero_le _) ?_
  unfold f_X3_line at hf
  have h01 : n1 ≤ n1 := Nat.le_refl _
  have h02 : k1 ≤ k1 := Nat.le_refl _
  refine fk_aload_n X 0 dX3_line_0 rfl ?_
  refine fk_getR' X fd_2_2 q562 dX3_line_1 hf (fun z1 hf => ?_)
  refine fk_getI' X fd_5_0 q354 dX3_line_4 hf (fun z2 hf => ?_)
  refine fk_iconst (v := 2) X dX3_line_7 rfl ?_
  refine fk_icmp_ne' X 21 dX3_line_8 rfl hf (fun hf => ?_) (fun hf => ?_)
  · refine fk_ldcS (i := 1) X rfl dX3_line_21 ?_
    have hn : n1 ≤ n1 := by omega
    have hk : k1 ≤ k1 := by omega
    exact fk_cut' (w_X3_line_J23 X Y a0 (some (G.2.2 1)) n1 k1 hn hk m0 hf) [0] rfl
  · refine fk_aload_n X 0 dX3_line_11 rfl ?_
    refine fk_getR' X fd_2_2 q562 dX3_line_12 hf (fun z3 hf => ?_)
    refine fk_getR' X fd_5_3 q360 dX3_line_15 hf (fun z4 hf => ?_)
    refine fk_goto X 23 dX3_line_18 rfl ?_
    have hn : n1 ≤ n1 := by omega
    have hk : k1 ≤ k1 := by omega
    exact fk_cut' (w_X3_line_J23 X Y a0 z4 n1 k1 hn hk m0 hf) [0] rfl
/-! FigureKnee$Reader eatsSemicolon ()Z -/
theorem n_X3_eatsSemicolon : fk_N yX3_eatsSemicolon 0 := ⟨by decide +kernel, by decide +kernel, by decide +kernel, by decide +kernel⟩
def f_X3_eatsSemicolon (g : Nat → Nat) (a0 : Option Nat) (n1 k1 : Nat) (m0 : fk_M) : Option (Int32 × Nat × Nat × fk_M) :=
  (isO m0 a0 2).bind fun u1 => (f_X3_isOver a0 m0).bind fun z2 => if z2 = 0 then ((gR m0 a0 2 2).bind fun z3 => (gI m0 z3 5 0).bind fun z4 => if z4 = 4 then ((isO m0 a0 2).bind fun u5 => bn3 (f_X3_on g a0 n1 k1 m0) fun n7 k8 m6 => some (1, n7, k8, m6)) else (some (0, n1, k1, m0))) else (some (0, n1, k1, m0))
theorem mo_X3_eatsSemicolon (g : Nat → Nat) (a0 : Option Nat) (n1 k1 : Nat) (m0 : fk_M) : Mo4 n1 k1 (f_X3_eatsSemicolon g a0 n1 k1 m0) := by
  unfold f_X3_eatsSemicolon
  exact Mo4.bind (fun u1 => Mo4.bind (fun z2 => Mo4.ite (Mo4.bind (fun z3 => Mo4.bind (fun z4 => Mo4.ite (Mo4.bind (fun u5 => Mo4.bn3 (mo_X3_on g a0 n1 k1 m0) (fun n7 k8 m6 => Mo4.ok (by omega) (by omega)))) (Mo4.ok (by omega) (by omega))))) (Mo4.ok (by omega) (by omega))))
set_option maxHeartbeats 4000000 in
theorem c_X3_eatsSemicolon {l : Launch} {G : fk_G} {b0 : Nat} {n1 k1 nF kF : Nat} {a0 : Option Nat} {m0 : fk_M} {r : Int32} {mF : fk_M} (hf : f_X3_eatsSemicolon G.2.2 a0 n1 k1 m0 = some (r, nF, kF, mF)) : fk_Ct l G b0 yX3_eatsSemicolon cX3_eatsSemicolon 1 (some .boolean) 9 234 [tR a0] n1 m0 (some (tI r)) nF mF (nF - n1) (kF - k1) := by
  refine fk_enter n_X3_eatsSemicolon.1 rfl ?_
  intro E X0 Y
  have X : fk_X E l G b0 "FigureKnee$Reader" "eatsSemicolon" cX3_eatsSemicolon 1 9 234 (nF - n1) (kF - k1) := X0
  show fk_W E 1 n1 m0 0 0 0 [(0, tR a0)] []
  refine fk_widen (cs2 := n1 - n1) (sl2 := k1 - k1) (Nat.zero_le _) (Nat.zero_le _) ?_
  unfold f_X3_eatsSemicolon at hf
  have h01 : n1 ≤ n1 := Nat.le_refl _
  have h02 : k1 ≤ k1 := Nat.le_refl _
  refine fk_aload_n X 0 dX3_eatsSemicolon_0 rfl ?_
  obtain ⟨u1, hq, hf⟩ := bI hf
  obtain ⟨z2, hv, hf⟩ := bI hf
  have hm : n1 ≤ nF ∧ k1 ≤ kF := Mo4.use hf (Mo4.ite (Mo4.bind (fun z3 => Mo4.bind (fun z4 => Mo4.ite (Mo4.bind (fun u5 => Mo4.bn3 (mo_X3_on G.2.2 a0 n1 k1 m0) (fun n7 k8 m6 => Mo4.ok (by omega) (by omega)))) (Mo4.ok (by omega) (by omega))))) (Mo4.ok (by omega) (by omega)))
  refine fk_callV0I (ci := 2) (rest := []) X hq rfl (c_X3_isOver hv) n_X3_isOver q662 q664 qs5 q127 q665 rfl dX3_eatsSemicolon_1 rfl rfl rfl rfl rfl (by omega) (by omega) ?_
  refine fk_if_ne' X 18 dX3_eatsSemicolon_4 rfl hf (fun hf => ?_) (fun hf => ?_)
  · refine fk_iconst (v := 0) X dX3_eatsSemicolon_18 rfl ?_
    cases hf
    exact fk_ireturn X Y dX3_eatsSemicolon_19 (by decide +kernel)
  · refine fk_aload_n X 0 dX3_eatsSemicolon_7 rfl ?_
    refine fk_getR' X fd_2_2 q562 dX3_eatsSemicolon_8 hf (fun z3 hf => ?_)
    refine fk_getI' X fd_5_0 q354 dX3_eatsSemicolon_11 hf (fun z4 hf => ?_)
    refine fk_iconst (v := 4) X dX3_eatsSemicolon_14 rfl ?_
    refine fk_icmp_eq' X 20 dX3_eatsSemicolon_15 rfl hf (fun hf => ?_) (fun hf => ?_)
    · refine fk_aload_n X 0 dX3_eatsSemicolon_20 rfl ?_
      obtain ⟨u5, hq, hf⟩ := bI hf
      obtain ⟨n7, k8, m6, hv, hf⟩ := bn3_eq hf
      have hmc := mo_X3_on G.2.2 a0 n1 k1 m0 _ _ _ hv
      have hm : n7 ≤ nF ∧ k8 ≤ kF := Mo4.use hf (Mo4.ok (by omega) (by omega))
      refine fk_callV1V (ci := 2) (rest := []) (cs2 := n7 - n1) (sl2 := k8 - k1) X hq rfl (c_X3_on hv) n_X3_on q666 q668 qs6 q127 q669 rfl dX3_eatsSemicolon_21 rfl rfl rfl rfl rfl (by omega) (by omega) (by omega) (by omega) ?_
      refine fk_iconst (v := 1) X dX3_eatsSemicolon_24 rfl ?_
      cases hf
      exact fk_ireturn X Y dX3_eatsSemicolon_25 (by decide +kernel)
    · refine fk_iconst (v := 0) X dX3_eatsSemicolon_18 rfl ?_
      cases hf
      exact fk_ireturn X Y dX3_eatsSemicolon_19 (by decide +kernel)
/-! FigureKnee$Reader read ()LFigureKnee$Pier; -/
theorem n_X3_read : fk_N yX3_read 0 := ⟨by decide +kernel, by decide +kernel, by decide +kernel, by decide +kernel⟩
def f_X3_read_J57 (g : Nat → Nat) (x0 : Option Nat) (n1 k1 : Nat) (m0 : fk_M) : Option ((Option Nat) × Nat × Nat × fk_M) :=
  (isO m0 x0 2).bind fun u1 => (f_X3_isOver x0 m0).bind fun z2 => if z2 = 0 then ((gR m0 x0 2 1).bind fun z3 => some (z3, n1, k1, m0)) else (some (none, n1, k1, m0))
theorem mo_X3_read_J57 (g : Nat → Nat) (x0 : Option Nat) (n1 k1 : Nat) (m0 : fk_M) : Mo4 n1 k1 (f_X3_read_J57 g x0 n1 k1 m0) := by
  unfold f_X3_read_J57
  exact Mo4.bind (fun u1 => Mo4.bind (fun z2 => Mo4.ite (Mo4.bind (fun z3 => Mo4.ok (by omega) (by omega))) (Mo4.ok (by omega) (by omega))))
set_option maxHeartbeats 4000000 in
theorem w_X3_read_J57 {E : fk_E} {l : Launch} {G : fk_G} {b0 n0 k0 nF kF : Nat} {r : Option Nat} {mF : fk_M} (X : fk_X E l G b0 "FigureKnee$Reader" "read" cX3_read 1 13 325 (nF - n0) (kF - k0)) (Y : fk_Y E (some (.object "FigureKnee$Pier")) (some (tR r)) nF mF (nF - n0) (kF - k0)) (x0 : Option Nat)  (n1 k1 : Nat) (hn1 : n0 ≤ n1) (hk1 : k0 ≤ k1) (m0 : fk_M) (hf : f_X3_read_J57 G.2.2 x0 n1 k1 m0 = some (r, nF, kF, mF)) : fk_W E 1 n1 m0 (n1 - n0) (k1 - k0) 57 [(0, tR x0)] [] := by
  unfold f_X3_read_J57 at hf
  refine fk_aload_n X 0 dX3_read_57 rfl ?_
  obtain ⟨u1, hq, hf⟩ := bI hf
  obtain ⟨z2, hv, hf⟩ := bI hf
  have hm : n1 ≤ nF ∧ k1 ≤ kF := Mo4.use hf (Mo4.ite (Mo4.bind (fun z3 => Mo4.ok (by omega) (by omega))) (Mo4.ok (by omega) (by omega)))
  refine fk_callV0I (ci := 2) (rest := []) X hq rfl (c_X3_isOver hv) n_X3_isOver q662 q664 qs5 q127 q665 rfl dX3_read_58 rfl rfl rfl rfl rfl (by omega) (by omega) ?_
  refine fk_if_eq' X 68 dX3_read_61 rfl hf (fun hf => ?_) (fun hf => ?_)
  · refine fk_aload_n X 0 dX3_read_68 rfl ?_
    refine fk_getR' X fd_2_1 q561 dX3_read_69 hf (fun z3 hf => ?_)
    cases hf
    exact fk_areturn X Y dX3_read_72 (by first | exact Or.inl ⟨_, rfl⟩ | exact Or.inr ⟨_, rfl⟩)
  · refine fk_null X dX3_read_64 ?_
    refine fk_goto X 72 dX3_read_65 rfl ?_
    cases hf
    exact fk_areturn X Y dX3_read_72 (by first | exact Or.inl ⟨_, rfl⟩ | exact Or.inr ⟨_, rfl⟩)
def f_X3_read_J51 (g : Nat → Nat) (x0 : Option Nat) (n1 k1 : Nat) (m0 : fk_M) : Option ((Option Nat) × Nat × Nat × fk_M) :=
  (isO m0 x0 2).bind fun u1 => (f_X3_wrong x0 6 m0).bind fun m2 => f_X3_read_J57 g x0 n1 k1 m2
theorem mo_X3_read_J51 (g : Nat → Nat) (x0 : Option Nat) (n1 k1 : Nat) (m0 : fk_M) : Mo4 n1 k1 (f_X3_read_J51 g x0 n1 k1 m0) := by
  unfold f_X3_read_J51
  exact Mo4.bind (fun u1 => Mo4.bind (fun m2 => (mo_X3_read_J57 g x0 n1 k1 m2)))
set_option maxHeartbeats 4000000 in
theorem w_X3_read_J51 {E : fk_E} {l : Launch} {G : fk_G} {b0 n0 k0 nF kF : Nat} {r : Option Nat} {mF : fk_M} (X : fk_X E l G b0 "FigureKnee$Reader" "read" cX3_read 1 13 325 (nF - n0) (kF - k0)) (Y : fk_Y E (some (.object "FigureKnee$Pier")) (some (tR r)) nF mF (nF - n0) (kF - k0)) (x0 : Option Nat)  (n1 k1 : Nat) (hn1 : n0 ≤ n1) (hk1 : k0 ≤ k1) (m0 : fk_M) (hf : f_X3_read_J51 G.2.2 x0 n1 k1 m0 = some (r, nF, kF, mF)) : fk_W E 1 n1 m0 (n1 - n0) (k1 - k0) 51 [(0, tR x0)] [] := by
  unfold f_X3_read_J51 at hf
  refine fk_aload_n X 0 dX3_read_51 rfl ?_
  refine fk_bipush (v := 6) X dX3_read_52 rfl ?_
  obtain ⟨u1, hq, hf⟩ := bI hf
  obtain ⟨m2, hv, hf⟩ := bI hf
  have hm : n1 ≤ nF ∧ k1 ≤ kF := Mo4.use hf ((mo_X3_read_J57 G.2.2 x0 n1 k1 m2))
  refine fk_callV0V (ci := 2) (rest := []) X hq rfl (c_X3_wrong hv) n_X3_wrong q658 q660 qs4 q127 q661 rfl dX3_read_54 rfl rfl rfl rfl rfl (by omega) (by omega) ?_
  have hn : n0 ≤ n1 := by omega
  have hk : k0 ≤ k1 := by omega
  exact fk_cut' (w_X3_read_J57 X Y x0 n1 k1 hn hk m2 hf) [0] rfl
def f_X3_read_J27 (g : Nat → Nat) (x0 : Option Nat) (n1 k1 : Nat) (m0 : fk_M) : Option ((Option Nat) × Nat × Nat × fk_M) :=
  (gR m0 x0 2 1).bind fun z1 => (gI m0 z1 4 0).bind fun z2 => if z2 = (-1) then (f_X3_read_J51 g x0 n1 k1 m0) else ((gR m0 x0 2 1).bind fun z3 => (gR m0 z3 4 4).bind fun z4 => (isO m0 z4 14).bind fun u5 => (f_J2_isEmpty z4 m0).bind fun z6 => if z6 = 0 then (f_X3_read_J57 g x0 n1 k1 m0) else (f_X3_read_J51 g x0 n1 k1 m0))
theorem mo_X3_read_J27 (g : Nat → Nat) (x0 : Option Nat) (n1 k1 : Nat) (m0 : fk_M) : Mo4 n1 k1 (f_X3_read_J27 g x0 n1 k1 m0) := by
  unfold f_X3_read_J27
  exact Mo4.bind (fun z1 => Mo4.bind (fun z2 => Mo4.ite ((mo_X3_read_J51 g x0 n1 k1 m0)) (Mo4.bind (fun z3 => Mo4.bind (fun z4 => Mo4.bind (fun u5 => Mo4.bind (fun z6 => Mo4.ite ((mo_X3_read_J57 g x0 n1 k1 m0)) ((mo_X3_read_J51 g x0 n1 k1 m0)))))))))
set_option maxHeartbeats 4000000 in
theorem w_X3_read_J27 {E : fk_E} {l : Launch} {G : fk_G} {b0 n0 k0 nF kF : Nat} {r : Option Nat} {mF : fk_M} (X : fk_X E l G b0 "FigureKnee$Reader" "read" cX3_read 1 13 325 (nF - n0) (kF - k0)) (Y : fk_Y E (some (.object "FigureKnee$Pier")) (some (tR r)) nF mF (nF - n0) (kF - k0)) (x0 : Option Nat)  (n1 k1 : Nat) (hn1 : n0 ≤ n1) (hk1 : k0 ≤ k1) (m0 : fk_M) (hf : f_X3_read_J27 G.2.2 x0 n1 k1 m0 = some (r, nF, kF, mF)) : fk_W E 1 n1 m0 (n1 - n0) (k1 - k0) 27 [(0, tR x0)] [] := by
  unfold f_X3_read_J27 at hf
  refine fk_aload_n X 0 dX3_read_27 rfl ?_
  refine fk_getR' X fd_2_1 q561 dX3_read_28 hf (fun z1 hf => ?_)
  refine fk_getI' X fd_4_0 q299 dX3_read_31 hf (fun z2 hf => ?_)
  refine fk_iconst (v := (-1)) X dX3_read_34 rfl ?_
  refine fk_icmp_eq' X 51 dX3_read_35 rfl hf (fun hf => ?_) (fun hf => ?_)
  · have hn : n0 ≤ n1 := by omega
    have hk : k0 ≤ k1 := by omega
    exact fk_cut' (w_X3_read_J51 X Y x0 n1 k1 hn hk m0 hf) [0] rfl
  · refine fk_aload_n X 0 dX3_read_38 rfl ?_
    refine fk_getR' X fd_2_1 q561 dX3_read_39 hf (fun z3 hf => ?_)
    refine fk_getR' X fd_4_4 q309 dX3_read_42 hf (fun z4 hf => ?_)
    obtain ⟨u5, hq, hf⟩ := bI hf
    obtain ⟨z6, hv, hf⟩ := bI hf
    have hm : n1 ≤ nF ∧ k1 ≤ kF := Mo4.use hf (Mo4.ite ((mo_X3_read_J57 G.2.2 x0 n1 k1 m0)) ((mo_X3_read_J51 G.2.2 x0 n1 k1 m0)))
    refine fk_callV0I (ci := 14) (rest := []) X hq rfl (c_J2_isEmpty hv) n_J2_isEmpty q954 q955 q956 q125 q957 rfl dX3_read_45 rfl rfl rfl rfl rfl (by omega) (by omega) ?_
    refine fk_if_eq' X 57 dX3_read_48 rfl hf (fun hf => ?_) (fun hf => ?_)
    · have hn : n0 ≤ n1 := by omega
      have hk : k0 ≤ k1 := by omega
      exact fk_cut' (w_X3_read_J57 X Y x0 n1 k1 hn hk m0 hf) [0] rfl
    · have hn : n0 ≤ n1 := by omega
      have hk : k0 ≤ k1 := by omega
      exact fk_cut' (w_X3_read_J51 X Y x0 n1 k1 hn hk m0 hf) [0] rfl
def f_X3_read_L0 (g : Nat → Nat) (x0 : Option Nat) : Nat → Nat → Nat → fk_M → Option ((Option Nat) × Nat × Nat × fk_M)
  | 0, _, _, _ => none
  | N + 1, n1, k1, m0 =>
  (isO m0 x0 2).bind fun u1 => bn3 (f_X3_line g x0 n1 k1 m0) fun n3 k4 m2 => (isO m2 x0 2).bind fun u5 => bn4 (f_X3_eatsSemicolon g x0 n3 k4 m2) fun z6 n8 k9 m7 => if z6 = 0 then ((gR m7 x0 2 2).bind fun z10 => (gI m7 z10 5 0).bind fun z11 => if z11 = 1 then (f_X3_read_J27 g x0 n8 k9 m7) else ((isO m7 x0 2).bind fun u12 => (f_X3_wrong x0 1 m7).bind fun m13 => f_X3_read_J27 g x0 n8 k9 m13)) else (f_X3_read_L0 g x0 N n8 k9 m7)
theorem mo_X3_read_L0 (g : Nat → Nat) (x0 : Option Nat) : ∀ (N : Nat)  (n1 k1 : Nat) (m0 : fk_M), Mo4 n1 k1 (f_X3_read_L0 g x0 N n1 k1 m0) := by
  intro N
  induction N with
  | zero => intro n1 k1 m0; exact Mo4.no
  | succ N ih =>
    intro n1 k1 m0
    rw [f_X3_read_L0]
    exact Mo4.bind (fun u1 => Mo4.bn3 (mo_X3_line g x0 n1 k1 m0) (fun n3 k4 m2 => Mo4.bind (fun u5 => Mo4.bn4 (mo_X3_eatsSemicolon g x0 n3 k4 m2) (fun z6 n8 k9 m7 => Mo4.ite (Mo4.bind (fun z10 => Mo4.bind (fun z11 => Mo4.ite ((mo_X3_read_J27 g x0 n8 k9 m7)) (Mo4.bind (fun u12 => Mo4.bind (fun m13 => (mo_X3_read_J27 g x0 n8 k9 m13))))))) ((ih n8 k9 m7))))))
set_option maxHeartbeats 4000000 in
theorem w_X3_read_L0 {E : fk_E} {l : Launch} {G : fk_G} {b0 n0 k0 nF kF : Nat} {r : Option Nat} {mF : fk_M} (X : fk_X E l G b0 "FigureKnee$Reader" "read" cX3_read 1 13 325 (nF - n0) (kF - k0)) (Y : fk_Y E (some (.object "FigureKnee$Pier")) (some (tR r)) nF mF (nF - n0) (kF - k0)) (x0 : Option Nat) : ∀ (N : Nat)  (n1 k1 : Nat) (m0 : fk_M), n0 ≤ n1 → k0 ≤ k1 → f_X3_read_L0 G.2.2 x0 N n1 k1 m0 = some (r, nF, kF, mF) → fk_W E 1 n1 m0 (n1 - n0) (k1 - k0) 0 [(0, tR x0)] [] := by
  intro N
  induction N with
  | zero =>
    intro n1 k1 m0 hn1 hk1 hf
    have hf : (none : Option ((Option Nat) × Nat × Nat × fk_M)) = some _ := hf
    cases hf
  | succ N ih =>
    intro n1 k1 m0 hn1 hk1 hf
    rw [f_X3_read_L0] at hf
    refine fk_aload_n X 0 dX3_read_0 rfl ?_
    obtain ⟨u1, hq, hf⟩ := bI hf
    obtain ⟨n3, k4, m2, hv, hf⟩ := bn3_eq hf
    have hmc := mo_X3_line G.2.2 x0 n1 k1 m0 _ _ _ hv
    have hm : n3 ≤ nF ∧ k4 ≤ kF := Mo4.use hf (Mo4.bind (fun u5 => Mo4.bn4 (mo_X3_eatsSemicolon G.2.2 x0 n3 k4 m2) (fun z6 n8 k9 m7 => Mo4.ite (Mo4.bind (fun z10 => Mo4.bind (fun z11 => Mo4.ite ((mo_X3_read_J27 G.2.2 x0 n8 k9 m7)) (Mo4.bind (fun u12 => Mo4.bind (fun m13 => (mo_X3_read_J27 G.2.2 x0 n8 k9 m13))))))) (((mo_X3_read_L0 G.2.2 x0 N) n8 k9 m7)))))
    refine fk_callV1V (ci := 2) (rest := []) (cs2 := n3 - n0) (sl2 := k4 - k0) X hq rfl (c_X3_line hv) n_X3_line q582 q584 qs2 q127 q585 rfl dX3_read_1 rfl rfl rfl rfl rfl (by omega) (by omega) (by omega) (by omega) ?_
    refine fk_aload_n X 0 dX3_read_4 rfl ?_
    obtain ⟨u5, hq, hf⟩ := bI hf
    obtain ⟨z6, n8, k9, m7, hv, hf⟩ := bn4_eq hf
    have hmc := mo_X3_eatsSemicolon G.2.2 x0 n3 k4 m2 _ _ _ _ hv
    have hm : n8 ≤ nF ∧ k9 ≤ kF := Mo4.use hf (Mo4.ite (Mo4.bind (fun z10 => Mo4.bind (fun z11 => Mo4.ite ((mo_X3_read_J27 G.2.2 x0 n8 k9 m7)) (Mo4.bind (fun u12 => Mo4.bind (fun m13 => (mo_X3_read_J27 G.2.2 x0 n8 k9 m13))))))) (((mo_X3_read_L0 G.2.2 x0 N) n8 k9 m7)))
    refine fk_callV1I (ci := 2) (rest := []) (cs2 := n8 - n0) (sl2 := k9 - k0) X hq rfl (c_X3_eatsSemicolon hv) n_X3_eatsSemicolon q950 q952 qs23 q127 q953 rfl dX3_read_5 rfl rfl rfl rfl rfl (by omega) (by omega) (by omega) (by omega) ?_
    refine fk_if_ne' X 0 dX3_read_8 rfl hf (fun hf => ?_) (fun hf => ?_)
    · have hn : n0 ≤ n8 := by omega
      have hk : k0 ≤ k9 := by omega
      exact fk_cut' (ih n8 k9 m7 hn hk hf) [0] rfl
    · refine fk_aload_n X 0 dX3_read_11 rfl ?_
      refine fk_getR' X fd_2_2 q562 dX3_read_12 hf (fun z10 hf => ?_)
      refine fk_getI' X fd_5_0 q354 dX3_read_15 hf (fun z11 hf => ?_)
      refine fk_iconst (v := 1) X dX3_read_18 rfl ?_
      refine fk_icmp_eq' X 27 dX3_read_19 rfl hf (fun hf => ?_) (fun hf => ?_)
      · have hn : n0 ≤ n8 := by omega
        have hk : k0 ≤ k9 := by omega
        exact fk_cut' (w_X3_read_J27 X Y x0 n8 k9 hn hk m7 hf) [0] rfl
      · refine fk_aload_n X 0 dX3_read_22 rfl ?_
        refine fk_iconst (v := 1) X dX3_read_23 rfl ?_
        obtain ⟨u12, hq, hf⟩ := bI hf
        obtain ⟨m13, hv, hf⟩ := bI hf
        have hm : n8 ≤ nF ∧ k9 ≤ kF := Mo4.use hf ((mo_X3_read_J27 G.2.2 x0 n8 k9 m13))
        refine fk_callV0V (ci := 2) (rest := []) X hq rfl (c_X3_wrong hv) n_X3_wrong q658 q660 qs4 q127 q661 rfl dX3_read_24 rfl rfl rfl rfl rfl (by omega) (by omega) ?_
        have hn : n0 ≤ n8 := by omega
        have hk : k0 ≤ k9 := by omega
        exact fk_cut' (w_X3_read_J27 X Y x0 n8 k9 hn hk m13 hf) [0] rfl
def f_X3_read (g : Nat → Nat) (a0 : Option Nat) (n1 k1 : Nat) (m0 : fk_M) : Option ((Option Nat) × Nat × Nat × fk_M) :=
  f_X3_read_L0 g a0 fk_fuel n1 k1 m0
theorem mo_X3_read (g : Nat → Nat) (a0 : Option Nat) (n1 k1 : Nat) (m0 : fk_M) : Mo4 n1 k1 (f_X3_read g a0 n1 k1 m0) := by
  unfold f_X3_read
  exact (mo_X3_read_L0 g a0 fk_fuel n1 k1 m0)
set_option maxHeartbeats 4000000 in
theorem c_X3_read {l : Launch} {G : fk_G} {b0 : Nat} {n1 k1 nF kF : Nat} {a0 : Option Nat} {m0 : fk_M} {r : Option Nat} {mF : fk_M} (hf : f_X3_read G.2.2 a0 n1 k1 m0 = some (r, nF, kF, mF)) : fk_Ct l G b0 yX3_read cX3_read 1 (some (.object "FigureKnee$Pier")) 13 325 [tR a0] n1 m0 (some (tR r)) nF mF (nF - n1) (kF - k1) := by
  refine fk_enter n_X3_read.1 rfl ?_
  intro E X0 Y
  have X : fk_X E l G b0 "FigureKnee$Reader" "read" cX3_read 1 13 325 (nF - n1) (kF - k1) := X0
  show fk_W E 1 n1 m0 0 0 0 [(0, tR a0)] []
  refine fk_widen (cs2 := n1 - n1) (sl2 := k1 - k1) (Nat.zero_le _) (Nat.zero_le _) ?_
  unfold f_X3_read at hf
  have h01 : n1 ≤ n1 := Nat.le_refl _
  have h02 : k1 ≤ k1 := Nat.le_refl _
  have hn : n1 ≤ n1 := by omega
  have hk : k1 ≤ k1 := by omega
  exact fk_cut' (w_X3_read_L0 X Y a0 fk_fuel n1 k1 m0 hn hk hf) [0] rfl
/-! FigureKnee$Stage <init> (LFigureKnee$Pier;)V -/
theorem n_X15_init : fk_N yX15_init 1 := ⟨by decide +kernel, by decide +kernel, by decide +kernel, by decide +kernel⟩
def f_X15_init (a0 : Option Nat) (a1 : Option Nat) (n1 k1 : Nat) (m0 : fk_M) : Option (Nat × Nat × fk_M) :=
  (isS a0).bind fun _ => (nA n1 m0 1 5).bind fun m1 => (pV m1 a0 13 1 (tR (some n1))).bind fun m2 => (nA (n1 + 1) m2 1 5).bind fun m3 => (pV m3 a0 13 2 (tR (some (n1 + 1)))).bind fun m4 => (nA ((n1 + 1) + 1) m4 2 25).bind fun m5 => (pV m5 a0 13 3 (tR (some ((n1 + 1) + 1)))).bind fun m6 => (pV m6 a0 13 0 (tR a1)).bind fun m7 => some ((((n1 + 1) + 1) + 1), (((k1 + (Int32.toNatClampNeg 5)) + (Int32.toNatClampNeg 5)) + (Int32.toNatClampNeg 25)), m7)
theorem mo_X15_init (a0 : Option Nat) (a1 : Option Nat) (n1 k1 : Nat) (m0 : fk_M) : Mo3 n1 k1 (f_X15_init a0 a1 n1 k1 m0) := by
  unfold f_X15_init
  exact Mo3.bind (fun _ => Mo3.bind (fun m1 => Mo3.le (n1 := (n1 + 1)) (k1 := (k1 + (Int32.toNatClampNeg 5))) (Mo3.bind (fun m2 => Mo3.bind (fun m3 => Mo3.le (n1 := ((n1 + 1) + 1)) (k1 := ((k1 + (Int32.toNatClampNeg 5)) + (Int32.toNatClampNeg 5))) (Mo3.bind (fun m4 => Mo3.bind (fun m5 => Mo3.le (n1 := (((n1 + 1) + 1) + 1)) (k1 := (((k1 + (Int32.toNatClampNeg 5)) + (Int32.toNatClampNeg 5)) + (Int32.toNatClampNeg 25))) (Mo3.bind (fun m6 => Mo3.bind (fun m7 => Mo3.ok (by omega) (by omega)))) (by omega) (by omega)))) (by omega) (by omega)))) (by omega) (by omega)))
set_option maxHeartbeats 4000000 in
theorem c_X15_init {l : Launch} {G : fk_G} {b0 : Nat} {n1 k1 nF kF : Nat} {a0 : Option Nat} {a1 : Option Nat} {m0 : fk_M} {mF : fk_M} (hf : f_X15_init a0 a1 n1 k1 m0 = some (nF, kF, mF)) : fk_Ct l G b0 yX15_init cX15_init 2 none 1 60 [tR a0, tR a1] n1 m0 none nF mF (nF - n1) (kF - k1) := by
  refine fk_enter n_X15_init.1 rfl ?_
  intro E X0 Y
  have X : fk_X E l G b0 "FigureKnee$Stage" "<init>" cX15_init 2 1 60 (nF - n1) (kF - k1) := X0
  show fk_W E 2 n1 m0 0 0 0 [(0, tR a0), (1, tR a1)] []
  refine fk_widen (cs2 := n1 - n1) (sl2 := k1 - k1) (Nat.zero_le _) (Nat.zero_le _) ?_
  unfold f_X15_init at hf
  have h01 : n1 ≤ n1 := Nat.le_refl _
  have h02 : k1 ≤ k1 := Nat.le_refl _
  refine fk_aload_n X 0 dX15_init_0 rfl ?_
  refine fk_objInit' X q963 q161 q162 dX15_init_1 rfl rfl hf (fun hf => ?_)
  refine fk_aload_n X 0 dX15_init_4 rfl ?_
  refine fk_iconst (v := 5) X dX15_init_5 rfl ?_
  obtain ⟨m1, hv, hf⟩ := bI hf
  have hm : (n1 + 1) ≤ nF ∧ (k1 + (Int32.toNatClampNeg 5)) ≤ kF := Mo3.use hf (Mo3.bind (fun m2 => Mo3.bind (fun m3 => Mo3.le (n1 := ((n1 + 1) + 1)) (k1 := ((k1 + (Int32.toNatClampNeg 5)) + (Int32.toNatClampNeg 5))) (Mo3.bind (fun m4 => Mo3.bind (fun m5 => Mo3.le (n1 := (((n1 + 1) + 1) + 1)) (k1 := (((k1 + (Int32.toNatClampNeg 5)) + (Int32.toNatClampNeg 5)) + (Int32.toNatClampNeg 25))) (Mo3.bind (fun m6 => Mo3.bind (fun m7 => Mo3.ok (by omega) (by omega)))) (by omega) (by omega)))) (by omega) (by omega))))
  refine fk_newI 1 (by decide) (cs2 := (n1 + 1) - n1) (sl2 := (k1 + (Int32.toNatClampNeg 5)) - k1) X q189 dX15_init_6 hv (by omega) (by omega) (by omega) (by omega) ?_
  refine fk_putFR' X fd_13_1 q965 dX15_init_8 (fit_A _) hf (fun m2 hf => ?_)
  refine fk_aload_n X 0 dX15_init_11 rfl ?_
  refine fk_iconst (v := 5) X dX15_init_12 rfl ?_
  obtain ⟨m3, hv, hf⟩ := bI hf
  have hm : ((n1 + 1) + 1) ≤ nF ∧ ((k1 + (Int32.toNatClampNeg 5)) + (Int32.toNatClampNeg 5)) ≤ kF := Mo3.use hf (Mo3.bind (fun m4 => Mo3.bind (fun m5 => Mo3.le (n1 := (((n1 + 1) + 1) + 1)) (k1 := (((k1 + (Int32.toNatClampNeg 5)) + (Int32.toNatClampNeg 5)) + (Int32.toNatClampNeg 25))) (Mo3.bind (fun m6 => Mo3.bind (fun m7 => Mo3.ok (by omega) (by omega)))) (by omega) (by omega))))
  refine fk_newI 1 (by decide) (cs2 := ((n1 + 1) + 1) - n1) (sl2 := ((k1 + (Int32.toNatClampNeg 5)) + (Int32.toNatClampNeg 5)) - k1) X q189 dX15_init_13 hv (by omega) (by omega) (by omega) (by omega) ?_
  refine fk_putFR' X fd_13_2 q967 dX15_init_15 (fit_A _) hf (fun m4 hf => ?_)
  refine fk_aload_n X 0 dX15_init_18 rfl ?_
  refine fk_bipush (v := 25) X dX15_init_19 rfl ?_
  obtain ⟨m5, hv, hf⟩ := bI hf
  have hm : (((n1 + 1) + 1) + 1) ≤ nF ∧ (((k1 + (Int32.toNatClampNeg 5)) + (Int32.toNatClampNeg 5)) + (Int32.toNatClampNeg 25)) ≤ kF := Mo3.use hf (Mo3.bind (fun m6 => Mo3.bind (fun m7 => Mo3.ok (by omega) (by omega))))
  refine fk_newI 2 (by decide) (cs2 := (((n1 + 1) + 1) + 1) - n1) (sl2 := (((k1 + (Int32.toNatClampNeg 5)) + (Int32.toNatClampNeg 5)) + (Int32.toNatClampNeg 25)) - k1) X q251 dX15_init_21 hv (by omega) (by omega) (by omega) (by omega) ?_
  refine fk_putFR' X fd_13_3 q969 dX15_init_23 (fit_A _) hf (fun m6 hf => ?_)
  refine fk_aload_n X 0 dX15_init_26 rfl ?_
  refine fk_aload_n X 1 dX15_init_27 rfl ?_
  refine fk_putFR' X fd_13_0 q964 dX15_init_28 (fit_R _) hf (fun m7 hf => ?_)
  cases hf
  exact fk_return X Y dX15_init_31
/-! FigureKnee$Stage begins ()V -/
theorem n_X15_begins : fk_N yX15_begins 0 := ⟨by decide +kernel, by decide +kernel, by decide +kernel, by decide +kernel⟩
def f_X15_begins_L77 (x0 : Option Nat) : Nat → Int32 → fk_M → Option fk_M
  | 0, _, _ => none
  | N + 1, x1, m0 =>
  (gR m0 x0 13 0).bind fun z1 => (gR m0 z1 4 5).bind fun z2 => (isO m0 z2 14).bind fun u3 => (f_J2_size z2 m0).bind fun z4 => if z4 ≤ x1 then (some m0) else ((gR m0 x0 13 3).bind fun z5 => (gR m0 x0 13 0).bind fun z6 => (gR m0 z6 4 5).bind fun z7 => (isO m0 z7 14).bind fun u8 => (f_J2_get z7 x1 m0).bind fun z9 => (cst m0 z9 11).bind fun _ => (gI m0 z9 11 0).bind fun z10 => (gR m0 x0 13 0).bind fun z11 => (gR m0 z11 4 5).bind fun z12 => (isO m0 z12 14).bind fun u13 => (f_J2_get z12 x1 m0).bind fun z14 => (cst m0 z14 11).bind fun _ => (gI m0 z14 11 1).bind fun z15 => (gR m0 x0 13 0).bind fun z16 => (gR m0 z16 4 5).bind fun z17 => (isO m0 z17 14).bind fun u18 => (f_J2_get z17 x1 m0).bind fun z19 => (cst m0 z19 11).bind fun _ => (gI m0 z19 11 2).bind fun z20 => (sI m0 z5 2 ((5 * z10) + z15) (i_s z20)).bind fun m21 => f_X15_begins_L77 x0 N (x1 + 1) m21)
set_option maxHeartbeats 4000000 in
theorem w_X15_begins_L77 {E : fk_E} {l : Launch} {G : fk_G} {b0 n : Nat} {mF : fk_M} (X : fk_X E l G b0 "FigureKnee$Stage" "begins" cX15_begins 2 4 124 0 0) (Y : fk_Y E none none n mF 0 0) (x0 : Option Nat) : ∀ (N : Nat) (x1 : Int32) (m0 : fk_M), f_X15_begins_L77 x0 N x1 m0 = some mF → fk_W E 2 n m0 0 0 77 [(0, tR x0), (1, tI x1)] [] := by
  intro N
  induction N with
  | zero =>
    intro x1 m0 hf
    have hf : (none : Option fk_M) = some _ := hf
    cases hf
  | succ N ih =>
    intro x1 m0 hf
    rw [f_X15_begins_L77] at hf
    refine fk_iload_n X 1 dX15_begins_77 rfl ?_
    refine fk_aload_n X 0 dX15_begins_78 rfl ?_
    refine fk_getR' X fd_13_0 q964 dX15_begins_79 hf (fun z1 hf => ?_)
    refine fk_getR' X fd_4_5 q312 dX15_begins_82 hf (fun z2 hf => ?_)
    obtain ⟨u3, hq, hf⟩ := bI hf
    obtain ⟨z4, hv, hf⟩ := bI hf
    refine fk_callV0I (ci := 14) (rest := [tI x1]) X hq rfl (c_J2_size hv) n_J2_size q988 q699 q700 q125 q701 rfl dX15_begins_85 rfl rfl rfl rfl rfl (Nat.le_refl _) (Nat.le_refl _) ?_
    refine fk_icmp_ge' X 157 dX15_begins_88 rfl hf (fun hf => ?_) (fun hf => ?_)
    · cases hf
      exact fk_return X Y dX15_begins_157
    · refine fk_aload_n X 0 dX15_begins_91 rfl ?_
      refine fk_getR' X fd_13_3 q969 dX15_begins_92 hf (fun z5 hf => ?_)
      refine fk_iconst (v := 5) X dX15_begins_95 rfl ?_
      refine fk_aload_n X 0 dX15_begins_96 rfl ?_
      refine fk_getR' X fd_13_0 q964 dX15_begins_97 hf (fun z6 hf => ?_)
      refine fk_getR' X fd_4_5 q312 dX15_begins_100 hf (fun z7 hf => ?_)
      refine fk_iload_n X 1 dX15_begins_103 rfl ?_
      obtain ⟨u8, hq, hf⟩ := bI hf
      obtain ⟨z9, hv, hf⟩ := bI hf
      refine fk_callV0R (ci := 14) (rest := [tI 5, tR z5]) X hq rfl (c_J2_get hv) n_J2_get q989 q723 q724 q125 q725 rfl dX15_begins_104 rfl rfl rfl rfl rfl (Nat.le_refl _) (Nat.le_refl _) ?_
      refine fk_cast' (ci := 11) X rfl q991 dX15_begins_107 hf (fun hf => ?_)
      refine fk_getI' X fd_11_0 q901 dX15_begins_110 hf (fun z10 hf => ?_)
      refine fk_imul X dX15_begins_113 ?_
      refine fk_aload_n X 0 dX15_begins_114 rfl ?_
      refine fk_getR' X fd_13_0 q964 dX15_begins_115 hf (fun z11 hf => ?_)
      refine fk_getR' X fd_4_5 q312 dX15_begins_118 hf (fun z12 hf => ?_)
      refine fk_iload_n X 1 dX15_begins_121 rfl ?_
      obtain ⟨u13, hq, hf⟩ := bI hf
      obtain ⟨z14, hv, hf⟩ := bI hf
      refine fk_callV0R (ci := 14) (rest := [tI (5 * z10), tR z5]) X hq rfl (c_J2_get hv) n_J2_get q989 q723 q724 q125 q725 rfl dX15_begins_122 rfl rfl rfl rfl rfl (Nat.le_refl _) (Nat.le_refl _) ?_
      refine fk_cast' (ci := 11) X rfl q991 dX15_begins_125 hf (fun hf => ?_)
      refine fk_getI' X fd_11_1 q904 dX15_begins_128 hf (fun z15 hf => ?_)
      refine fk_iadd X dX15_begins_131 ?_
      refine fk_aload_n X 0 dX15_begins_132 rfl ?_
      refine fk_getR' X fd_13_0 q964 dX15_begins_133 hf (fun z16 hf => ?_)
      refine fk_getR' X fd_4_5 q312 dX15_begins_136 hf (fun z17 hf => ?_)
      refine fk_iload_n X 1 dX15_begins_139 rfl ?_
      obtain ⟨u18, hq, hf⟩ := bI hf
      obtain ⟨z19, hv, hf⟩ := bI hf
      refine fk_callV0R (ci := 14) (rest := [tI ((5 * z10) + z15), tR z5]) X hq rfl (c_J2_get hv) n_J2_get q989 q723 q724 q125 q725 rfl dX15_begins_140 rfl rfl rfl rfl rfl (Nat.le_refl _) (Nat.le_refl _) ?_
      refine fk_cast' (ci := 11) X rfl q991 dX15_begins_143 hf (fun hf => ?_)
      refine fk_getI' X fd_11_2 q907 dX15_begins_146 hf (fun z20 hf => ?_)
      refine fk_i2s X dX15_begins_149 ?_
      refine fk_sastore' X dX15_begins_150 hf (fun m21 hf => ?_)
      refine fk_iinc X 1 [(1, tI (x1 + 1)), (0, tR x0)] dX15_begins_151 rfl rfl rfl rfl ?_
      refine fk_goto X 77 dX15_begins_154 rfl ?_
      exact fk_cut' (ih (x1 + 1) m21  hf) [1, 0] rfl
def f_X15_begins_L7 (x0 : Option Nat) : Nat → Int32 → fk_M → Option fk_M
  | 0, _, _ => none
  | N + 1, x1, m0 =>
  (gR m0 x0 13 0).bind fun z1 => (gR m0 z1 4 4).bind fun z2 => (isO m0 z2 14).bind fun u3 => (f_J2_size z2 m0).bind fun z4 => if z4 ≤ x1 then (f_X15_begins_L77 x0 fk_fuel 0 m0) else ((gR m0 x0 13 1).bind fun z5 => (gR m0 x0 13 0).bind fun z6 => (gR m0 z6 4 4).bind fun z7 => (isO m0 z7 14).bind fun u8 => (f_J2_get z7 x1 m0).bind fun z9 => (cst m0 z9 6).bind fun _ => (gI m0 z9 6 2).bind fun z10 => (sI m0 z5 1 x1 (i_b z10)).bind fun m11 => (gR m11 x0 13 2).bind fun z12 => (gR m11 x0 13 0).bind fun z13 => (gR m11 z13 4 4).bind fun z14 => (isO m11 z14 14).bind fun u15 => (f_J2_get z14 x1 m11).bind fun z16 => (cst m11 z16 6).bind fun _ => (gI m11 z16 6 3).bind fun z17 => (sI m11 z12 1 x1 (i_b z17)).bind fun m18 => f_X15_begins_L7 x0 N (x1 + 1) m18)
set_option maxHeartbeats 4000000 in
theorem w_X15_begins_L7 {E : fk_E} {l : Launch} {G : fk_G} {b0 n : Nat} {mF : fk_M} (X : fk_X E l G b0 "FigureKnee$Stage" "begins" cX15_begins 2 4 124 0 0) (Y : fk_Y E none none n mF 0 0) (x0 : Option Nat) : ∀ (N : Nat) (x1 : Int32) (m0 : fk_M), f_X15_begins_L7 x0 N x1 m0 = some mF → fk_W E 2 n m0 0 0 7 [(0, tR x0), (1, tI x1)] [] := by
  intro N
  induction N with
  | zero =>
    intro x1 m0 hf
    have hf : (none : Option fk_M) = some _ := hf
    cases hf
  | succ N ih =>
    intro x1 m0 hf
    rw [f_X15_begins_L7] at hf
    refine fk_iload_n X 1 dX15_begins_7 rfl ?_
    refine fk_aload_n X 0 dX15_begins_8 rfl ?_
    refine fk_getR' X fd_13_0 q964 dX15_begins_9 hf (fun z1 hf => ?_)
    refine fk_getR' X fd_4_4 q308 dX15_begins_12 hf (fun z2 hf => ?_)
    obtain ⟨u3, hq, hf⟩ := bI hf
    obtain ⟨z4, hv, hf⟩ := bI hf
    refine fk_callV0I (ci := 14) (rest := [tI x1]) X hq rfl (c_J2_size hv) n_J2_size q988 q699 q700 q125 q701 rfl dX15_begins_15 rfl rfl rfl rfl rfl (Nat.le_refl _) (Nat.le_refl _) ?_
    refine fk_icmp_ge' X 75 dX15_begins_18 rfl hf (fun hf => ?_) (fun hf => ?_)
    · refine fk_iconst (v := 0) X dX15_begins_75 rfl ?_
      refine fk_istore_n X [(1, tI 0), (0, tR x0)] dX15_begins_76 rfl rfl ?_
      exact fk_cut' (w_X15_begins_L77 X Y x0 fk_fuel 0 m0 hf) [1, 0] rfl
    · refine fk_aload_n X 0 dX15_begins_21 rfl ?_
      refine fk_getR' X fd_13_1 q965 dX15_begins_22 hf (fun z5 hf => ?_)
      refine fk_iload_n X 1 dX15_begins_25 rfl ?_
      refine fk_aload_n X 0 dX15_begins_26 rfl ?_
      refine fk_getR' X fd_13_0 q964 dX15_begins_27 hf (fun z6 hf => ?_)
      refine fk_getR' X fd_4_4 q308 dX15_begins_30 hf (fun z7 hf => ?_)
      refine fk_iload_n X 1 dX15_begins_33 rfl ?_
      obtain ⟨u8, hq, hf⟩ := bI hf
      obtain ⟨z9, hv, hf⟩ := bI hf
      refine fk_callV0R (ci := 14) (rest := [tI x1, tR z5]) X hq rfl (c_J2_get hv) n_J2_get q989 q723 q724 q125 q725 rfl dX15_begins_34 rfl rfl rfl rfl rfl (Nat.le_refl _) (Nat.le_refl _) ?_
      refine fk_cast' (ci := 6) X rfl q990 dX15_begins_37 hf (fun hf => ?_)
      refine fk_getI' X fd_6_2 q746 dX15_begins_40 hf (fun z10 hf => ?_)
      refine fk_i2b X dX15_begins_43 ?_
      refine fk_bastore' X dX15_begins_44 hf (fun m11 hf => ?_)
      refine fk_aload_n X 0 dX15_begins_45 rfl ?_
      refine fk_getR' X fd_13_2 q967 dX15_begins_46 hf (fun z12 hf => ?_)
      refine fk_iload_n X 1 dX15_begins_49 rfl ?_
      refine fk_aload_n X 0 dX15_begins_50 rfl ?_
      refine fk_getR' X fd_13_0 q964 dX15_begins_51 hf (fun z13 hf => ?_)
      refine fk_getR' X fd_4_4 q308 dX15_begins_54 hf (fun z14 hf => ?_)
      refine fk_iload_n X 1 dX15_begins_57 rfl ?_
      obtain ⟨u15, hq, hf⟩ := bI hf
      obtain ⟨z16, hv, hf⟩ := bI hf
      refine fk_callV0R (ci := 14) (rest := [tI x1, tR z12]) X hq rfl (c_J2_get hv) n_J2_get q989 q723 q724 q125 q725 rfl dX15_begins_58 rfl rfl rfl rfl rfl (Nat.le_refl _) (Nat.le_refl _) ?_
      refine fk_cast' (ci := 6) X rfl q990 dX15_begins_61 hf (fun hf => ?_)
      refine fk_getI' X fd_6_3 q749 dX15_begins_64 hf (fun z17 hf => ?_)
      refine fk_i2b X dX15_begins_67 ?_
      refine fk_bastore' X dX15_begins_68 hf (fun m18 hf => ?_)
      refine fk_iinc X 1 [(1, tI (x1 + 1)), (0, tR x0)] dX15_begins_69 rfl rfl rfl rfl ?_
      refine fk_goto X 7 dX15_begins_72 rfl ?_
      exact fk_cut' (ih (x1 + 1) m18  hf) [1, 0] rfl
def f_X15_begins (a0 : Option Nat) (m0 : fk_M) : Option fk_M :=
  (pV m0 a0 13 4 (tI 0)).bind fun m1 => f_X15_begins_L7 a0 fk_fuel 0 m1
set_option maxHeartbeats 4000000 in
theorem c_X15_begins {l : Launch} {G : fk_G} {b0 : Nat} {n : Nat} {a0 : Option Nat} {m0 : fk_M} {mF : fk_M} (hf : f_X15_begins a0 m0 = some mF) : fk_Ct l G b0 yX15_begins cX15_begins 2 none 4 124 [tR a0] n m0 none n mF 0 0 := by
  refine fk_enter n_X15_begins.1 rfl ?_
  intro E X0 Y
  have X : fk_X E l G b0 "FigureKnee$Stage" "begins" cX15_begins 2 4 124 0 0 := X0
  show fk_W E 2 n m0 0 0 0 [(0, tR a0)] []
  unfold f_X15_begins at hf
  refine fk_aload_n X 0 dX15_begins_0 rfl ?_
  refine fk_iconst (v := 0) X dX15_begins_1 rfl ?_
  refine fk_putI' X fd_13_4 q971 dX15_begins_2 (fit_I _) hf (fun m1 hf => ?_)
  refine fk_iconst (v := 0) X dX15_begins_5 rfl ?_
  refine fk_istore_n X [(1, tI 0), (0, tR a0)] dX15_begins_6 rfl rfl ?_
  exact fk_cut' (w_X15_begins_L7 X Y a0 fk_fuel 0 m1 hf) [1, 0] rfl
/-! FigureKnee$Creeping then (III)I -/
theorem n_X9_then : fk_N yX9_then 3 := ⟨by decide +kernel, by decide +kernel, by decide +kernel, by decide +kernel⟩
def f_X9_then (a0 : Option Nat) (a1 : Int32) (a2 : Int32) (a3 : Int32) (m : fk_M) : Option Int32 :=
  some (a1 + a2)
set_option maxHeartbeats 4000000 in
theorem c_X9_then {l : Launch} {G : fk_G} {b0 : Nat} {n : Nat} {a0 : Option Nat} {a1 : Int32} {a2 : Int32} {a3 : Int32} {m : fk_M} {r : Int32} (hf : f_X9_then a0 a1 a2 a3 m = some r) : fk_Ct l G b0 yX9_then cX9_then 4 (some .int) 1 60 [tR a0, tI a1, tI a2, tI a3] n m (some (tI r)) n m 0 0 := by
  refine fk_enter n_X9_then.1 rfl ?_
  intro E X0 Y
  have X : fk_X E l G b0 "FigureKnee$Creeping" "then" cX9_then 4 1 60 0 0 := X0
  show fk_W E 4 n m 0 0 0 [(0, tR a0), (1, tI a1), (2, tI a2), (3, tI a3)] []
  unfold f_X9_then at hf
  refine fk_iload_n X 1 dX9_then_0 rfl ?_
  refine fk_iload_n X 2 dX9_then_1 rfl ?_
  refine fk_iadd X dX9_then_2 ?_
  cases hf
  exact fk_ireturn X Y dX9_then_3 rfl
/-! FigureKnee$Leaping then (III)I -/
theorem n_X10_then : fk_N yX10_then 3 := ⟨by decide +kernel, by decide +kernel, by decide +kernel, by decide +kernel⟩
def f_X10_then (a0 : Option Nat) (a1 : Int32) (a2 : Int32) (a3 : Int32) (m : fk_M) : Option Int32 :=
  (isO m a0 8).bind fun u1 => (f_X9_then a0 (2 * a1) a2 a3 m).bind fun z2 => some z2
set_option maxHeartbeats 4000000 in
theorem c_X10_then {l : Launch} {G : fk_G} {b0 : Nat} {n : Nat} {a0 : Option Nat} {a1 : Int32} {a2 : Int32} {a3 : Int32} {m : fk_M} {r : Int32} (hf : f_X10_then a0 a1 a2 a3 m = some r) : fk_Ct l G b0 yX10_then cX10_then 4 (some .int) 2 83 [tR a0, tI a1, tI a2, tI a3] n m (some (tI r)) n m 0 0 := by
  refine fk_enter n_X10_then.1 rfl ?_
  intro E X0 Y
  have X : fk_X E l G b0 "FigureKnee$Leaping" "then" cX10_then 4 2 83 0 0 := X0
  show fk_W E 4 n m 0 0 0 [(0, tR a0), (1, tI a1), (2, tI a2), (3, tI a3)] []
  unfold f_X10_then at hf
  refine fk_aload_n X 0 dX10_then_0 rfl ?_
  refine fk_iconst (v := 2) X dX10_then_1 rfl ?_
  refine fk_iload_n X 1 dX10_then_2 rfl ?_
  refine fk_imul X dX10_then_3 ?_
  refine fk_iload_n X 2 dX10_then_4 rfl ?_
  refine fk_iload_n X 3 dX10_then_5 rfl ?_
  obtain ⟨u1, hq, hf⟩ := bI hf
  obtain ⟨z2, hv, hf⟩ := bI hf
  refine fk_callSU0I (ci := 8) (rest := []) X hq rfl (c_X9_then hv) (by decide +kernel) n_X9_then q1076 q2194 q801 q1067 q144 q1068 dX10_then_6 rfl rfl rfl rfl rfl (Nat.le_refl _) (Nat.le_refl _) ?_
  cases hf
  exact fk_ireturn X Y dX10_then_9 rfl
/-! FigureKnee$Fading then (III)I -/
theorem n_X11_then : fk_N yX11_then 3 := ⟨by decide +kernel, by decide +kernel, by decide +kernel, by decide +kernel⟩
def f_X11_then (a0 : Option Nat) (a1 : Int32) (a2 : Int32) (a3 : Int32) (m : fk_M) : Option Int32 :=
  (isO m a0 9).bind fun u1 => (f_X9_then a0 a1 (-a2) a3 m).bind fun z2 => some z2
set_option maxHeartbeats 4000000 in
theorem c_X11_then {l : Launch} {G : fk_G} {b0 : Nat} {n : Nat} {a0 : Option Nat} {a1 : Int32} {a2 : Int32} {a3 : Int32} {m : fk_M} {r : Int32} (hf : f_X11_then a0 a1 a2 a3 m = some r) : fk_Ct l G b0 yX11_then cX11_then 4 (some .int) 2 83 [tR a0, tI a1, tI a2, tI a3] n m (some (tI r)) n m 0 0 := by
  refine fk_enter n_X11_then.1 rfl ?_
  intro E X0 Y
  have X : fk_X E l G b0 "FigureKnee$Fading" "then" cX11_then 4 2 83 0 0 := X0
  show fk_W E 4 n m 0 0 0 [(0, tR a0), (1, tI a1), (2, tI a2), (3, tI a3)] []
  unfold f_X11_then at hf
  refine fk_aload_n X 0 dX11_then_0 rfl ?_
  refine fk_iload_n X 1 dX11_then_1 rfl ?_
  refine fk_iload_n X 2 dX11_then_2 rfl ?_
  refine fk_ineg X dX11_then_3 ?_
  refine fk_iload_n X 3 dX11_then_4 rfl ?_
  obtain ⟨u1, hq, hf⟩ := bI hf
  obtain ⟨z2, hv, hf⟩ := bI hf
  refine fk_callSU0I (ci := 9) (rest := []) X hq rfl (c_X9_then hv) (by decide +kernel) n_X9_then q1072 q2194 q809 q1067 q144 q1068 dX11_then_5 rfl rfl rfl rfl rfl (Nat.le_refl _) (Nat.le_refl _) ?_
  cases hf
  exact fk_ireturn X Y dX11_then_8 rfl
/-! FigureKnee$Swinging then (III)I -/
theorem n_X12_then : fk_N yX12_then 3 := ⟨by decide +kernel, by decide +kernel, by decide +kernel, by decide +kernel⟩
def f_X12_then (a0 : Option Nat) (a1 : Int32) (a2 : Int32) (a3 : Int32) (m : fk_M) : Option Int32 :=
  (isO m a0 10).bind fun u1 => (f_X9_then a0 (a3 - a1) a2 a3 m).bind fun z2 => some z2
set_option maxHeartbeats 4000000 in
theorem c_X12_then {l : Launch} {G : fk_G} {b0 : Nat} {n : Nat} {a0 : Option Nat} {a1 : Int32} {a2 : Int32} {a3 : Int32} {m : fk_M} {r : Int32} (hf : f_X12_then a0 a1 a2 a3 m = some r) : fk_Ct l G b0 yX12_then cX12_then 4 (some .int) 2 83 [tR a0, tI a1, tI a2, tI a3] n m (some (tI r)) n m 0 0 := by
  refine fk_enter n_X12_then.1 rfl ?_
  intro E X0 Y
  have X : fk_X E l G b0 "FigureKnee$Swinging" "then" cX12_then 4 2 83 0 0 := X0
  show fk_W E 4 n m 0 0 0 [(0, tR a0), (1, tI a1), (2, tI a2), (3, tI a3)] []
  unfold f_X12_then at hf
  refine fk_aload_n X 0 dX12_then_0 rfl ?_
  refine fk_iload_n X 3 dX12_then_1 rfl ?_
  refine fk_iload_n X 1 dX12_then_2 rfl ?_
  refine fk_isub X dX12_then_3 ?_
  refine fk_iload_n X 2 dX12_then_4 rfl ?_
  refine fk_iload_n X 3 dX12_then_5 rfl ?_
  obtain ⟨u1, hq, hf⟩ := bI hf
  obtain ⟨z2, hv, hf⟩ := bI hf
  refine fk_callSU0I (ci := 10) (rest := []) X hq rfl (c_X9_then hv) (by decide +kernel) n_X9_then q1080 q2194 q817 q1067 q144 q1068 dX12_then_6 rfl rfl rfl rfl rfl (Nat.le_refl _) (Nat.le_refl _) ?_
  cases hf
  exact fk_ireturn X Y dX12_then_9 rfl
/-- what 'then' does by the law's class -/
def f_V_then (q : Option Nat) (a b c : Int32) (m : fk_M) : Option Int32 := if isO m q 7 = some () then f_X9_then q a b c m else if isO m q 8 = some () then f_X10_then q a b c m else if isO m q 9 = some () then f_X11_then q a b c m else if isO m q 10 = some () then f_X12_then q a b c m else none
/-! FigureKnee$Law next (III)I -/
theorem n_X8_next : fk_N yX8_next 3 := ⟨by decide +kernel, by decide +kernel, by decide +kernel, by decide +kernel⟩
def f_X8_next (a0 : Option Nat) (a1 : Int32) (a2 : Int32) (a3 : Int32) (m : fk_M) : Option Int32 :=
  (f_V_then a0 a1 a2 a3 m).bind fun z1 => some (i_max 0 (i_min a3 z1))
set_option maxHeartbeats 4000000 in
theorem c_X8_next {l : Launch} {G : fk_G} {b0 : Nat} {n : Nat} {a0 : Option Nat} {a1 : Int32} {a2 : Int32} {a3 : Int32} {m : fk_M} {r : Int32} (hf : f_X8_next a0 a1 a2 a3 m = some r) : fk_Ct l G b0 yX8_next cX8_next 4 (some .int) 3 106 [tR a0, tI a1, tI a2, tI a3] n m (some (tI r)) n m 0 0 := by
  refine fk_enter n_X8_next.1 rfl ?_
  intro E X0 Y
  have X : fk_X E l G b0 "FigureKnee$Law" "next" cX8_next 4 3 106 0 0 := X0
  show fk_W E 4 n m 0 0 0 [(0, tR a0), (1, tI a1), (2, tI a2), (3, tI a3)] []
  unfold f_X8_next at hf
  refine fk_iconst (v := 0) X dX8_next_0 rfl ?_
  refine fk_iload_n X 3 dX8_next_1 rfl ?_
  refine fk_aload_n X 0 dX8_next_2 rfl ?_
  refine fk_iload_n X 1 dX8_next_3 rfl ?_
  refine fk_iload_n X 2 dX8_next_4 rfl ?_
  refine fk_iload_n X 3 dX8_next_5 rfl ?_
  obtain ⟨z1, hv, hf⟩ := bI hf
  have J1 : fk_W E 4 n m 0 0 9 [(0, tR a0), (1, tI a1), (2, tI a2), (3, tI a3)] [tI z1, tI a3, tI 0] := by
    refine fk_mmin X q1081 q439 q136 q440 dX8_next_9 (by omega) (Nat.le_trans (Nat.le_of_ble_eq_true (rfl : Nat.ble (_ + 13) 40 = true)) (by omega)) (Nat.le_refl _) (Nat.le_refl _) ?_
    refine fk_mmax X q1082 q421 q136 q422 dX8_next_12 (by omega) (Nat.le_trans (Nat.le_of_ble_eq_true (rfl : Nat.ble (_ + 13) 40 = true)) (by omega)) (Nat.le_refl _) (Nat.le_refl _) ?_
    cases hf
    exact fk_ireturn X Y dX8_next_15 rfl
  unfold f_V_then at hv
  by_cases hq7 : isO m a0 7 = some ()
  · rw [if_pos hq7] at hv
    exact fk_callA0I (na := 3) (rest := [tI a3, tI 0]) (owner := "FigureKnee$Law") (x := ⟨"FigureKnee$Law", "then", "(III)I"⟩) X hq7 rfl (c_X9_then hv) (by decide +kernel) (List.mem_cons_of_mem _ List.mem_cons_self) q1063 q1065 q1066 q1067 q144 q1068 dX8_next_6 rfl rfl rfl rfl rfl (Nat.le_refl _) (Nat.le_refl _) J1
  rw [if_neg hq7] at hv
  by_cases hq8 : isO m a0 8 = some ()
  · rw [if_pos hq8] at hv
    exact fk_callA0I (na := 3) (rest := [tI a3, tI 0]) (owner := "FigureKnee$Law") (x := ⟨"FigureKnee$Law", "then", "(III)I"⟩) X hq8 rfl (c_X10_then hv) (by decide +kernel) (List.mem_cons_of_mem _ List.mem_cons_self) q1063 q1065 q1073 q1074 q145 q1075 dX8_next_6 rfl rfl rfl rfl rfl (Nat.le_refl _) (Nat.le_refl _) J1
  rw [if_neg hq8] at hv
  by_cases hq9 : isO m a0 9 = some ()
  · rw [if_pos hq9] at hv
    exact fk_callA0I (na := 3) (rest := [tI a3, tI 0]) (owner := "FigureKnee$Law") (x := ⟨"FigureKnee$Law", "then", "(III)I"⟩) X hq9 rfl (c_X11_then hv) (by decide +kernel) (List.mem_cons_of_mem _ List.mem_cons_self) q1063 q1065 q1069 q1070 q146 q1071 dX8_next_6 rfl rfl rfl rfl rfl (Nat.le_refl _) (Nat.le_refl _) J1
  rw [if_neg hq9] at hv
  by_cases hq10 : isO m a0 10 = some ()
  · rw [if_pos hq10] at hv
    exact fk_callA0I (na := 3) (rest := [tI a3, tI 0]) (owner := "FigureKnee$Law") (x := ⟨"FigureKnee$Law", "then", "(III)I"⟩) X hq10 rfl (c_X12_then hv) (by decide +kernel) (List.mem_cons_of_mem _ List.mem_cons_self) q1063 q1065 q1077 q1078 q147 q1079 dX8_next_6 rfl rfl rfl rfl rfl (Nat.le_refl _) (Nat.le_refl _) J1
  rw [if_neg hq10] at hv
  cases hv
def f_V_next (q : Option Nat) (a b c : Int32) (m : fk_M) : Option Int32 := if isO m q 7 = some () then f_X8_next q a b c m else if isO m q 8 = some () then f_X8_next q a b c m else if isO m q 9 = some () then f_X8_next q a b c m else if isO m q 10 = some () then f_X8_next q a b c m else none
/-! FigureKnee$Stage copy ()LFigureKnee$Stage; -/
theorem n_X15_copy : fk_N yX15_copy 0 := ⟨by decide +kernel, by decide +kernel, by decide +kernel, by decide +kernel⟩
def f_X15_copy (a0 : Option Nat) (n1 k1 : Nat) (m0 : fk_M) : Option ((Option Nat) × Nat × Nat × fk_M) :=
  (gR (fk_up m0 n1 (oB 13 (fk_V0 tyX15))) a0 13 0).bind fun z2 => (isS (some n1)).bind fun u3 => bn3 (f_X15_init (some n1) z2 (n1 + 1) (k1 + 5) (fk_up m0 n1 (oB 13 (fk_V0 tyX15)))) fun n5 k6 m4 => (gR m4 a0 13 1).bind fun z7 => (gR m4 (some n1) 13 1).bind fun z8 => (cpI m4 z7 0 z8 0 5).bind fun m9 => (gR m9 a0 13 2).bind fun z10 => (gR m9 (some n1) 13 2).bind fun z11 => (cpI m9 z10 0 z11 0 5).bind fun m12 => (gR m12 a0 13 3).bind fun z13 => (gR m12 (some n1) 13 3).bind fun z14 => (gR m12 a0 13 3).bind fun z15 => (aLn m12 z15).bind fun z16 => (cpI m12 z13 0 z14 0 z16).bind fun m17 => (gI m17 a0 13 4).bind fun z18 => (pV m17 (some n1) 13 4 (tI z18)).bind fun m19 => some ((some n1), n5, k6, m19)
theorem mo_X15_copy (a0 : Option Nat) (n1 k1 : Nat) (m0 : fk_M) : Mo4 n1 k1 (f_X15_copy a0 n1 k1 m0) := by
  unfold f_X15_copy
  exact Mo4.le (n1 := (n1 + 1)) (k1 := (k1 + 5)) (Mo4.bind (fun z2 => Mo4.bind (fun u3 => Mo4.bn3 (mo_X15_init (some n1) z2 (n1 + 1) (k1 + 5) (fk_up m0 n1 (oB 13 (fk_V0 tyX15)))) (fun n5 k6 m4 => Mo4.bind (fun z7 => Mo4.bind (fun z8 => Mo4.bind (fun m9 => Mo4.bind (fun z10 => Mo4.bind (fun z11 => Mo4.bind (fun m12 => Mo4.bind (fun z13 => Mo4.bind (fun z14 => Mo4.bind (fun z15 => Mo4.bind (fun z16 => Mo4.bind (fun m17 => Mo4.bind (fun z18 => Mo4.bind (fun m19 => Mo4.ok (by omega) (by omega)))))))))))))))))) (by omega) (by omega)
set_option maxHeartbeats 4000000 in
theorem c_X15_copy {l : Launch} {G : fk_G} {b0 : Nat} {n1 k1 nF kF : Nat} {a0 : Option Nat} {m0 : fk_M} {r : Option Nat} {mF : fk_M} (hf : f_X15_copy a0 n1 k1 m0 = some (r, nF, kF, mF)) : fk_Ct l G b0 yX15_copy cX15_copy 2 (some (.object "FigureKnee$Stage")) 2 81 [tR a0] n1 m0 (some (tR r)) nF mF (nF - n1) (kF - k1) := by
  refine fk_enter n_X15_copy.1 rfl ?_
  intro E X0 Y
  have X : fk_X E l G b0 "FigureKnee$Stage" "copy" cX15_copy 2 2 81 (nF - n1) (kF - k1) := X0
  show fk_W E 2 n1 m0 0 0 0 [(0, tR a0)] []
  refine fk_widen (cs2 := n1 - n1) (sl2 := k1 - k1) (Nat.zero_le _) (Nat.zero_le _) ?_
  unfold f_X15_copy at hf
  have h01 : n1 ≤ n1 := Nat.le_refl _
  have h02 : k1 ≤ k1 := Nat.le_refl _
  have hm : (n1 + 1) ≤ nF ∧ (k1 + 5) ≤ kF := Mo4.use hf (Mo4.bind (fun z2 => Mo4.bind (fun u3 => Mo4.bn3 (mo_X15_init (some n1) z2 (n1 + 1) (k1 + 5) (fk_up m0 n1 (oB 13 (fk_V0 tyX15)))) (fun n5 k6 m4 => Mo4.bind (fun z7 => Mo4.bind (fun z8 => Mo4.bind (fun m9 => Mo4.bind (fun z10 => Mo4.bind (fun z11 => Mo4.bind (fun m12 => Mo4.bind (fun z13 => Mo4.bind (fun z14 => Mo4.bind (fun z15 => Mo4.bind (fun z16 => Mo4.bind (fun m17 => Mo4.bind (fun z18 => Mo4.bind (fun m19 => Mo4.ok (by omega) (by omega))))))))))))))))))
  refine fk_new (cs2 := (n1 + 1) - n1) (sl2 := (k1 + 5) - k1) X cl_13 q1407 dX15_copy_0 (by omega) (by omega) (by omega) (by omega) ?_
  refine fk_dup X dX15_copy_3 rfl ?_
  refine fk_aload_n X 0 dX15_copy_4 rfl ?_
  refine fk_getR' X fd_13_0 q964 dX15_copy_5 hf (fun z2 hf => ?_)
  obtain ⟨u3, hq, hf⟩ := bI hf
  obtain ⟨n5, k6, m4, hv, hf⟩ := bn3_eq hf
  have hmc := mo_X15_init (some n1) z2 (n1 + 1) (k1 + 5) (fk_up m0 n1 (oB 13 (fk_V0 tyX15))) _ _ _ hv
  have hm : n5 ≤ nF ∧ k6 ≤ kF := Mo4.use hf (Mo4.bind (fun z7 => Mo4.bind (fun z8 => Mo4.bind (fun m9 => Mo4.bind (fun z10 => Mo4.bind (fun z11 => Mo4.bind (fun m12 => Mo4.bind (fun z13 => Mo4.bind (fun z14 => Mo4.bind (fun z15 => Mo4.bind (fun z16 => Mo4.bind (fun m17 => Mo4.bind (fun z18 => Mo4.bind (fun m19 => Mo4.ok (by omega) (by omega)))))))))))))))
  refine fk_callI1V (rest := [tR (some n1)]) (cs2 := n5 - n1) (sl2 := k6 - k1) X hq (c_X15_init hv) n_X15_init rfl q1408 q961 q150 q962 dX15_copy_8 rfl rfl rfl rfl rfl (by omega) (by omega) (by omega) (by omega) ?_
  refine fk_astore_n X [(1, tR (some n1)), (0, tR a0)] dX15_copy_11 rfl rfl ?_
  refine fk_aload_n X 1 dX15_copy_12 rfl ?_
  refine fk_getR' X fd_13_1 q965 dX15_copy_13 hf (fun z7 hf => ?_)
  refine fk_iconst (v := 0) X dX15_copy_16 rfl ?_
  refine fk_aload_n X 0 dX15_copy_17 rfl ?_
  refine fk_getR' X fd_13_1 q965 dX15_copy_18 hf (fun z8 hf => ?_)
  refine fk_iconst (v := 0) X dX15_copy_21 rfl ?_
  refine fk_iconst (v := 5) X dX15_copy_22 rfl ?_
  refine fk_copyI' X q1409 q443 q442 q138 dX15_copy_23 rfl rfl hf (fun m9 hf => ?_)
  refine fk_aload_n X 1 dX15_copy_26 rfl ?_
  refine fk_getR' X fd_13_2 q967 dX15_copy_27 hf (fun z10 hf => ?_)
  refine fk_iconst (v := 0) X dX15_copy_30 rfl ?_
  refine fk_aload_n X 0 dX15_copy_31 rfl ?_
  refine fk_getR' X fd_13_2 q967 dX15_copy_32 hf (fun z11 hf => ?_)
  refine fk_iconst (v := 0) X dX15_copy_35 rfl ?_
  refine fk_iconst (v := 5) X dX15_copy_36 rfl ?_
  refine fk_copyI' X q1409 q443 q442 q138 dX15_copy_37 rfl rfl hf (fun m12 hf => ?_)
  refine fk_aload_n X 1 dX15_copy_40 rfl ?_
  refine fk_getR' X fd_13_3 q969 dX15_copy_41 hf (fun z13 hf => ?_)
  refine fk_iconst (v := 0) X dX15_copy_44 rfl ?_
  refine fk_aload_n X 0 dX15_copy_45 rfl ?_
  refine fk_getR' X fd_13_3 q969 dX15_copy_46 hf (fun z14 hf => ?_)
  refine fk_iconst (v := 0) X dX15_copy_49 rfl ?_
  refine fk_aload_n X 1 dX15_copy_50 rfl ?_
  refine fk_getR' X fd_13_3 q969 dX15_copy_51 hf (fun z15 hf => ?_)
  refine fk_alen' X dX15_copy_54 hf (fun z16 hf => ?_)
  refine fk_copyI' X q1409 q443 q442 q138 dX15_copy_55 rfl rfl hf (fun m17 hf => ?_)
  refine fk_aload_n X 0 dX15_copy_58 rfl ?_
  refine fk_aload_n X 1 dX15_copy_59 rfl ?_
  refine fk_getI' X fd_13_4 q971 dX15_copy_60 hf (fun z18 hf => ?_)
  refine fk_putI' X fd_13_4 q971 dX15_copy_63 (fit_I _) hf (fun m19 hf => ?_)
  refine fk_aload_n X 0 dX15_copy_66 rfl ?_
  cases hf
  exact fk_areturn X Y dX15_copy_67 (by first | exact Or.inl ⟨_, rfl⟩ | exact Or.inr ⟨_, rfl⟩)
