set_option maxRecDepth 100000
/-! FigureKnee <init> ()V -/
theorem n_X1_init : fk_N yX1_init 0 := ⟨by decide +kernel, by decide +kernel, by decide +kernel, by decide +kernel⟩
def f_X1_init (g : Nat → Nat) (a0 : Option Nat) (n1 k1 : Nat) (m0 : fk_M) : Option (Nat × Nat × fk_M) :=
  (isS a0).bind fun _ => (nA n1 m0 1 900).bind fun m1 => (pV m1 a0 0 0 (tR (some n1))).bind fun m2 => (pV m2 a0 0 3 (tI (-1))).bind fun m3 => (isS (some (n1 + 1))).bind fun u5 => (f_J2_init g (some (n1 + 1)) (fk_up m3 (n1 + 1) (oB 14 (fk_V0 tyJ2)))).bind fun m6 => (pV m6 a0 0 7 (tR (some (n1 + 1)))).bind fun m7 => (isS (some ((n1 + 1) + 1))).bind fun u9 => (f_J2_init g (some ((n1 + 1) + 1)) (fk_up m7 ((n1 + 1) + 1) (oB 14 (fk_V0 tyJ2)))).bind fun m10 => (pV m10 a0 0 8 (tR (some ((n1 + 1) + 1)))).bind fun m11 => (nA (((n1 + 1) + 1) + 1) m11 2 2710).bind fun m12 => (pV m12 a0 0 9 (tR (some (((n1 + 1) + 1) + 1)))).bind fun m13 => (nA ((((n1 + 1) + 1) + 1) + 1) m13 0 4).bind fun m14 => (pV m14 a0 0 16 (tR (some ((((n1 + 1) + 1) + 1) + 1)))).bind fun m15 => (nA (((((n1 + 1) + 1) + 1) + 1) + 1) m15 0 32).bind fun m16 => (pV m16 a0 0 18 (tR (some (((((n1 + 1) + 1) + 1) + 1) + 1)))).bind fun m17 => (nA ((((((n1 + 1) + 1) + 1) + 1) + 1) + 1) m17 0 5).bind fun m18 => (pV m18 a0 0 19 (tR (some ((((((n1 + 1) + 1) + 1) + 1) + 1) + 1)))).bind fun m19 => some ((((((((n1 + 1) + 1) + 1) + 1) + 1) + 1) + 1), (((((((k1 + (Int32.toNatClampNeg 900)) + 3) + 3) + (Int32.toNatClampNeg 2710)) + (Int32.toNatClampNeg 4)) + (Int32.toNatClampNeg 32)) + (Int32.toNatClampNeg 5)), m19)
theorem mo_X1_init (g : Nat → Nat) (a0 : Option Nat) (n1 k1 : Nat) (m0 : fk_M) : Mo3 n1 k1 (f_X1_init g a0 n1 k1 m0) := by
  unfold f_X1_init
  exact Mo3.bind (fun _ => Mo3.bind (fun m1 => Mo3.le (n1 := (n1 + 1)) (k1 := (k1 + (Int32.toNatClampNeg 900))) (Mo3.bind (fun m2 => Mo3.bind (fun m3 => Mo3.le (n1 := ((n1 + 1) + 1)) (k1 := ((k1 + (Int32.toNatClampNeg 900)) + 3)) (Mo3.bind (fun u5 => Mo3.bind (fun m6 => Mo3.bind (fun m7 => Mo3.le (n1 := (((n1 + 1) + 1) + 1)) (k1 := (((k1 + (Int32.toNatClampNeg 900)) + 3) + 3)) (Mo3.bind (fun u9 => Mo3.bind (fun m10 => Mo3.bind (fun m11 => Mo3.bind (fun m12 => Mo3.le (n1 := ((((n1 + 1) + 1) + 1) + 1)) (k1 := ((((k1 + (Int32.toNatClampNeg 900)) + 3) + 3) + (Int32.toNatClampNeg 2710))) (Mo3.bind (fun m13 => Mo3.bind (fun m14 => Mo3.le (n1 := (((((n1 + 1) + 1) + 1) + 1) + 1)) (k1 := (((((k1 + (Int32.toNatClampNeg 900)) + 3) + 3) + (Int32.toNatClampNeg 2710)) + (Int32.toNatClampNeg 4))) (Mo3.bind (fun m15 => Mo3.bind (fun m16 => Mo3.le (n1 := ((((((n1 + 1) + 1) + 1) + 1) + 1) + 1)) (k1 := ((((((k1 + (Int32.toNatClampNeg 900)) + 3) + 3) + (Int32.toNatClampNeg 2710)) + (Int32.toNatClampNeg 4)) + (Int32.toNatClampNeg 32))) (Mo3.bind (fun m17 => Mo3.bind (fun m18 => Mo3.le (n1 := (((((((n1 + 1) + 1) + 1) + 1) + 1) + 1) + 1)) (k1 := (((((((k1 + (Int32.toNatClampNeg 900)) + 3) + 3) + (Int32.toNatClampNeg 2710)) + (Int32.toNatClampNeg 4)) + (Int32.toNatClampNeg 32)) + (Int32.toNatClampNeg 5))) (Mo3.bind (fun m19 => Mo3.ok (by omega) (by omega))) (by omega) (by omega)))) (by omega) (by omega)))) (by omega) (by omega)))) (by omega) (by omega)))))) (by omega) (by omega))))) (by omega) (by omega)))) (by omega) (by omega)))
set_option maxHeartbeats 4000000 in
theorem c_X1_init {l : Launch} {G : fk_G} {b0 : Nat} {n1 k1 nF kF : Nat} {a0 : Option Nat} {m0 : fk_M} {mF : fk_M} (hf : f_X1_init G.2.2 a0 n1 k1 m0 = some (nF, kF, mF)) : fk_Ct l G b0 yX1_init cX1_init 1 none 4 120 [tR a0] n1 m0 none nF mF (nF - n1) (kF - k1) := by
  refine fk_enter n_X1_init.1 rfl ?_
  intro E X0 Y
  have X : fk_X E l G b0 "FigureKnee" "<init>" cX1_init 1 4 120 (nF - n1) (kF - k1) := X0
  show fk_W E 1 n1 m0 0 0 0 [(0, tR a0)] []
  refine fk_widen (cs2 := n1 - n1) (sl2 := k1 - k1) (Nat.zero_le _) (Nat.zero_le _) ?_
  unfold f_X1_init at hf
  have h01 : n1 ≤ n1 := Nat.le_refl _
  have h02 : k1 ≤ k1 := Nat.le_refl _
  refine fk_aload_n X 0 dX1_init_0 rfl ?_
  refine fk_objInit' X q160 q161 q162 dX1_init_1 rfl rfl hf (fun hf => ?_)
  refine fk_aload_n X 0 dX1_init_4 rfl ?_
  refine fk_sipush (v := 900) X dX1_init_5 rfl ?_
  obtain ⟨m1, hv, hf⟩ := bI hf
  have hm : (n1 + 1) ≤ nF ∧ (k1 + (Int32.toNatClampNeg 900)) ≤ kF := Mo3.use hf (Mo3.bind (fun m2 => Mo3.bind (fun m3 => Mo3.le (n1 := ((n1 + 1) + 1)) (k1 := ((k1 + (Int32.toNatClampNeg 900)) + 3)) (Mo3.bind (fun u5 => Mo3.bind (fun m6 => Mo3.bind (fun m7 => Mo3.le (n1 := (((n1 + 1) + 1) + 1)) (k1 := (((k1 + (Int32.toNatClampNeg 900)) + 3) + 3)) (Mo3.bind (fun u9 => Mo3.bind (fun m10 => Mo3.bind (fun m11 => Mo3.bind (fun m12 => Mo3.le (n1 := ((((n1 + 1) + 1) + 1) + 1)) (k1 := ((((k1 + (Int32.toNatClampNeg 900)) + 3) + 3) + (Int32.toNatClampNeg 2710))) (Mo3.bind (fun m13 => Mo3.bind (fun m14 => Mo3.le (n1 := (((((n1 + 1) + 1) + 1) + 1) + 1)) (k1 := (((((k1 + (Int32.toNatClampNeg 900)) + 3) + 3) + (Int32.toNatClampNeg 2710)) + (Int32.toNatClampNeg 4))) (Mo3.bind (fun m15 => Mo3.bind (fun m16 => Mo3.le (n1 := ((((((n1 + 1) + 1) + 1) + 1) + 1) + 1)) (k1 := ((((((k1 + (Int32.toNatClampNeg 900)) + 3) + 3) + (Int32.toNatClampNeg 2710)) + (Int32.toNatClampNeg 4)) + (Int32.toNatClampNeg 32))) (Mo3.bind (fun m17 => Mo3.bind (fun m18 => Mo3.le (n1 := (((((((n1 + 1) + 1) + 1) + 1) + 1) + 1) + 1)) (k1 := (((((((k1 + (Int32.toNatClampNeg 900)) + 3) + 3) + (Int32.toNatClampNeg 2710)) + (Int32.toNatClampNeg 4)) + (Int32.toNatClampNeg 32)) + (Int32.toNatClampNeg 5))) (Mo3.bind (fun m19 => Mo3.ok (by omega) (by omega))) (by omega) (by omega)))) (by omega) (by omega)))) (by omega) (by omega)))) (by omega) (by omega)))))) (by omega) (by omega))))) (by omega) (by omega))))
  refine fk_newI 1 (by decide) (cs2 := (n1 + 1) - n1) (sl2 := (k1 + (Int32.toNatClampNeg 900)) - k1) X q189 dX1_init_8 hv (by omega) (by omega) (by omega) (by omega) ?_
  refine fk_putFR' X fd_0_0 q190 dX1_init_10 (fit_A _) hf (fun m2 hf => ?_)
  refine fk_aload_n X 0 dX1_init_13 rfl ?_
  refine fk_iconst (v := (-1)) X dX1_init_14 rfl ?_
  refine fk_putI' X fd_0_3 q193 dX1_init_15 (fit_I _) hf (fun m3 hf => ?_)
  refine fk_aload_n X 0 dX1_init_18 rfl ?_
  have hm : ((n1 + 1) + 1) ≤ nF ∧ ((k1 + (Int32.toNatClampNeg 900)) + 3) ≤ kF := Mo3.use hf (Mo3.bind (fun u5 => Mo3.bind (fun m6 => Mo3.bind (fun m7 => Mo3.le (n1 := (((n1 + 1) + 1) + 1)) (k1 := (((k1 + (Int32.toNatClampNeg 900)) + 3) + 3)) (Mo3.bind (fun u9 => Mo3.bind (fun m10 => Mo3.bind (fun m11 => Mo3.bind (fun m12 => Mo3.le (n1 := ((((n1 + 1) + 1) + 1) + 1)) (k1 := ((((k1 + (Int32.toNatClampNeg 900)) + 3) + 3) + (Int32.toNatClampNeg 2710))) (Mo3.bind (fun m13 => Mo3.bind (fun m14 => Mo3.le (n1 := (((((n1 + 1) + 1) + 1) + 1) + 1)) (k1 := (((((k1 + (Int32.toNatClampNeg 900)) + 3) + 3) + (Int32.toNatClampNeg 2710)) + (Int32.toNatClampNeg 4))) (Mo3.bind (fun m15 => Mo3.bind (fun m16 => Mo3.le (n1 := ((((((n1 + 1) + 1) + 1) + 1) + 1) + 1)) (k1 := ((((((k1 + (Int32.toNatClampNeg 900)) + 3) + 3) + (Int32.toNatClampNeg 2710)) + (Int32.toNatClampNeg 4)) + (Int32.toNatClampNeg 32))) (Mo3.bind (fun m17 => Mo3.bind (fun m18 => Mo3.le (n1 := (((((((n1 + 1) + 1) + 1) + 1) + 1) + 1) + 1)) (k1 := (((((((k1 + (Int32.toNatClampNeg 900)) + 3) + 3) + (Int32.toNatClampNeg 2710)) + (Int32.toNatClampNeg 4)) + (Int32.toNatClampNeg 32)) + (Int32.toNatClampNeg 5))) (Mo3.bind (fun m19 => Mo3.ok (by omega) (by omega))) (by omega) (by omega)))) (by omega) (by omega)))) (by omega) (by omega)))) (by omega) (by omega)))))) (by omega) (by omega)))))
  refine fk_new (cs2 := ((n1 + 1) + 1) - n1) (sl2 := ((k1 + (Int32.toNatClampNeg 900)) + 3) - k1) X cl_14 q163 dX1_init_19 (by omega) (by omega) (by omega) (by omega) ?_
  refine fk_dup X dX1_init_22 rfl ?_
  obtain ⟨u5, hq, hf⟩ := bI hf
  obtain ⟨m6, hv, hf⟩ := bI hf
  have hm : ((n1 + 1) + 1) ≤ nF ∧ ((k1 + (Int32.toNatClampNeg 900)) + 3) ≤ kF := Mo3.use hf (Mo3.bind (fun m7 => Mo3.le (n1 := (((n1 + 1) + 1) + 1)) (k1 := (((k1 + (Int32.toNatClampNeg 900)) + 3) + 3)) (Mo3.bind (fun u9 => Mo3.bind (fun m10 => Mo3.bind (fun m11 => Mo3.bind (fun m12 => Mo3.le (n1 := ((((n1 + 1) + 1) + 1) + 1)) (k1 := ((((k1 + (Int32.toNatClampNeg 900)) + 3) + 3) + (Int32.toNatClampNeg 2710))) (Mo3.bind (fun m13 => Mo3.bind (fun m14 => Mo3.le (n1 := (((((n1 + 1) + 1) + 1) + 1) + 1)) (k1 := (((((k1 + (Int32.toNatClampNeg 900)) + 3) + 3) + (Int32.toNatClampNeg 2710)) + (Int32.toNatClampNeg 4))) (Mo3.bind (fun m15 => Mo3.bind (fun m16 => Mo3.le (n1 := ((((((n1 + 1) + 1) + 1) + 1) + 1) + 1)) (k1 := ((((((k1 + (Int32.toNatClampNeg 900)) + 3) + 3) + (Int32.toNatClampNeg 2710)) + (Int32.toNatClampNeg 4)) + (Int32.toNatClampNeg 32))) (Mo3.bind (fun m17 => Mo3.bind (fun m18 => Mo3.le (n1 := (((((((n1 + 1) + 1) + 1) + 1) + 1) + 1) + 1)) (k1 := (((((((k1 + (Int32.toNatClampNeg 900)) + 3) + 3) + (Int32.toNatClampNeg 2710)) + (Int32.toNatClampNeg 4)) + (Int32.toNatClampNeg 32)) + (Int32.toNatClampNeg 5))) (Mo3.bind (fun m19 => Mo3.ok (by omega) (by omega))) (by omega) (by omega)))) (by omega) (by omega)))) (by omega) (by omega)))) (by omega) (by omega)))))) (by omega) (by omega)))
  refine fk_callI0V (rest := [tR (some (n1 + 1)), tR a0]) X hq (c_J2_init hv) n_J2_init rfl q165 q166 q125 q167 dX1_init_23 rfl rfl rfl rfl rfl (by omega) (by omega) ?_
  refine fk_putFR' X fd_0_7 q197 dX1_init_26 (fit_R _) hf (fun m7 hf => ?_)
  refine fk_aload_n X 0 dX1_init_29 rfl ?_
  have hm : (((n1 + 1) + 1) + 1) ≤ nF ∧ (((k1 + (Int32.toNatClampNeg 900)) + 3) + 3) ≤ kF := Mo3.use hf (Mo3.bind (fun u9 => Mo3.bind (fun m10 => Mo3.bind (fun m11 => Mo3.bind (fun m12 => Mo3.le (n1 := ((((n1 + 1) + 1) + 1) + 1)) (k1 := ((((k1 + (Int32.toNatClampNeg 900)) + 3) + 3) + (Int32.toNatClampNeg 2710))) (Mo3.bind (fun m13 => Mo3.bind (fun m14 => Mo3.le (n1 := (((((n1 + 1) + 1) + 1) + 1) + 1)) (k1 := (((((k1 + (Int32.toNatClampNeg 900)) + 3) + 3) + (Int32.toNatClampNeg 2710)) + (Int32.toNatClampNeg 4))) (Mo3.bind (fun m15 => Mo3.bind (fun m16 => Mo3.le (n1 := ((((((n1 + 1) + 1) + 1) + 1) + 1) + 1)) (k1 := ((((((k1 + (Int32.toNatClampNeg 900)) + 3) + 3) + (Int32.toNatClampNeg 2710)) + (Int32.toNatClampNeg 4)) + (Int32.toNatClampNeg 32))) (Mo3.bind (fun m17 => Mo3.bind (fun m18 => Mo3.le (n1 := (((((((n1 + 1) + 1) + 1) + 1) + 1) + 1) + 1)) (k1 := (((((((k1 + (Int32.toNatClampNeg 900)) + 3) + 3) + (Int32.toNatClampNeg 2710)) + (Int32.toNatClampNeg 4)) + (Int32.toNatClampNeg 32)) + (Int32.toNatClampNeg 5))) (Mo3.bind (fun m19 => Mo3.ok (by omega) (by omega))) (by omega) (by omega)))) (by omega) (by omega)))) (by omega) (by omega)))) (by omega) (by omega))))))
  refine fk_new (cs2 := (((n1 + 1) + 1) + 1) - n1) (sl2 := (((k1 + (Int32.toNatClampNeg 900)) + 3) + 3) - k1) X cl_14 q163 dX1_init_30 (by omega) (by omega) (by omega) (by omega) ?_
  refine fk_dup X dX1_init_33 rfl ?_
  obtain ⟨u9, hq, hf⟩ := bI hf
  obtain ⟨m10, hv, hf⟩ := bI hf
  have hm : (((n1 + 1) + 1) + 1) ≤ nF ∧ (((k1 + (Int32.toNatClampNeg 900)) + 3) + 3) ≤ kF := Mo3.use hf (Mo3.bind (fun m11 => Mo3.bind (fun m12 => Mo3.le (n1 := ((((n1 + 1) + 1) + 1) + 1)) (k1 := ((((k1 + (Int32.toNatClampNeg 900)) + 3) + 3) + (Int32.toNatClampNeg 2710))) (Mo3.bind (fun m13 => Mo3.bind (fun m14 => Mo3.le (n1 := (((((n1 + 1) + 1) + 1) + 1) + 1)) (k1 := (((((k1 + (Int32.toNatClampNeg 900)) + 3) + 3) + (Int32.toNatClampNeg 2710)) + (Int32.toNatClampNeg 4))) (Mo3.bind (fun m15 => Mo3.bind (fun m16 => Mo3.le (n1 := ((((((n1 + 1) + 1) + 1) + 1) + 1) + 1)) (k1 := ((((((k1 + (Int32.toNatClampNeg 900)) + 3) + 3) + (Int32.toNatClampNeg 2710)) + (Int32.toNatClampNeg 4)) + (Int32.toNatClampNeg 32))) (Mo3.bind (fun m17 => Mo3.bind (fun m18 => Mo3.le (n1 := (((((((n1 + 1) + 1) + 1) + 1) + 1) + 1) + 1)) (k1 := (((((((k1 + (Int32.toNatClampNeg 900)) + 3) + 3) + (Int32.toNatClampNeg 2710)) + (Int32.toNatClampNeg 4)) + (Int32.toNatClampNeg 32)) + (Int32.toNatClampNeg 5))) (Mo3.bind (fun m19 => Mo3.ok (by omega) (by omega))) (by omega) (by omega)))) (by omega) (by omega)))) (by omega) (by omega)))) (by omega) (by omega))))
  refine fk_callI0V (rest := [tR (some ((n1 + 1) + 1)), tR a0]) X hq (c_J2_init hv) n_J2_init rfl q165 q166 q125 q167 dX1_init_34 rfl rfl rfl rfl rfl (by omega) (by omega) ?_
  refine fk_putFR' X fd_0_8 q198 dX1_init_37 (fit_R _) hf (fun m11 hf => ?_)
  refine fk_aload_n X 0 dX1_init_40 rfl ?_
  refine fk_sipush (v := 2710) X dX1_init_41 rfl ?_
  obtain ⟨m12, hv, hf⟩ := bI hf
  have hm : ((((n1 + 1) + 1) + 1) + 1) ≤ nF ∧ ((((k1 + (Int32.toNatClampNeg 900)) + 3) + 3) + (Int32.toNatClampNeg 2710)) ≤ kF := Mo3.use hf (Mo3.bind (fun m13 => Mo3.bind (fun m14 => Mo3.le (n1 := (((((n1 + 1) + 1) + 1) + 1) + 1)) (k1 := (((((k1 + (Int32.toNatClampNeg 900)) + 3) + 3) + (Int32.toNatClampNeg 2710)) + (Int32.toNatClampNeg 4))) (Mo3.bind (fun m15 => Mo3.bind (fun m16 => Mo3.le (n1 := ((((((n1 + 1) + 1) + 1) + 1) + 1) + 1)) (k1 := ((((((k1 + (Int32.toNatClampNeg 900)) + 3) + 3) + (Int32.toNatClampNeg 2710)) + (Int32.toNatClampNeg 4)) + (Int32.toNatClampNeg 32))) (Mo3.bind (fun m17 => Mo3.bind (fun m18 => Mo3.le (n1 := (((((((n1 + 1) + 1) + 1) + 1) + 1) + 1) + 1)) (k1 := (((((((k1 + (Int32.toNatClampNeg 900)) + 3) + 3) + (Int32.toNatClampNeg 2710)) + (Int32.toNatClampNeg 4)) + (Int32.toNatClampNeg 32)) + (Int32.toNatClampNeg 5))) (Mo3.bind (fun m19 => Mo3.ok (by omega) (by omega))) (by omega) (by omega)))) (by omega) (by omega)))) (by omega) (by omega))))
  refine fk_newI 2 (by decide) (cs2 := ((((n1 + 1) + 1) + 1) + 1) - n1) (sl2 := ((((k1 + (Int32.toNatClampNeg 900)) + 3) + 3) + (Int32.toNatClampNeg 2710)) - k1) X q251 dX1_init_44 hv (by omega) (by omega) (by omega) (by omega) ?_
  refine fk_putFR' X fd_0_9 q199 dX1_init_46 (fit_A _) hf (fun m13 hf => ?_)
  refine fk_aload_n X 0 dX1_init_49 rfl ?_
  refine fk_iconst (v := 4) X dX1_init_50 rfl ?_
  obtain ⟨m14, hv, hf⟩ := bI hf
  have hm : (((((n1 + 1) + 1) + 1) + 1) + 1) ≤ nF ∧ (((((k1 + (Int32.toNatClampNeg 900)) + 3) + 3) + (Int32.toNatClampNeg 2710)) + (Int32.toNatClampNeg 4)) ≤ kF := Mo3.use hf (Mo3.bind (fun m15 => Mo3.bind (fun m16 => Mo3.le (n1 := ((((((n1 + 1) + 1) + 1) + 1) + 1) + 1)) (k1 := ((((((k1 + (Int32.toNatClampNeg 900)) + 3) + 3) + (Int32.toNatClampNeg 2710)) + (Int32.toNatClampNeg 4)) + (Int32.toNatClampNeg 32))) (Mo3.bind (fun m17 => Mo3.bind (fun m18 => Mo3.le (n1 := (((((((n1 + 1) + 1) + 1) + 1) + 1) + 1) + 1)) (k1 := (((((((k1 + (Int32.toNatClampNeg 900)) + 3) + 3) + (Int32.toNatClampNeg 2710)) + (Int32.toNatClampNeg 4)) + (Int32.toNatClampNeg 32)) + (Int32.toNatClampNeg 5))) (Mo3.bind (fun m19 => Mo3.ok (by omega) (by omega))) (by omega) (by omega)))) (by omega) (by omega))))
  refine fk_newI 0 (by decide) (cs2 := (((((n1 + 1) + 1) + 1) + 1) + 1) - n1) (sl2 := (((((k1 + (Int32.toNatClampNeg 900)) + 3) + 3) + (Int32.toNatClampNeg 2710)) + (Int32.toNatClampNeg 4)) - k1) X q252 dX1_init_51 hv (by omega) (by omega) (by omega) (by omega) ?_
  refine fk_putFR' X fd_0_16 q206 dX1_init_53 (fit_A _) hf (fun m15 hf => ?_)
  refine fk_aload_n X 0 dX1_init_56 rfl ?_
  refine fk_bipush (v := 32) X dX1_init_57 rfl ?_
  obtain ⟨m16, hv, hf⟩ := bI hf
  have hm : ((((((n1 + 1) + 1) + 1) + 1) + 1) + 1) ≤ nF ∧ ((((((k1 + (Int32.toNatClampNeg 900)) + 3) + 3) + (Int32.toNatClampNeg 2710)) + (Int32.toNatClampNeg 4)) + (Int32.toNatClampNeg 32)) ≤ kF := Mo3.use hf (Mo3.bind (fun m17 => Mo3.bind (fun m18 => Mo3.le (n1 := (((((((n1 + 1) + 1) + 1) + 1) + 1) + 1) + 1)) (k1 := (((((((k1 + (Int32.toNatClampNeg 900)) + 3) + 3) + (Int32.toNatClampNeg 2710)) + (Int32.toNatClampNeg 4)) + (Int32.toNatClampNeg 32)) + (Int32.toNatClampNeg 5))) (Mo3.bind (fun m19 => Mo3.ok (by omega) (by omega))) (by omega) (by omega))))
  refine fk_newI 0 (by decide) (cs2 := ((((((n1 + 1) + 1) + 1) + 1) + 1) + 1) - n1) (sl2 := ((((((k1 + (Int32.toNatClampNeg 900)) + 3) + 3) + (Int32.toNatClampNeg 2710)) + (Int32.toNatClampNeg 4)) + (Int32.toNatClampNeg 32)) - k1) X q252 dX1_init_59 hv (by omega) (by omega) (by omega) (by omega) ?_
  refine fk_putFR' X fd_0_18 q208 dX1_init_61 (fit_A _) hf (fun m17 hf => ?_)
  refine fk_aload_n X 0 dX1_init_64 rfl ?_
  refine fk_iconst (v := 5) X dX1_init_65 rfl ?_
  obtain ⟨m18, hv, hf⟩ := bI hf
  have hm : (((((((n1 + 1) + 1) + 1) + 1) + 1) + 1) + 1) ≤ nF ∧ (((((((k1 + (Int32.toNatClampNeg 900)) + 3) + 3) + (Int32.toNatClampNeg 2710)) + (Int32.toNatClampNeg 4)) + (Int32.toNatClampNeg 32)) + (Int32.toNatClampNeg 5)) ≤ kF := Mo3.use hf (Mo3.bind (fun m19 => Mo3.ok (by omega) (by omega)))
  refine fk_newI 0 (by decide) (cs2 := (((((((n1 + 1) + 1) + 1) + 1) + 1) + 1) + 1) - n1) (sl2 := (((((((k1 + (Int32.toNatClampNeg 900)) + 3) + 3) + (Int32.toNatClampNeg 2710)) + (Int32.toNatClampNeg 4)) + (Int32.toNatClampNeg 32)) + (Int32.toNatClampNeg 5)) - k1) X q252 dX1_init_66 hv (by omega) (by omega) (by omega) (by omega) ?_
  refine fk_putFR' X fd_0_19 q209 dX1_init_68 (fit_A _) hf (fun m19 hf => ?_)
  cases hf
  exact fk_return X Y dX1_init_71
/-! FigureKnee feed (IIIII)I -/
theorem n_X1_feed : fk_N yX1_feed 5 := ⟨by decide +kernel, by decide +kernel, by decide +kernel, by decide +kernel⟩
def f_X1_feed_L18 (x0 : Option Nat) (x1 : Int32) (x2 : Int32) (x3 : Int32) (x4 : Int32) (x5 : Int32) : Nat → Int32 → fk_M → Option (Int32 × fk_M)
  | 0, _, _ => none
  | N + 1, x6, m0 =>
  if 20 ≤ x6 then ((gI m0 x0 0 1).bind fun z1 => (pV m0 x0 0 1 (tI (z1 + 20))).bind fun m2 => (gI m2 x0 0 1).bind fun z3 => some (z3, m2)) else ((gR m0 x0 0 0).bind fun z4 => (gI m0 x0 0 1).bind fun z5 => (sI m0 z4 1 (z5 + x6) (i_b (i_ushr (if 4 ≤ x6 then (if 8 ≤ x6 then (if 12 ≤ x6 then (if 16 ≤ x6 then x5 else x4) else x3) else x2) else x1) (24 - (8 * (i_rem x6 4)))))).bind fun m6 => f_X1_feed_L18 x0 x1 x2 x3 x4 x5 N (x6 + 1) m6)
set_option maxHeartbeats 4000000 in
theorem w_X1_feed_L18 {E : fk_E} {l : Launch} {G : fk_G} {b0 n : Nat} {r : Int32} {mF : fk_M} (X : fk_X E l G b0 "FigureKnee" "feed" cX1_feed 8 1 60 0 0) (Y : fk_Y E (some .int) (some (tI r)) n mF 0 0) (x0 : Option Nat) (x1 : Int32) (x2 : Int32) (x3 : Int32) (x4 : Int32) (x5 : Int32) : ∀ (N : Nat) (x6 : Int32) (m0 : fk_M), f_X1_feed_L18 x0 x1 x2 x3 x4 x5 N x6 m0 = some (r, mF) → fk_W E 8 n m0 0 0 18 [(0, tR x0), (1, tI x1), (2, tI x2), (3, tI x3), (4, tI x4), (5, tI x5), (6, tI x6)] [] := by
  intro N
  induction N with
  | zero =>
    intro x6 m0 hf
    have hf : (none : Option (Int32 × fk_M)) = some _ := hf
    cases hf
  | succ N ih =>
    intro x6 m0 hf
    rw [f_X1_feed_L18] at hf
    refine fk_iload X 6 dX1_feed_18 rfl ?_
    refine fk_bipush (v := 20) X dX1_feed_20 rfl ?_
    refine fk_icmp_ge' X 105 dX1_feed_22 rfl hf (fun hf => ?_) (fun hf => ?_)
    · refine fk_aload_n X 0 dX1_feed_105 rfl ?_
      refine fk_dup X dX1_feed_106 rfl ?_
      refine fk_getI' X fd_0_1 q191 dX1_feed_107 hf (fun z1 hf => ?_)
      refine fk_bipush (v := 20) X dX1_feed_110 rfl ?_
      refine fk_iadd X dX1_feed_112 ?_
      refine fk_putI' X fd_0_1 q191 dX1_feed_113 (fit_I _) hf (fun m2 hf => ?_)
      refine fk_aload_n X 0 dX1_feed_116 rfl ?_
      refine fk_getI' X fd_0_1 q191 dX1_feed_117 hf (fun z3 hf => ?_)
      cases hf
      exact fk_ireturn X Y dX1_feed_120 rfl
    · refine fk_iload X 6 dX1_feed_25 rfl ?_
      refine fk_iconst (v := 4) X dX1_feed_27 rfl ?_
      have J1 : fk_W E 8 n m0 0 0 71 [(0, tR x0), (1, tI x1), (2, tI x2), (3, tI x3), (4, tI x4), (5, tI x5), (6, tI x6)] [tI (if 4 ≤ x6 then (if 8 ≤ x6 then (if 12 ≤ x6 then (if 16 ≤ x6 then x5 else x4) else x3) else x2) else x1)] := by
        refine fk_istore X [(7, tI (if 4 ≤ x6 then (if 8 ≤ x6 then (if 12 ≤ x6 then (if 16 ≤ x6 then x5 else x4) else x3) else x2) else x1)), (0, tR x0), (1, tI x1), (2, tI x2), (3, tI x3), (4, tI x4), (5, tI x5), (6, tI x6)] dX1_feed_71 rfl rfl ?_
        refine fk_aload_n X 1 dX1_feed_73 rfl ?_
        refine fk_getR' X fd_0_0 q190 dX1_feed_74 hf (fun z4 hf => ?_)
        refine fk_aload_n X 1 dX1_feed_77 rfl ?_
        refine fk_getI' X fd_0_1 q191 dX1_feed_78 hf (fun z5 hf => ?_)
        refine fk_iload X 7 dX1_feed_81 rfl ?_
        refine fk_iadd X dX1_feed_83 ?_
        refine fk_iload X 0 dX1_feed_84 rfl ?_
        refine fk_bipush (v := 24) X dX1_feed_86 rfl ?_
        refine fk_bipush (v := 8) X dX1_feed_88 rfl ?_
        refine fk_iload X 7 dX1_feed_90 rfl ?_
        refine fk_iconst (v := 4) X dX1_feed_92 rfl ?_
        refine fk_irem X dX1_feed_93 (by decide) ?_
        refine fk_imul X dX1_feed_94 ?_
        refine fk_isub X dX1_feed_95 ?_
        refine fk_iushr X dX1_feed_96 ?_
        refine fk_i2b X dX1_feed_97 ?_
        refine fk_bastore' X dX1_feed_98 hf (fun m6 hf => ?_)
        refine fk_iinc X 7 [(6, tI (x6 + 1)), (7, tI (if 4 ≤ x6 then (if 8 ≤ x6 then (if 12 ≤ x6 then (if 16 ≤ x6 then x5 else x4) else x3) else x2) else x1)), (0, tR x0), (1, tI x1), (2, tI x2), (3, tI x3), (4, tI x4), (5, tI x5)] dX1_feed_99 rfl rfl rfl rfl ?_
        refine fk_goto X 18 dX1_feed_102 rfl ?_
        exact fk_cut' (ih (x6 + 1) m6  hf) [2, 3, 4, 5, 6, 7, 0] rfl
      refine fk_icmp_ge X 35 dX1_feed_28 rfl (fun hc2 => ?_) (fun hc2 => ?_)
      · refine fk_iload X 6 dX1_feed_35 rfl ?_
        refine fk_bipush (v := 8) X dX1_feed_37 rfl ?_
        have J3 : fk_W E 8 n m0 0 0 71 [(0, tR x0), (1, tI x1), (2, tI x2), (3, tI x3), (4, tI x4), (5, tI x5), (6, tI x6)] [tI (if 8 ≤ x6 then (if 12 ≤ x6 then (if 16 ≤ x6 then x5 else x4) else x3) else x2)] := by
          simp only [if_pos hc2] at J1
          exact fk_cut' J1 [0, 1, 2, 3, 4, 5, 6] rfl
        refine fk_icmp_ge X 46 dX1_feed_39 rfl (fun hc4 => ?_) (fun hc4 => ?_)
        · refine fk_iload X 6 dX1_feed_46 rfl ?_
          refine fk_bipush (v := 12) X dX1_feed_48 rfl ?_
          have J5 : fk_W E 8 n m0 0 0 71 [(0, tR x0), (1, tI x1), (2, tI x2), (3, tI x3), (4, tI x4), (5, tI x5), (6, tI x6)] [tI (if 12 ≤ x6 then (if 16 ≤ x6 then x5 else x4) else x3)] := by
            simp only [if_pos hc4] at J3
            exact fk_cut' J3 [0, 1, 2, 3, 4, 5, 6] rfl
          refine fk_icmp_ge X 57 dX1_feed_50 rfl (fun hc6 => ?_) (fun hc6 => ?_)
          · refine fk_iload X 6 dX1_feed_57 rfl ?_
            refine fk_bipush (v := 16) X dX1_feed_59 rfl ?_
            have J7 : fk_W E 8 n m0 0 0 71 [(0, tR x0), (1, tI x1), (2, tI x2), (3, tI x3), (4, tI x4), (5, tI x5), (6, tI x6)] [tI (if 16 ≤ x6 then x5 else x4)] := by
              simp only [if_pos hc6] at J5
              exact fk_cut' J5 [0, 1, 2, 3, 4, 5, 6] rfl
            refine fk_icmp_ge X 69 dX1_feed_61 rfl (fun hc8 => ?_) (fun hc8 => ?_)
            · refine fk_iload X 5 dX1_feed_69 rfl ?_
              simp only [if_pos hc8] at J7
              exact fk_cut' J7 [0, 1, 2, 3, 4, 5, 6] rfl
            · refine fk_iload X 4 dX1_feed_64 rfl ?_
              refine fk_goto X 71 dX1_feed_66 rfl ?_
              simp only [if_neg hc8] at J7
              exact fk_cut' J7 [0, 1, 2, 3, 4, 5, 6] rfl
          · refine fk_iload_n X 3 dX1_feed_53 rfl ?_
            refine fk_goto X 71 dX1_feed_54 rfl ?_
            simp only [if_neg hc6] at J5
            exact fk_cut' J5 [0, 1, 2, 3, 4, 5, 6] rfl
        · refine fk_iload_n X 2 dX1_feed_42 rfl ?_
          refine fk_goto X 71 dX1_feed_43 rfl ?_
          simp only [if_neg hc4] at J3
          exact fk_cut' J3 [0, 1, 2, 3, 4, 5, 6] rfl
      · refine fk_iload_n X 1 dX1_feed_31 rfl ?_
        refine fk_goto X 71 dX1_feed_32 rfl ?_
        simp only [if_neg hc2] at J1
        exact fk_cut' J1 [0, 1, 2, 3, 4, 5, 6] rfl
def f_X1_feed (a0 : Option Nat) (a1 : Int32) (a2 : Int32) (a3 : Int32) (a4 : Int32) (a5 : Int32) (m0 : fk_M) : Option (Int32 × fk_M) :=
  (gI m0 a0 0 1).bind fun z1 => if (z1 + 20) ≤ 900 then (f_X1_feed_L18 a0 a1 a2 a3 a4 a5 fk_fuel 0 m0) else (some ((-1), m0))
set_option maxHeartbeats 4000000 in
theorem c_X1_feed {l : Launch} {G : fk_G} {b0 : Nat} {n : Nat} {a0 : Option Nat} {a1 : Int32} {a2 : Int32} {a3 : Int32} {a4 : Int32} {a5 : Int32} {m0 : fk_M} {r : Int32} {mF : fk_M} (hf : f_X1_feed a0 a1 a2 a3 a4 a5 m0 = some (r, mF)) : fk_Ct l G b0 yX1_feed cX1_feed 8 (some .int) 1 60 [tR a0, tI a1, tI a2, tI a3, tI a4, tI a5] n m0 (some (tI r)) n mF 0 0 := by
  refine fk_enter n_X1_feed.1 rfl ?_
  intro E X0 Y
  have X : fk_X E l G b0 "FigureKnee" "feed" cX1_feed 8 1 60 0 0 := X0
  show fk_W E 8 n m0 0 0 0 [(0, tR a0), (1, tI a1), (2, tI a2), (3, tI a3), (4, tI a4), (5, tI a5)] []
  unfold f_X1_feed at hf
  refine fk_aload_n X 0 dX1_feed_0 rfl ?_
  refine fk_getI' X fd_0_1 q191 dX1_feed_1 hf (fun z1 hf => ?_)
  refine fk_bipush (v := 20) X dX1_feed_4 rfl ?_
  refine fk_iadd X dX1_feed_6 ?_
  refine fk_sipush (v := 900) X dX1_feed_7 rfl ?_
  refine fk_icmp_le' X 15 dX1_feed_10 rfl hf (fun hf => ?_) (fun hf => ?_)
  · refine fk_iconst (v := 0) X dX1_feed_15 rfl ?_
    refine fk_istore X [(6, tI 0), (0, tR a0), (1, tI a1), (2, tI a2), (3, tI a3), (4, tI a4), (5, tI a5)] dX1_feed_16 rfl rfl ?_
    exact fk_cut' (w_X1_feed_L18 X Y a0 a1 a2 a3 a4 a5 fk_fuel 0 m0 hf) [1, 2, 3, 4, 5, 6, 0] rfl
  · refine fk_iconst (v := (-1)) X dX1_feed_13 rfl ?_
    cases hf
    exact fk_ireturn X Y dX1_feed_14 rfl
/-! FigureKnee refused (I)I -/
theorem n_X1_refused : fk_N yX1_refused 1 := ⟨by decide +kernel, by decide +kernel, by decide +kernel, by decide +kernel⟩
def f_X1_refused (a0 : Option Nat) (a1 : Int32) (m0 : fk_M) : Option (Int32 × fk_M) :=
  (pV m0 a0 0 4 (tI a1)).bind fun m1 => (pV m1 a0 0 3 (tI (-1))).bind fun m2 => some ((-1), m2)
set_option maxHeartbeats 4000000 in
theorem c_X1_refused {l : Launch} {G : fk_G} {b0 : Nat} {n : Nat} {a0 : Option Nat} {a1 : Int32} {m0 : fk_M} {r : Int32} {mF : fk_M} (hf : f_X1_refused a0 a1 m0 = some (r, mF)) : fk_Ct l G b0 yX1_refused cX1_refused 2 (some .int) 1 60 [tR a0, tI a1] n m0 (some (tI r)) n mF 0 0 := by
  refine fk_enter n_X1_refused.1 rfl ?_
  intro E X0 Y
  have X : fk_X E l G b0 "FigureKnee" "refused" cX1_refused 2 1 60 0 0 := X0
  show fk_W E 2 n m0 0 0 0 [(0, tR a0), (1, tI a1)] []
  unfold f_X1_refused at hf
  refine fk_aload_n X 0 dX1_refused_0 rfl ?_
  refine fk_iload_n X 1 dX1_refused_1 rfl ?_
  refine fk_putI' X fd_0_4 q194 dX1_refused_2 (fit_I _) hf (fun m1 hf => ?_)
  refine fk_aload_n X 0 dX1_refused_5 rfl ?_
  refine fk_iconst (v := (-1)) X dX1_refused_6 rfl ?_
  refine fk_putI' X fd_0_3 q193 dX1_refused_7 (fit_I _) hf (fun m2 hf => ?_)
  refine fk_iconst (v := (-1)) X dX1_refused_10 rfl ?_
  cases hf
  exact fk_ireturn X Y dX1_refused_11 rfl
/-! FigureKnee pairs ()I -/
theorem n_X1_pairs : fk_N yX1_pairs 0 := ⟨by decide +kernel, by decide +kernel, by decide +kernel, by decide +kernel⟩
def f_X1_pairs (a0 : Option Nat) (m : fk_M) : Option Int32 :=
  (gR m a0 0 5).bind fun z1 => (gR m z1 4 4).bind fun z2 => (isO m z2 14).bind fun u3 => (f_J2_size z2 m).bind fun z4 => some z4
set_option maxHeartbeats 4000000 in
theorem c_X1_pairs {l : Launch} {G : fk_G} {b0 : Nat} {n : Nat} {a0 : Option Nat} {m : fk_M} {r : Int32} (hf : f_X1_pairs a0 m = some r) : fk_Ct l G b0 yX1_pairs cX1_pairs 1 (some .int) 2 80 [tR a0] n m (some (tI r)) n m 0 0 := by
  refine fk_enter n_X1_pairs.1 rfl ?_
  intro E X0 Y
  have X : fk_X E l G b0 "FigureKnee" "pairs" cX1_pairs 1 2 80 0 0 := X0
  show fk_W E 1 n m 0 0 0 [(0, tR a0)] []
  unfold f_X1_pairs at hf
  refine fk_aload_n X 0 dX1_pairs_0 rfl ?_
  refine fk_getR' X fd_0_5 q195 dX1_pairs_1 hf (fun z1 hf => ?_)
  refine fk_getR' X fd_4_4 q310 dX1_pairs_4 hf (fun z2 hf => ?_)
  obtain ⟨u3, hq, hf⟩ := bI hf
  obtain ⟨z4, hv, hf⟩ := bI hf
  refine fk_callV0I (ci := 14) (rest := []) X hq rfl (c_J2_size hv) n_J2_size q1000 q699 q700 q125 q701 rfl dX1_pairs_7 rfl rfl rfl rfl rfl (Nat.le_refl _) (Nat.le_refl _) ?_
  cases hf
  exact fk_ireturn X Y dX1_pairs_10 rfl
/-! FigureKnee well (I)I -/
theorem n_X1_well : fk_N yX1_well 1 := ⟨by decide +kernel, by decide +kernel, by decide +kernel, by decide +kernel⟩
def f_X1_well (a0 : Option Nat) (a1 : Int32) (m0 : fk_M) : Option (Int32 × fk_M) :=
  (pV m0 a0 0 4 (tI 0)).bind fun m1 => (pV m1 a0 0 3 (tI (-1))).bind fun m2 => some (a1, m2)
set_option maxHeartbeats 4000000 in
theorem c_X1_well {l : Launch} {G : fk_G} {b0 : Nat} {n : Nat} {a0 : Option Nat} {a1 : Int32} {m0 : fk_M} {r : Int32} {mF : fk_M} (hf : f_X1_well a0 a1 m0 = some (r, mF)) : fk_Ct l G b0 yX1_well cX1_well 2 (some .int) 1 60 [tR a0, tI a1] n m0 (some (tI r)) n mF 0 0 := by
  refine fk_enter n_X1_well.1 rfl ?_
  intro E X0 Y
  have X : fk_X E l G b0 "FigureKnee" "well" cX1_well 2 1 60 0 0 := X0
  show fk_W E 2 n m0 0 0 0 [(0, tR a0), (1, tI a1)] []
  unfold f_X1_well at hf
  refine fk_aload_n X 0 dX1_well_0 rfl ?_
  refine fk_iconst (v := 0) X dX1_well_1 rfl ?_
  refine fk_putI' X fd_0_4 q194 dX1_well_2 (fit_I _) hf (fun m1 hf => ?_)
  refine fk_aload_n X 0 dX1_well_5 rfl ?_
  refine fk_iconst (v := (-1)) X dX1_well_6 rfl ?_
  refine fk_putI' X fd_0_3 q193 dX1_well_7 (fit_I _) hf (fun m2 hf => ?_)
  refine fk_iload_n X 1 dX1_well_10 rfl ?_
  cases hf
  exact fk_ireturn X Y dX1_well_11 rfl
/-! FigureKnee pier (I)I -/
theorem n_X1_pier : fk_N yX1_pier 1 := ⟨by decide +kernel, by decide +kernel, by decide +kernel, by decide +kernel⟩
def f_X1_pier (g : Nat → Nat) (a0 : Option Nat) (a1 : Int32) (n1 k1 : Nat) (m0 : fk_M) : Option (Int32 × Nat × Nat × fk_M) :=
  (gI m0 a0 0 1).bind fun z1 => (f_X1_in a1 0 z1 m0).bind fun z2 => if z2 = 0 then ((isO m0 a0 0).bind fun u3 => bn2 (f_X1_refused a0 2 m0) fun z4 m5 => some (z4, n1, k1, m5)) else ((gR (fk_up (fk_up m0 n1 (oB 2 (fk_V0 tyX3))) (n1 + 1) (oB 3 (fk_V0 tyX4))) a0 0 0).bind fun z8 => (isS (some (n1 + 1))).bind fun u9 => (f_X4_init (some (n1 + 1)) z8 a1 (fk_up (fk_up m0 n1 (oB 2 (fk_V0 tyX3))) (n1 + 1) (oB 3 (fk_V0 tyX4)))).bind fun m10 => (isS (some n1)).bind fun u11 => bn3 (f_X3_init g (some n1) (some (n1 + 1)) ((n1 + 1) + 1) ((k1 + 5) + 3) m10) fun n13 k14 m12 => (pV m12 a0 0 1 (tI 0)).bind fun m15 => (isO m15 (some n1) 2).bind fun u16 => bn4 (f_X3_read g (some n1) n13 k14 m15) fun z17 n19 k20 m18 => (gI m18 (some n1) 2 3).bind fun z21 => (pV m18 a0 0 2 (tI z21)).bind fun m22 => if z17 = none then ((pV m22 a0 0 4 (tI 4)).bind fun m23 => (gI m23 (some n1) 2 4).bind fun z24 => (pV m23 a0 0 3 (tI z24)).bind fun m25 => some ((-1), n19, k20, m25)) else ((pV m22 a0 0 5 (tR z17)).bind fun m26 => (gR (fk_up m26 n19 (oB 13 (fk_V0 tyX15))) a0 0 5).bind fun z28 => (isS (some n19)).bind fun u29 => bn3 (f_X15_init (some n19) z28 (n19 + 1) (k20 + 5) (fk_up m26 n19 (oB 13 (fk_V0 tyX15)))) fun n31 k32 m30 => (pV m30 a0 0 6 (tR (some n19))).bind fun m33 => (gR m33 a0 0 6).bind fun z34 => (isO m33 z34 13).bind fun u35 => (f_X15_begins z34 m33).bind fun m36 => (gR m36 a0 0 7).bind fun z37 => (isO m36 z37 14).bind fun u38 => (f_J2_clear z37 m36).bind fun m39 => (gR m39 a0 0 8).bind fun z40 => (isO m39 z40 14).bind fun u41 => (f_J2_clear z40 m39).bind fun m42 => (isO m42 a0 0).bind fun u43 => (f_X1_pairs a0 m42).bind fun z44 => (isO m42 a0 0).bind fun u45 => bn2 (f_X1_well a0 z44 m42) fun z46 m47 => some (z46, n31, k32, m47)))
theorem mo_X1_pier (g : Nat → Nat) (a0 : Option Nat) (a1 : Int32) (n1 k1 : Nat) (m0 : fk_M) : Mo4 n1 k1 (f_X1_pier g a0 a1 n1 k1 m0) := by
  unfold f_X1_pier
  exact Mo4.bind (fun z1 => Mo4.bind (fun z2 => Mo4.ite (Mo4.bind (fun u3 => Mo4.bn2 (fun z4 m5 => Mo4.ok (by omega) (by omega)))) (Mo4.le (n1 := (n1 + 1)) (k1 := (k1 + 5)) (Mo4.le (n1 := ((n1 + 1) + 1)) (k1 := ((k1 + 5) + 3)) (Mo4.bind (fun z8 => Mo4.bind (fun u9 => Mo4.bind (fun m10 => Mo4.bind (fun u11 => Mo4.bn3 (mo_X3_init g (some n1) (some (n1 + 1)) ((n1 + 1) + 1) ((k1 + 5) + 3) m10) (fun n13 k14 m12 => Mo4.bind (fun m15 => Mo4.bind (fun u16 => Mo4.bn4 (mo_X3_read g (some n1) n13 k14 m15) (fun z17 n19 k20 m18 => Mo4.bind (fun z21 => Mo4.bind (fun m22 => Mo4.ite (Mo4.bind (fun m23 => Mo4.bind (fun z24 => Mo4.bind (fun m25 => Mo4.ok (by omega) (by omega))))) (Mo4.bind (fun m26 => Mo4.le (n1 := (n19 + 1)) (k1 := (k20 + 5)) (Mo4.bind (fun z28 => Mo4.bind (fun u29 => Mo4.bn3 (mo_X15_init (some n19) z28 (n19 + 1) (k20 + 5) (fk_up m26 n19 (oB 13 (fk_V0 tyX15)))) (fun n31 k32 m30 => Mo4.bind (fun m33 => Mo4.bind (fun z34 => Mo4.bind (fun u35 => Mo4.bind (fun m36 => Mo4.bind (fun z37 => Mo4.bind (fun u38 => Mo4.bind (fun m39 => Mo4.bind (fun z40 => Mo4.bind (fun u41 => Mo4.bind (fun m42 => Mo4.bind (fun u43 => Mo4.bind (fun z44 => Mo4.bind (fun u45 => Mo4.bn2 (fun z46 m47 => Mo4.ok (by omega) (by omega))))))))))))))))))) (by omega) (by omega)))))))))))))) (by omega) (by omega)) (by omega) (by omega))))
set_option maxHeartbeats 4000000 in
theorem c_X1_pier {l : Launch} {G : fk_G} {b0 : Nat} {n1 k1 nF kF : Nat} {a0 : Option Nat} {a1 : Int32} {m0 : fk_M} {r : Int32} {mF : fk_M} (hf : f_X1_pier G.2.2 a0 a1 n1 k1 m0 = some (r, nF, kF, mF)) : fk_Ct l G b0 yX1_pier cX1_pier 4 (some .int) 14 345 [tR a0, tI a1] n1 m0 (some (tI r)) nF mF (nF - n1) (kF - k1) := by
  refine fk_enter n_X1_pier.1 rfl ?_
  intro E X0 Y
  have X : fk_X E l G b0 "FigureKnee" "pier" cX1_pier 4 14 345 (nF - n1) (kF - k1) := X0
  show fk_W E 4 n1 m0 0 0 0 [(0, tR a0), (1, tI a1)] []
  refine fk_widen (cs2 := n1 - n1) (sl2 := k1 - k1) (Nat.zero_le _) (Nat.zero_le _) ?_
  unfold f_X1_pier at hf
  have h01 : n1 ≤ n1 := Nat.le_refl _
  have h02 : k1 ≤ k1 := Nat.le_refl _
  refine fk_iload_n X 1 dX1_pier_0 rfl ?_
  refine fk_iconst (v := 0) X dX1_pier_1 rfl ?_
  refine fk_aload_n X 0 dX1_pier_2 rfl ?_
  refine fk_getI' X fd_0_1 q191 dX1_pier_3 hf (fun z1 hf => ?_)
  obtain ⟨z2, hv, hf⟩ := bI hf
  have hm : n1 ≤ nF ∧ k1 ≤ kF := Mo4.use hf (Mo4.ite (Mo4.bind (fun u3 => Mo4.bn2 (fun z4 m5 => Mo4.ok (by omega) (by omega)))) (Mo4.le (n1 := (n1 + 1)) (k1 := (k1 + 5)) (Mo4.le (n1 := ((n1 + 1) + 1)) (k1 := ((k1 + 5) + 3)) (Mo4.bind (fun z8 => Mo4.bind (fun u9 => Mo4.bind (fun m10 => Mo4.bind (fun u11 => Mo4.bn3 (mo_X3_init G.2.2 (some n1) (some (n1 + 1)) ((n1 + 1) + 1) ((k1 + 5) + 3) m10) (fun n13 k14 m12 => Mo4.bind (fun m15 => Mo4.bind (fun u16 => Mo4.bn4 (mo_X3_read G.2.2 (some n1) n13 k14 m15) (fun z17 n19 k20 m18 => Mo4.bind (fun z21 => Mo4.bind (fun m22 => Mo4.ite (Mo4.bind (fun m23 => Mo4.bind (fun z24 => Mo4.bind (fun m25 => Mo4.ok (by omega) (by omega))))) (Mo4.bind (fun m26 => Mo4.le (n1 := (n19 + 1)) (k1 := (k20 + 5)) (Mo4.bind (fun z28 => Mo4.bind (fun u29 => Mo4.bn3 (mo_X15_init (some n19) z28 (n19 + 1) (k20 + 5) (fk_up m26 n19 (oB 13 (fk_V0 tyX15)))) (fun n31 k32 m30 => Mo4.bind (fun m33 => Mo4.bind (fun z34 => Mo4.bind (fun u35 => Mo4.bind (fun m36 => Mo4.bind (fun z37 => Mo4.bind (fun u38 => Mo4.bind (fun m39 => Mo4.bind (fun z40 => Mo4.bind (fun u41 => Mo4.bind (fun m42 => Mo4.bind (fun u43 => Mo4.bind (fun z44 => Mo4.bind (fun u45 => Mo4.bn2 (fun z46 m47 => Mo4.ok (by omega) (by omega))))))))))))))))))) (by omega) (by omega)))))))))))))) (by omega) (by omega)) (by omega) (by omega)))
  refine fk_callS0I (rest := []) X (c_X1_in hv) n_X1_in q261 q262 q122 q263 dX1_pier_6 rfl rfl rfl rfl rfl (by omega) (by omega) ?_
  refine fk_if_ne' X 18 dX1_pier_9 rfl hf (fun hf => ?_) (fun hf => ?_)
  · have hm : (n1 + 1) ≤ nF ∧ (k1 + 5) ≤ kF := Mo4.use hf (Mo4.le (n1 := ((n1 + 1) + 1)) (k1 := ((k1 + 5) + 3)) (Mo4.bind (fun z8 => Mo4.bind (fun u9 => Mo4.bind (fun m10 => Mo4.bind (fun u11 => Mo4.bn3 (mo_X3_init G.2.2 (some n1) (some (n1 + 1)) ((n1 + 1) + 1) ((k1 + 5) + 3) m10) (fun n13 k14 m12 => Mo4.bind (fun m15 => Mo4.bind (fun u16 => Mo4.bn4 (mo_X3_read G.2.2 (some n1) n13 k14 m15) (fun z17 n19 k20 m18 => Mo4.bind (fun z21 => Mo4.bind (fun m22 => Mo4.ite (Mo4.bind (fun m23 => Mo4.bind (fun z24 => Mo4.bind (fun m25 => Mo4.ok (by omega) (by omega))))) (Mo4.bind (fun m26 => Mo4.le (n1 := (n19 + 1)) (k1 := (k20 + 5)) (Mo4.bind (fun z28 => Mo4.bind (fun u29 => Mo4.bn3 (mo_X15_init (some n19) z28 (n19 + 1) (k20 + 5) (fk_up m26 n19 (oB 13 (fk_V0 tyX15)))) (fun n31 k32 m30 => Mo4.bind (fun m33 => Mo4.bind (fun z34 => Mo4.bind (fun u35 => Mo4.bind (fun m36 => Mo4.bind (fun z37 => Mo4.bind (fun u38 => Mo4.bind (fun m39 => Mo4.bind (fun z40 => Mo4.bind (fun u41 => Mo4.bind (fun m42 => Mo4.bind (fun u43 => Mo4.bind (fun z44 => Mo4.bind (fun u45 => Mo4.bn2 (fun z46 m47 => Mo4.ok (by omega) (by omega))))))))))))))))))) (by omega) (by omega)))))))))))))) (by omega) (by omega))
    refine fk_new (cs2 := (n1 + 1) - n1) (sl2 := (k1 + 5) - k1) X cl_2 q268 dX1_pier_18 (by omega) (by omega) (by omega) (by omega) ?_
    refine fk_dup X dX1_pier_21 rfl ?_
    have hm : ((n1 + 1) + 1) ≤ nF ∧ ((k1 + 5) + 3) ≤ kF := Mo4.use hf (Mo4.bind (fun z8 => Mo4.bind (fun u9 => Mo4.bind (fun m10 => Mo4.bind (fun u11 => Mo4.bn3 (mo_X3_init G.2.2 (some n1) (some (n1 + 1)) ((n1 + 1) + 1) ((k1 + 5) + 3) m10) (fun n13 k14 m12 => Mo4.bind (fun m15 => Mo4.bind (fun u16 => Mo4.bn4 (mo_X3_read G.2.2 (some n1) n13 k14 m15) (fun z17 n19 k20 m18 => Mo4.bind (fun z21 => Mo4.bind (fun m22 => Mo4.ite (Mo4.bind (fun m23 => Mo4.bind (fun z24 => Mo4.bind (fun m25 => Mo4.ok (by omega) (by omega))))) (Mo4.bind (fun m26 => Mo4.le (n1 := (n19 + 1)) (k1 := (k20 + 5)) (Mo4.bind (fun z28 => Mo4.bind (fun u29 => Mo4.bn3 (mo_X15_init (some n19) z28 (n19 + 1) (k20 + 5) (fk_up m26 n19 (oB 13 (fk_V0 tyX15)))) (fun n31 k32 m30 => Mo4.bind (fun m33 => Mo4.bind (fun z34 => Mo4.bind (fun u35 => Mo4.bind (fun m36 => Mo4.bind (fun z37 => Mo4.bind (fun u38 => Mo4.bind (fun m39 => Mo4.bind (fun z40 => Mo4.bind (fun u41 => Mo4.bind (fun m42 => Mo4.bind (fun u43 => Mo4.bind (fun z44 => Mo4.bind (fun u45 => Mo4.bn2 (fun z46 m47 => Mo4.ok (by omega) (by omega))))))))))))))))))) (by omega) (by omega))))))))))))))
    refine fk_new (cs2 := ((n1 + 1) + 1) - n1) (sl2 := ((k1 + 5) + 3) - k1) X cl_3 q270 dX1_pier_22 (by omega) (by omega) (by omega) (by omega) ?_
    refine fk_dup X dX1_pier_25 rfl ?_
    refine fk_aload_n X 0 dX1_pier_26 rfl ?_
    refine fk_getR' X fd_0_0 q190 dX1_pier_27 hf (fun z8 hf => ?_)
    refine fk_iload_n X 1 dX1_pier_30 rfl ?_
    obtain ⟨u9, hq, hf⟩ := bI hf
    obtain ⟨m10, hv, hf⟩ := bI hf
    have hm : ((n1 + 1) + 1) ≤ nF ∧ ((k1 + 5) + 3) ≤ kF := Mo4.use hf (Mo4.bind (fun u11 => Mo4.bn3 (mo_X3_init G.2.2 (some n1) (some (n1 + 1)) ((n1 + 1) + 1) ((k1 + 5) + 3) m10) (fun n13 k14 m12 => Mo4.bind (fun m15 => Mo4.bind (fun u16 => Mo4.bn4 (mo_X3_read G.2.2 (some n1) n13 k14 m15) (fun z17 n19 k20 m18 => Mo4.bind (fun z21 => Mo4.bind (fun m22 => Mo4.ite (Mo4.bind (fun m23 => Mo4.bind (fun z24 => Mo4.bind (fun m25 => Mo4.ok (by omega) (by omega))))) (Mo4.bind (fun m26 => Mo4.le (n1 := (n19 + 1)) (k1 := (k20 + 5)) (Mo4.bind (fun z28 => Mo4.bind (fun u29 => Mo4.bn3 (mo_X15_init (some n19) z28 (n19 + 1) (k20 + 5) (fk_up m26 n19 (oB 13 (fk_V0 tyX15)))) (fun n31 k32 m30 => Mo4.bind (fun m33 => Mo4.bind (fun z34 => Mo4.bind (fun u35 => Mo4.bind (fun m36 => Mo4.bind (fun z37 => Mo4.bind (fun u38 => Mo4.bind (fun m39 => Mo4.bind (fun z40 => Mo4.bind (fun u41 => Mo4.bind (fun m42 => Mo4.bind (fun u43 => Mo4.bind (fun z44 => Mo4.bind (fun u45 => Mo4.bn2 (fun z46 m47 => Mo4.ok (by omega) (by omega))))))))))))))))))) (by omega) (by omega)))))))))))
    refine fk_callI0V (rest := [tR (some (n1 + 1)), tR (some n1), tR (some n1)]) X hq (c_X4_init hv) n_X4_init rfl q272 q273 q128 q274 dX1_pier_31 rfl rfl rfl rfl rfl (by omega) (by omega) ?_
    obtain ⟨u11, hq, hf⟩ := bI hf
    obtain ⟨n13, k14, m12, hv, hf⟩ := bn3_eq hf
    have hmc := mo_X3_init G.2.2 (some n1) (some (n1 + 1)) ((n1 + 1) + 1) ((k1 + 5) + 3) m10 _ _ _ hv
    have hm : n13 ≤ nF ∧ k14 ≤ kF := Mo4.use hf (Mo4.bind (fun m15 => Mo4.bind (fun u16 => Mo4.bn4 (mo_X3_read G.2.2 (some n1) n13 k14 m15) (fun z17 n19 k20 m18 => Mo4.bind (fun z21 => Mo4.bind (fun m22 => Mo4.ite (Mo4.bind (fun m23 => Mo4.bind (fun z24 => Mo4.bind (fun m25 => Mo4.ok (by omega) (by omega))))) (Mo4.bind (fun m26 => Mo4.le (n1 := (n19 + 1)) (k1 := (k20 + 5)) (Mo4.bind (fun z28 => Mo4.bind (fun u29 => Mo4.bn3 (mo_X15_init (some n19) z28 (n19 + 1) (k20 + 5) (fk_up m26 n19 (oB 13 (fk_V0 tyX15)))) (fun n31 k32 m30 => Mo4.bind (fun m33 => Mo4.bind (fun z34 => Mo4.bind (fun u35 => Mo4.bind (fun m36 => Mo4.bind (fun z37 => Mo4.bind (fun u38 => Mo4.bind (fun m39 => Mo4.bind (fun z40 => Mo4.bind (fun u41 => Mo4.bind (fun m42 => Mo4.bind (fun u43 => Mo4.bind (fun z44 => Mo4.bind (fun u45 => Mo4.bn2 (fun z46 m47 => Mo4.ok (by omega) (by omega))))))))))))))))))) (by omega) (by omega)))))))))
    refine fk_callI1V (rest := [tR (some n1)]) (cs2 := n13 - n1) (sl2 := k14 - k1) X hq (c_X3_init hv) n_X3_init rfl q286 q287 q127 q288 dX1_pier_34 rfl rfl rfl rfl rfl (by omega) (by omega) (by omega) (by omega) ?_
    refine fk_astore_n X [(2, tR (some n1)), (0, tR a0), (1, tI a1)] dX1_pier_37 rfl rfl ?_
    refine fk_aload_n X 1 dX1_pier_38 rfl ?_
    refine fk_iconst (v := 0) X dX1_pier_39 rfl ?_
    refine fk_putI' X fd_0_1 q191 dX1_pier_40 (fit_I _) hf (fun m15 hf => ?_)
    refine fk_aload_n X 0 dX1_pier_43 rfl ?_
    obtain ⟨u16, hq, hf⟩ := bI hf
    obtain ⟨z17, n19, k20, m18, hv, hf⟩ := bn4_eq hf
    have hmc := mo_X3_read G.2.2 (some n1) n13 k14 m15 _ _ _ _ hv
    have hm : n19 ≤ nF ∧ k20 ≤ kF := Mo4.use hf (Mo4.bind (fun z21 => Mo4.bind (fun m22 => Mo4.ite (Mo4.bind (fun m23 => Mo4.bind (fun z24 => Mo4.bind (fun m25 => Mo4.ok (by omega) (by omega))))) (Mo4.bind (fun m26 => Mo4.le (n1 := (n19 + 1)) (k1 := (k20 + 5)) (Mo4.bind (fun z28 => Mo4.bind (fun u29 => Mo4.bn3 (mo_X15_init (some n19) z28 (n19 + 1) (k20 + 5) (fk_up m26 n19 (oB 13 (fk_V0 tyX15)))) (fun n31 k32 m30 => Mo4.bind (fun m33 => Mo4.bind (fun z34 => Mo4.bind (fun u35 => Mo4.bind (fun m36 => Mo4.bind (fun z37 => Mo4.bind (fun u38 => Mo4.bind (fun m39 => Mo4.bind (fun z40 => Mo4.bind (fun u41 => Mo4.bind (fun m42 => Mo4.bind (fun u43 => Mo4.bind (fun z44 => Mo4.bind (fun u45 => Mo4.bn2 (fun z46 m47 => Mo4.ok (by omega) (by omega))))))))))))))))))) (by omega) (by omega))))))
    refine fk_callV1R (ci := 2) (rest := []) (cs2 := n19 - n1) (sl2 := k20 - k1) X hq rfl (c_X3_read hv) n_X3_read q578 q579 q580 q127 q581 rfl dX1_pier_44 rfl rfl rfl rfl rfl (by omega) (by omega) (by omega) (by omega) ?_
    refine fk_astore_n X [(3, tR z17), (2, tR (some n1)), (0, tR a0), (1, tI a1)] dX1_pier_47 rfl rfl ?_
    refine fk_aload_n X 2 dX1_pier_48 rfl ?_
    refine fk_aload_n X 1 dX1_pier_49 rfl ?_
    refine fk_getN' X fd_2_3 (host := "FigureKnee") (by decide) dX1_pier_50 hf (fun z21 hf => ?_)
    refine fk_putI' X fd_0_2 q192 dX1_pier_53 (fit_I _) hf (fun m22 hf => ?_)
    refine fk_aload_n X 0 dX1_pier_56 rfl ?_
    refine fk_ifnonnull' X 75 dX1_pier_57 rfl hf (fun hf => ?_) (fun hf => ?_)
    · refine fk_aload_n X 2 dX1_pier_75 rfl ?_
      refine fk_aload_n X 0 dX1_pier_76 rfl ?_
      refine fk_putR' X fd_0_5 q195 dX1_pier_77 (fit_R _) hf (fun m26 hf => ?_)
      refine fk_aload_n X 2 dX1_pier_80 rfl ?_
      have hm : (n19 + 1) ≤ nF ∧ (k20 + 5) ≤ kF := Mo4.use hf (Mo4.bind (fun z28 => Mo4.bind (fun u29 => Mo4.bn3 (mo_X15_init (some n19) z28 (n19 + 1) (k20 + 5) (fk_up m26 n19 (oB 13 (fk_V0 tyX15)))) (fun n31 k32 m30 => Mo4.bind (fun m33 => Mo4.bind (fun z34 => Mo4.bind (fun u35 => Mo4.bind (fun m36 => Mo4.bind (fun z37 => Mo4.bind (fun u38 => Mo4.bind (fun m39 => Mo4.bind (fun z40 => Mo4.bind (fun u41 => Mo4.bind (fun m42 => Mo4.bind (fun u43 => Mo4.bind (fun z44 => Mo4.bind (fun u45 => Mo4.bn2 (fun z46 m47 => Mo4.ok (by omega) (by omega)))))))))))))))))))
      refine fk_new (cs2 := (n19 + 1) - n1) (sl2 := (k20 + 5) - k1) X cl_13 q958 dX1_pier_81 (by omega) (by omega) (by omega) (by omega) ?_
      refine fk_dup X dX1_pier_84 rfl ?_
      refine fk_aload_n X 2 dX1_pier_85 rfl ?_
      refine fk_getR' X fd_0_5 q195 dX1_pier_86 hf (fun z28 hf => ?_)
      obtain ⟨u29, hq, hf⟩ := bI hf
      obtain ⟨n31, k32, m30, hv, hf⟩ := bn3_eq hf
      have hmc := mo_X15_init (some n19) z28 (n19 + 1) (k20 + 5) (fk_up m26 n19 (oB 13 (fk_V0 tyX15))) _ _ _ hv
      have hm : n31 ≤ nF ∧ k32 ≤ kF := Mo4.use hf (Mo4.bind (fun m33 => Mo4.bind (fun z34 => Mo4.bind (fun u35 => Mo4.bind (fun m36 => Mo4.bind (fun z37 => Mo4.bind (fun u38 => Mo4.bind (fun m39 => Mo4.bind (fun z40 => Mo4.bind (fun u41 => Mo4.bind (fun m42 => Mo4.bind (fun u43 => Mo4.bind (fun z44 => Mo4.bind (fun u45 => Mo4.bn2 (fun z46 m47 => Mo4.ok (by omega) (by omega))))))))))))))))
      refine fk_callI1V (rest := [tR (some n19), tR a0]) (cs2 := n31 - n1) (sl2 := k32 - k1) X hq (c_X15_init hv) n_X15_init rfl q960 q961 q150 q962 dX1_pier_89 rfl rfl rfl rfl rfl (by omega) (by omega) (by omega) (by omega) ?_
      refine fk_putR' X fd_0_6 q196 dX1_pier_92 (fit_R _) hf (fun m33 hf => ?_)
      refine fk_aload_n X 2 dX1_pier_95 rfl ?_
      refine fk_getR' X fd_0_6 q196 dX1_pier_96 hf (fun z34 hf => ?_)
      obtain ⟨u35, hq, hf⟩ := bI hf
      obtain ⟨m36, hv, hf⟩ := bI hf
      have hm : n31 ≤ nF ∧ k32 ≤ kF := Mo4.use hf (Mo4.bind (fun z37 => Mo4.bind (fun u38 => Mo4.bind (fun m39 => Mo4.bind (fun z40 => Mo4.bind (fun u41 => Mo4.bind (fun m42 => Mo4.bind (fun u43 => Mo4.bind (fun z44 => Mo4.bind (fun u45 => Mo4.bn2 (fun z46 m47 => Mo4.ok (by omega) (by omega))))))))))))
      refine fk_callV0V (ci := 13) (rest := []) X hq rfl (c_X15_begins hv) n_X15_begins q984 q985 q986 q150 q987 rfl dX1_pier_99 rfl rfl rfl rfl rfl (by omega) (by omega) ?_
      refine fk_aload_n X 2 dX1_pier_102 rfl ?_
      refine fk_getR' X fd_0_7 q197 dX1_pier_103 hf (fun z37 hf => ?_)
      obtain ⟨u38, hq, hf⟩ := bI hf
      obtain ⟨m39, hv, hf⟩ := bI hf
      have hm : n31 ≤ nF ∧ k32 ≤ kF := Mo4.use hf (Mo4.bind (fun z40 => Mo4.bind (fun u41 => Mo4.bind (fun m42 => Mo4.bind (fun u43 => Mo4.bind (fun z44 => Mo4.bind (fun u45 => Mo4.bn2 (fun z46 m47 => Mo4.ok (by omega) (by omega)))))))))
      refine fk_callV0V (ci := 14) (rest := []) X hq rfl (c_J2_clear hv) n_J2_clear q992 q993 q994 q125 q995 rfl dX1_pier_106 rfl rfl rfl rfl rfl (by omega) (by omega) ?_
      refine fk_aload_n X 2 dX1_pier_109 rfl ?_
      refine fk_getR' X fd_0_8 q198 dX1_pier_110 hf (fun z40 hf => ?_)
      obtain ⟨u41, hq, hf⟩ := bI hf
      obtain ⟨m42, hv, hf⟩ := bI hf
      have hm : n31 ≤ nF ∧ k32 ≤ kF := Mo4.use hf (Mo4.bind (fun u43 => Mo4.bind (fun z44 => Mo4.bind (fun u45 => Mo4.bn2 (fun z46 m47 => Mo4.ok (by omega) (by omega))))))
      refine fk_callV0V (ci := 14) (rest := []) X hq rfl (c_J2_clear hv) n_J2_clear q992 q993 q994 q125 q995 rfl dX1_pier_113 rfl rfl rfl rfl rfl (by omega) (by omega) ?_
      refine fk_aload_n X 2 dX1_pier_116 rfl ?_
      refine fk_aload_n X 2 dX1_pier_117 rfl ?_
      obtain ⟨u43, hq, hf⟩ := bI hf
      obtain ⟨z44, hv, hf⟩ := bI hf
      have hm : n31 ≤ nF ∧ k32 ≤ kF := Mo4.use hf (Mo4.bind (fun u45 => Mo4.bn2 (fun z46 m47 => Mo4.ok (by omega) (by omega))))
      refine fk_callV0I (ci := 0) (rest := [tR a0]) X hq rfl (c_X1_pairs hv) n_X1_pairs q996 q998 qs24 q122 q999 rfl dX1_pier_118 rfl rfl rfl rfl rfl (by omega) (by omega) ?_
      obtain ⟨u45, hq, hf⟩ := bI hf
      obtain ⟨z46, m47, hv, hf⟩ := bn2_eq hf
      have hm : n31 ≤ nF ∧ k32 ≤ kF := Mo4.use hf (Mo4.ok (by omega) (by omega))
      refine fk_callV0I (ci := 0) (rest := []) X hq rfl (c_X1_well hv) n_X1_well q1001 q1003 qs25 q122 q1004 rfl dX1_pier_121 rfl rfl rfl rfl rfl (by omega) (by omega) ?_
      cases hf
      exact fk_ireturn X Y dX1_pier_124 rfl
    · refine fk_aload_n X 2 dX1_pier_60 rfl ?_
      refine fk_iconst (v := 4) X dX1_pier_61 rfl ?_
      refine fk_putI' X fd_0_4 q194 dX1_pier_62 (fit_I _) hf (fun m23 hf => ?_)
      refine fk_aload_n X 2 dX1_pier_65 rfl ?_
      refine fk_aload_n X 1 dX1_pier_66 rfl ?_
      refine fk_getN' X fd_2_4 (host := "FigureKnee") (by decide) dX1_pier_67 hf (fun z24 hf => ?_)
      refine fk_putI' X fd_0_3 q193 dX1_pier_70 (fit_I _) hf (fun m25 hf => ?_)
      refine fk_iconst (v := (-1)) X dX1_pier_73 rfl ?_
      cases hf
      exact fk_ireturn X Y dX1_pier_74 rfl
  · refine fk_aload_n X 0 dX1_pier_12 rfl ?_
    refine fk_iconst (v := 2) X dX1_pier_13 rfl ?_
    obtain ⟨u3, hq, hf⟩ := bI hf
    obtain ⟨z4, m5, hv, hf⟩ := bn2_eq hf
    have hm : n1 ≤ nF ∧ k1 ≤ kF := Mo4.use hf (Mo4.ok (by omega) (by omega))
    refine fk_callV0I (ci := 0) (rest := []) X hq rfl (c_X1_refused hv) n_X1_refused q264 q266 qs0 q122 q267 rfl dX1_pier_14 rfl rfl rfl rfl rfl (by omega) (by omega) ?_
    cases hf
    exact fk_ireturn X Y dX1_pier_17 rfl
/-! FigureKnee fault ()I -/
theorem n_X1_fault : fk_N yX1_fault 0 := ⟨by decide +kernel, by decide +kernel, by decide +kernel, by decide +kernel⟩
def f_X1_fault (a0 : Option Nat) (m : fk_M) : Option Int32 :=
  (gI m a0 0 2).bind fun z1 => some z1
set_option maxHeartbeats 4000000 in
theorem c_X1_fault {l : Launch} {G : fk_G} {b0 : Nat} {n : Nat} {a0 : Option Nat} {m : fk_M} {r : Int32} (hf : f_X1_fault a0 m = some r) : fk_Ct l G b0 yX1_fault cX1_fault 1 (some .int) 1 60 [tR a0] n m (some (tI r)) n m 0 0 := by
  refine fk_enter n_X1_fault.1 rfl ?_
  intro E X0 Y
  have X : fk_X E l G b0 "FigureKnee" "fault" cX1_fault 1 1 60 0 0 := X0
  show fk_W E 1 n m 0 0 0 [(0, tR a0)] []
  unfold f_X1_fault at hf
  refine fk_aload_n X 0 dX1_fault_0 rfl ?_
  refine fk_getI' X fd_0_2 q192 dX1_fault_1 hf (fun z1 hf => ?_)
  cases hf
  exact fk_ireturn X Y dX1_fault_4 rfl
/-! FigureKnee where ()I -/
theorem n_X1_where : fk_N yX1_where 0 := ⟨by decide +kernel, by decide +kernel, by decide +kernel, by decide +kernel⟩
def f_X1_where (a0 : Option Nat) (m : fk_M) : Option Int32 :=
  (gI m a0 0 3).bind fun z1 => some z1
set_option maxHeartbeats 4000000 in
theorem c_X1_where {l : Launch} {G : fk_G} {b0 : Nat} {n : Nat} {a0 : Option Nat} {m : fk_M} {r : Int32} (hf : f_X1_where a0 m = some r) : fk_Ct l G b0 yX1_where cX1_where 1 (some .int) 1 60 [tR a0] n m (some (tI r)) n m 0 0 := by
  refine fk_enter n_X1_where.1 rfl ?_
  intro E X0 Y
  have X : fk_X E l G b0 "FigureKnee" "where" cX1_where 1 1 60 0 0 := X0
  show fk_W E 1 n m 0 0 0 [(0, tR a0)] []
  unfold f_X1_where at hf
  refine fk_aload_n X 0 dX1_where_0 rfl ?_
  refine fk_getI' X fd_0_3 q193 dX1_where_1 hf (fun z1 hf => ?_)
  cases hf
  exact fk_ireturn X Y dX1_where_4 rfl
/-! FigureKnee isPair (I)Z -/
theorem n_X1_isPair : fk_N yX1_isPair 1 := ⟨by decide +kernel, by decide +kernel, by decide +kernel, by decide +kernel⟩
def f_X1_isPair (a0 : Option Nat) (a1 : Int32) (m : fk_M) : Option Int32 :=
  (gR m a0 0 5).bind fun z1 => if z1 = none then (some 0) else ((isO m a0 0).bind fun u2 => (f_X1_pairs a0 m).bind fun z3 => (f_X1_in a1 0 (z3 - 1) m).bind fun z4 => some (if z4 = 0 then (0 : Int32) else 1))
set_option maxHeartbeats 4000000 in
theorem c_X1_isPair {l : Launch} {G : fk_G} {b0 : Nat} {n : Nat} {a0 : Option Nat} {a1 : Int32} {m : fk_M} {r : Int32} (hf : f_X1_isPair a0 a1 m = some r) : fk_Ct l G b0 yX1_isPair cX1_isPair 2 (some .boolean) 3 100 [tR a0, tI a1] n m (some (tI r)) n m 0 0 := by
  refine fk_enter n_X1_isPair.1 rfl ?_
  intro E X0 Y
  have X : fk_X E l G b0 "FigureKnee" "isPair" cX1_isPair 2 3 100 0 0 := X0
  show fk_W E 2 n m 0 0 0 [(0, tR a0), (1, tI a1)] []
  unfold f_X1_isPair at hf
  refine fk_aload_n X 0 dX1_isPair_0 rfl ?_
  refine fk_getR' X fd_0_5 q195 dX1_isPair_1 hf (fun z1 hf => ?_)
  refine fk_ifnull' X 25 dX1_isPair_4 rfl hf (fun hf => ?_) (fun hf => ?_)
  · refine fk_iconst (v := 0) X dX1_isPair_25 rfl ?_
    cases hf
    exact fk_ireturn X Y dX1_isPair_26 (by decide +kernel)
  · refine fk_iload_n X 1 dX1_isPair_7 rfl ?_
    refine fk_iconst (v := 0) X dX1_isPair_8 rfl ?_
    refine fk_aload_n X 0 dX1_isPair_9 rfl ?_
    obtain ⟨u2, hq, hf⟩ := bI hf
    obtain ⟨z3, hv, hf⟩ := bI hf
    refine fk_callV0I (ci := 0) (rest := [tI 0, tI a1]) X hq rfl (c_X1_pairs hv) n_X1_pairs q996 q998 qs24 q122 q999 rfl dX1_isPair_10 rfl rfl rfl rfl rfl (Nat.le_refl _) (Nat.le_refl _) ?_
    refine fk_iconst (v := 1) X dX1_isPair_13 rfl ?_
    refine fk_isub X dX1_isPair_14 ?_
    obtain ⟨z4, hv, hf⟩ := bI hf
    refine fk_callS0I (rest := []) X (c_X1_in hv) n_X1_in q261 q262 q122 q263 dX1_isPair_15 rfl rfl rfl rfl rfl (Nat.le_refl _) (Nat.le_refl _) ?_
    have J1 : fk_W E 2 n m 0 0 26 [] [tI (if z4 = 0 then (0 : Int32) else 1)] := by
      cases hf
      exact fk_ireturn X Y dX1_isPair_26 (by (repeat' split) <;> decide +kernel)
    refine fk_if_eq X 25 dX1_isPair_18 rfl (fun hc2 => ?_) (fun hc2 => ?_)
    · refine fk_iconst (v := 0) X dX1_isPair_25 rfl ?_
      simp only [if_pos hc2] at J1
      exact fk_cut' J1 [] rfl
    · refine fk_iconst (v := 1) X dX1_isPair_21 rfl ?_
      refine fk_goto X 26 dX1_isPair_22 rfl ?_
      simp only [if_neg hc2] at J1
      exact fk_cut' J1 [] rfl
/-! FigureKnee at (I)LFigureKnee$Pair; -/
theorem n_X1_at : fk_N yX1_at 1 := ⟨by decide +kernel, by decide +kernel, by decide +kernel, by decide +kernel⟩
def f_X1_at (a0 : Option Nat) (a1 : Int32) (m : fk_M) : Option (Option Nat) :=
  (gR m a0 0 5).bind fun z1 => (gR m z1 4 4).bind fun z2 => (isO m z2 14).bind fun u3 => (f_J2_get z2 a1 m).bind fun z4 => (cst m z4 6).bind fun _ => some z4
set_option maxHeartbeats 4000000 in
theorem c_X1_at {l : Launch} {G : fk_G} {b0 : Nat} {n : Nat} {a0 : Option Nat} {a1 : Int32} {m : fk_M} {r : Option Nat} (hf : f_X1_at a0 a1 m = some r) : fk_Ct l G b0 yX1_at cX1_at 2 (some (.object "FigureKnee$Pair")) 4 124 [tR a0, tI a1] n m (some (tR r)) n m 0 0 := by
  refine fk_enter n_X1_at.1 rfl ?_
  intro E X0 Y
  have X : fk_X E l G b0 "FigureKnee" "at" cX1_at 2 4 124 0 0 := X0
  show fk_W E 2 n m 0 0 0 [(0, tR a0), (1, tI a1)] []
  unfold f_X1_at at hf
  refine fk_aload_n X 0 dX1_at_0 rfl ?_
  refine fk_getR' X fd_0_5 q195 dX1_at_1 hf (fun z1 hf => ?_)
  refine fk_getR' X fd_4_4 q310 dX1_at_4 hf (fun z2 hf => ?_)
  refine fk_iload_n X 1 dX1_at_7 rfl ?_
  obtain ⟨u3, hq, hf⟩ := bI hf
  obtain ⟨z4, hv, hf⟩ := bI hf
  refine fk_callV0R (ci := 14) (rest := []) X hq rfl (c_J2_get hv) n_J2_get q1025 q723 q724 q125 q725 rfl dX1_at_8 rfl rfl rfl rfl rfl (Nat.le_refl _) (Nat.le_refl _) ?_
  refine fk_cast' (ci := 6) X rfl q1026 dX1_at_11 hf (fun hf => ?_)
  cases hf
  exact fk_areturn X Y dX1_at_14 (by first | exact Or.inl ⟨_, rfl⟩ | exact Or.inr ⟨_, rfl⟩)
/-! FigureKnee isMore (I)Z -/
theorem n_X1_isMore : fk_N yX1_isMore 1 := ⟨by decide +kernel, by decide +kernel, by decide +kernel, by decide +kernel⟩
def f_X1_isMore (a0 : Option Nat) (a1 : Int32) (m : fk_M) : Option Int32 :=
  (gR m a0 0 5).bind fun z1 => (gI m z1 4 0).bind fun z2 => some (if (2 * a1) ≤ z2 then (0 : Int32) else 1)
set_option maxHeartbeats 4000000 in
theorem c_X1_isMore {l : Launch} {G : fk_G} {b0 : Nat} {n : Nat} {a0 : Option Nat} {a1 : Int32} {m : fk_M} {r : Int32} (hf : f_X1_isMore a0 a1 m = some r) : fk_Ct l G b0 yX1_isMore cX1_isMore 2 (some .boolean) 1 60 [tR a0, tI a1] n m (some (tI r)) n m 0 0 := by
  refine fk_enter n_X1_isMore.1 rfl ?_
  intro E X0 Y
  have X : fk_X E l G b0 "FigureKnee" "isMore" cX1_isMore 2 1 60 0 0 := X0
  show fk_W E 2 n m 0 0 0 [(0, tR a0), (1, tI a1)] []
  unfold f_X1_isMore at hf
  refine fk_iconst (v := 2) X dX1_isMore_0 rfl ?_
  refine fk_iload_n X 1 dX1_isMore_1 rfl ?_
  refine fk_imul X dX1_isMore_2 ?_
  refine fk_aload_n X 0 dX1_isMore_3 rfl ?_
  refine fk_getR' X fd_0_5 q195 dX1_isMore_4 hf (fun z1 hf => ?_)
  refine fk_getI' X fd_4_0 q300 dX1_isMore_7 hf (fun z2 hf => ?_)
  have J1 : fk_W E 2 n m 0 0 18 [] [tI (if (2 * a1) ≤ z2 then (0 : Int32) else 1)] := by
    cases hf
    exact fk_ireturn X Y dX1_isMore_18 (by (repeat' split) <;> decide +kernel)
  refine fk_icmp_le X 17 dX1_isMore_10 rfl (fun hc2 => ?_) (fun hc2 => ?_)
  · refine fk_iconst (v := 0) X dX1_isMore_17 rfl ?_
    simp only [if_pos hc2] at J1
    exact fk_cut' J1 [] rfl
  · refine fk_iconst (v := 1) X dX1_isMore_13 rfl ?_
    refine fk_goto X 18 dX1_isMore_14 rfl ?_
    simp only [if_neg hc2] at J1
    exact fk_cut' J1 [] rfl
/-! FigureKnee pair (II)I -/
theorem n_X1_pair : fk_N yX1_pair 2 := ⟨by decide +kernel, by decide +kernel, by decide +kernel, by decide +kernel⟩
def f_X1_pair_J17 (x0 : Option Nat) (m0 : fk_M) : Option (Int32 × fk_M) :=
  (isO m0 x0 0).bind fun u1 => bn2 (f_X1_refused x0 1 m0) fun z2 m3 => some (z2, m3)
set_option maxHeartbeats 4000000 in
theorem w_X1_pair_J17 {E : fk_E} {l : Launch} {G : fk_G} {b0 n : Nat} {r : Int32} {mF : fk_M} (X : fk_X E l G b0 "FigureKnee" "pair" cX1_pair 3 5 145 0 0) (Y : fk_Y E (some .int) (some (tI r)) n mF 0 0) (x0 : Option Nat)  (m0 : fk_M) (hf : f_X1_pair_J17 x0 m0 = some (r, mF)) : fk_W E 3 n m0 0 0 17 [(0, tR x0)] [] := by
  unfold f_X1_pair_J17 at hf
  refine fk_aload_n X 0 dX1_pair_17 rfl ?_
  refine fk_iconst (v := 1) X dX1_pair_18 rfl ?_
  obtain ⟨u1, hq, hf⟩ := bI hf
  obtain ⟨z2, m3, hv, hf⟩ := bn2_eq hf
  refine fk_callV0I (ci := 0) (rest := []) X hq rfl (c_X1_refused hv) n_X1_refused q264 q266 qs0 q122 q267 rfl dX1_pair_19 rfl rfl rfl rfl rfl (Nat.le_refl _) (Nat.le_refl _) ?_
  cases hf
  exact fk_ireturn X Y dX1_pair_22 rfl
def f_X1_pair (a0 : Option Nat) (a1 : Int32) (a2 : Int32) (m0 : fk_M) : Option (Int32 × fk_M) :=
  (isO m0 a0 0).bind fun u1 => (f_X1_isPair a0 a1 m0).bind fun z2 => if z2 = 0 then (f_X1_pair_J17 a0 m0) else ((f_X1_in a2 0 5 m0).bind fun z3 => if z3 = 0 then (f_X1_pair_J17 a0 m0) else (if a2 = 0 then ((isO m0 a0 0).bind fun u4 => (f_X1_at a0 a1 m0).bind fun z5 => (gR m0 z5 6 1).bind fun z6 => (gNum m0 z6).bind fun z7 => (isO m0 a0 0).bind fun u8 => bn2 (f_X1_well a0 z7 m0) fun z9 m10 => some (z9, m10)) else (if a2 = 1 then ((gR m0 a0 0 6).bind fun z11 => (gR m0 z11 13 1).bind fun z12 => (aI m0 z12 1 a1).bind fun z13 => (isO m0 a0 0).bind fun u14 => bn2 (f_X1_well a0 z13 m0) fun z15 m16 => some (z15, m16)) else (if a2 = 2 then ((gR m0 a0 0 5).bind fun z17 => (gI m0 z17 4 0).bind fun z18 => (gR m0 a0 0 6).bind fun z19 => (gR m0 z19 13 1).bind fun z20 => (aI m0 z20 1 a1).bind fun z21 => (isO m0 a0 0).bind fun u22 => bn2 (f_X1_well a0 (z18 - z21) m0) fun z23 m24 => some (z23, m24)) else (if a2 = 3 then ((gR m0 a0 0 6).bind fun z25 => (gR m0 z25 13 2).bind fun z26 => (aI m0 z26 1 a1).bind fun z27 => (isO m0 a0 0).bind fun u28 => bn2 (f_X1_well a0 z27 m0) fun z29 m30 => some (z29, m30)) else (if a2 = 4 then ((isO m0 a0 0).bind fun u31 => (f_X1_at a0 a1 m0).bind fun z32 => (gI m0 z32 6 4).bind fun z33 => (isO m0 a0 0).bind fun u34 => bn2 (f_X1_well a0 z33 m0) fun z35 m36 => some (z35, m36)) else ((gR m0 a0 0 6).bind fun z37 => (gR m0 z37 13 1).bind fun z38 => (aI m0 z38 1 a1).bind fun z39 => (isO m0 a0 0).bind fun u40 => (f_X1_isMore a0 z39 m0).bind fun z41 => (isO m0 a0 0).bind fun u42 => bn2 (f_X1_well a0 (if z41 = 0 then (0 : Int32) else 1) m0) fun z43 m44 => some (z43, m44))))))))
set_option maxHeartbeats 4000000 in
theorem c_X1_pair {l : Launch} {G : fk_G} {b0 : Nat} {n : Nat} {a0 : Option Nat} {a1 : Int32} {a2 : Int32} {m0 : fk_M} {r : Int32} {mF : fk_M} (hf : f_X1_pair a0 a1 a2 m0 = some (r, mF)) : fk_Ct l G b0 yX1_pair cX1_pair 3 (some .int) 5 145 [tR a0, tI a1, tI a2] n m0 (some (tI r)) n mF 0 0 := by
  refine fk_enter n_X1_pair.1 rfl ?_
  intro E X0 Y
  have X : fk_X E l G b0 "FigureKnee" "pair" cX1_pair 3 5 145 0 0 := X0
  show fk_W E 3 n m0 0 0 0 [(0, tR a0), (1, tI a1), (2, tI a2)] []
  unfold f_X1_pair at hf
  refine fk_aload_n X 0 dX1_pair_0 rfl ?_
  refine fk_iload_n X 1 dX1_pair_1 rfl ?_
  obtain ⟨u1, hq, hf⟩ := bI hf
  obtain ⟨z2, hv, hf⟩ := bI hf
  refine fk_callV0I (ci := 0) (rest := []) X hq rfl (c_X1_isPair hv) n_X1_isPair q1017 q1019 qs26 q122 q1020 rfl dX1_pair_2 rfl rfl rfl rfl rfl (Nat.le_refl _) (Nat.le_refl _) ?_
  refine fk_if_eq' X 17 dX1_pair_5 rfl hf (fun hf => ?_) (fun hf => ?_)
  · exact fk_cut' (w_X1_pair_J17 X Y a0 m0 hf) [0] rfl
  · refine fk_iload_n X 2 dX1_pair_8 rfl ?_
    refine fk_iconst (v := 0) X dX1_pair_9 rfl ?_
    refine fk_iconst (v := 5) X dX1_pair_10 rfl ?_
    obtain ⟨z3, hv, hf⟩ := bI hf
    refine fk_callS0I (rest := []) X (c_X1_in hv) n_X1_in q261 q262 q122 q263 dX1_pair_11 rfl rfl rfl rfl rfl (Nat.le_refl _) (Nat.le_refl _) ?_
    refine fk_if_ne' X 23 dX1_pair_14 rfl hf (fun hf => ?_) (fun hf => ?_)
    · refine fk_iload_n X 2 dX1_pair_23 rfl ?_
      by_cases hs1 : a2 = 0
      · rw [if_pos hs1] at hf
        refine fk_tableIn X 60 dX1_pair_24 (by rw [hs1]; decide) (by rw [hs1]; decide) (by rw [hs1]; rfl) rfl ?_
        refine fk_aload_n X 0 dX1_pair_60 rfl ?_
        refine fk_aload_n X 0 dX1_pair_61 rfl ?_
        refine fk_iload_n X 1 dX1_pair_62 rfl ?_
        obtain ⟨u4, hq, hf⟩ := bI hf
        obtain ⟨z5, hv, hf⟩ := bI hf
        refine fk_callV0R (ci := 0) (rest := [tR a0]) X hq rfl (c_X1_at hv) n_X1_at q1021 q1023 qs27 q122 q1024 rfl dX1_pair_63 rfl rfl rfl rfl rfl (Nat.le_refl _) (Nat.le_refl _) ?_
        refine fk_getR' X fd_6_1 q745 dX1_pair_66 hf (fun z6 hf => ?_)
        refine fk_getNum' X dX1_pair_69 hf (fun z7 hf => ?_)
        obtain ⟨u8, hq, hf⟩ := bI hf
        obtain ⟨z9, m10, hv, hf⟩ := bn2_eq hf
        refine fk_callV0I (ci := 0) (rest := []) X hq rfl (c_X1_well hv) n_X1_well q1001 q1003 qs25 q122 q1004 rfl dX1_pair_72 rfl rfl rfl rfl rfl (Nat.le_refl _) (Nat.le_refl _) ?_
        cases hf
        exact fk_ireturn X Y dX1_pair_75 rfl
      rw [if_neg hs1] at hf
      by_cases hs2 : a2 = 1
      · rw [if_pos hs2] at hf
        refine fk_tableIn X 76 dX1_pair_24 (by rw [hs2]; decide) (by rw [hs2]; decide) (by rw [hs2]; rfl) rfl ?_
        refine fk_aload_n X 0 dX1_pair_76 rfl ?_
        refine fk_aload_n X 0 dX1_pair_77 rfl ?_
        refine fk_getR' X fd_0_6 q196 dX1_pair_78 hf (fun z11 hf => ?_)
        refine fk_getR' X fd_13_1 q966 dX1_pair_81 hf (fun z12 hf => ?_)
        refine fk_iload_n X 1 dX1_pair_84 rfl ?_
        refine fk_baload' X dX1_pair_85 hf (fun z13 hf => ?_)
        obtain ⟨u14, hq, hf⟩ := bI hf
        obtain ⟨z15, m16, hv, hf⟩ := bn2_eq hf
        refine fk_callV0I (ci := 0) (rest := []) X hq rfl (c_X1_well hv) n_X1_well q1001 q1003 qs25 q122 q1004 rfl dX1_pair_86 rfl rfl rfl rfl rfl (Nat.le_refl _) (Nat.le_refl _) ?_
        cases hf
        exact fk_ireturn X Y dX1_pair_89 rfl
      rw [if_neg hs2] at hf
      by_cases hs3 : a2 = 2
      · rw [if_pos hs3] at hf
        refine fk_tableIn X 90 dX1_pair_24 (by rw [hs3]; decide) (by rw [hs3]; decide) (by rw [hs3]; rfl) rfl ?_
        refine fk_aload_n X 0 dX1_pair_90 rfl ?_
        refine fk_aload_n X 0 dX1_pair_91 rfl ?_
        refine fk_getR' X fd_0_5 q195 dX1_pair_92 hf (fun z17 hf => ?_)
        refine fk_getI' X fd_4_0 q300 dX1_pair_95 hf (fun z18 hf => ?_)
        refine fk_aload_n X 0 dX1_pair_98 rfl ?_
        refine fk_getR' X fd_0_6 q196 dX1_pair_99 hf (fun z19 hf => ?_)
        refine fk_getR' X fd_13_1 q966 dX1_pair_102 hf (fun z20 hf => ?_)
        refine fk_iload_n X 1 dX1_pair_105 rfl ?_
        refine fk_baload' X dX1_pair_106 hf (fun z21 hf => ?_)
        refine fk_isub X dX1_pair_107 ?_
        obtain ⟨u22, hq, hf⟩ := bI hf
        obtain ⟨z23, m24, hv, hf⟩ := bn2_eq hf
        refine fk_callV0I (ci := 0) (rest := []) X hq rfl (c_X1_well hv) n_X1_well q1001 q1003 qs25 q122 q1004 rfl dX1_pair_108 rfl rfl rfl rfl rfl (Nat.le_refl _) (Nat.le_refl _) ?_
        cases hf
        exact fk_ireturn X Y dX1_pair_111 rfl
      rw [if_neg hs3] at hf
      by_cases hs4 : a2 = 3
      · rw [if_pos hs4] at hf
        refine fk_tableIn X 112 dX1_pair_24 (by rw [hs4]; decide) (by rw [hs4]; decide) (by rw [hs4]; rfl) rfl ?_
        refine fk_aload_n X 0 dX1_pair_112 rfl ?_
        refine fk_aload_n X 0 dX1_pair_113 rfl ?_
        refine fk_getR' X fd_0_6 q196 dX1_pair_114 hf (fun z25 hf => ?_)
        refine fk_getR' X fd_13_2 q968 dX1_pair_117 hf (fun z26 hf => ?_)
        refine fk_iload_n X 1 dX1_pair_120 rfl ?_
        refine fk_baload' X dX1_pair_121 hf (fun z27 hf => ?_)
        obtain ⟨u28, hq, hf⟩ := bI hf
        obtain ⟨z29, m30, hv, hf⟩ := bn2_eq hf
        refine fk_callV0I (ci := 0) (rest := []) X hq rfl (c_X1_well hv) n_X1_well q1001 q1003 qs25 q122 q1004 rfl dX1_pair_122 rfl rfl rfl rfl rfl (Nat.le_refl _) (Nat.le_refl _) ?_
        cases hf
        exact fk_ireturn X Y dX1_pair_125 rfl
      rw [if_neg hs4] at hf
      by_cases hs5 : a2 = 4
      · rw [if_pos hs5] at hf
        refine fk_tableIn X 126 dX1_pair_24 (by rw [hs5]; decide) (by rw [hs5]; decide) (by rw [hs5]; rfl) rfl ?_
        refine fk_aload_n X 0 dX1_pair_126 rfl ?_
        refine fk_aload_n X 0 dX1_pair_127 rfl ?_
        refine fk_iload_n X 1 dX1_pair_128 rfl ?_
        obtain ⟨u31, hq, hf⟩ := bI hf
        obtain ⟨z32, hv, hf⟩ := bI hf
        refine fk_callV0R (ci := 0) (rest := [tR a0]) X hq rfl (c_X1_at hv) n_X1_at q1021 q1023 qs27 q122 q1024 rfl dX1_pair_129 rfl rfl rfl rfl rfl (Nat.le_refl _) (Nat.le_refl _) ?_
        refine fk_getI' X fd_6_4 q753 dX1_pair_132 hf (fun z33 hf => ?_)
        obtain ⟨u34, hq, hf⟩ := bI hf
        obtain ⟨z35, m36, hv, hf⟩ := bn2_eq hf
        refine fk_callV0I (ci := 0) (rest := []) X hq rfl (c_X1_well hv) n_X1_well q1001 q1003 qs25 q122 q1004 rfl dX1_pair_135 rfl rfl rfl rfl rfl (Nat.le_refl _) (Nat.le_refl _) ?_
        cases hf
        exact fk_ireturn X Y dX1_pair_138 rfl
      rw [if_neg hs5] at hf
      refine fk_tableOut X 139 dX1_pair_24 (by have e0 := lv_neT hs1 (show (0 : Int32).toInt = 0 from by decide); have e1 := lv_neT hs2 (show (1 : Int32).toInt = 1 from by decide); have e2 := lv_neT hs3 (show (2 : Int32).toInt = 2 from by decide); have e3 := lv_neT hs4 (show (3 : Int32).toInt = 3 from by decide); have e4 := lv_neT hs5 (show (4 : Int32).toInt = 4 from by decide); omega) rfl ?_
      refine fk_aload_n X 0 dX1_pair_139 rfl ?_
      refine fk_aload_n X 0 dX1_pair_140 rfl ?_
      refine fk_aload_n X 0 dX1_pair_141 rfl ?_
      refine fk_getR' X fd_0_6 q196 dX1_pair_142 hf (fun z37 hf => ?_)
      refine fk_getR' X fd_13_1 q966 dX1_pair_145 hf (fun z38 hf => ?_)
      refine fk_iload_n X 1 dX1_pair_148 rfl ?_
      refine fk_baload' X dX1_pair_149 hf (fun z39 hf => ?_)
      obtain ⟨u40, hq, hf⟩ := bI hf
      obtain ⟨z41, hv, hf⟩ := bI hf
      refine fk_callV0I (ci := 0) (rest := [tR a0]) X hq rfl (c_X1_isMore hv) n_X1_isMore q1027 q1029 qs28 q122 q1030 rfl dX1_pair_150 rfl rfl rfl rfl rfl (Nat.le_refl _) (Nat.le_refl _) ?_
      have J6 : fk_W E 3 n m0 0 0 161 [] [tI (if z41 = 0 then (0 : Int32) else 1), tR a0] := by
        obtain ⟨u42, hq, hf⟩ := bI hf
        obtain ⟨z43, m44, hv, hf⟩ := bn2_eq hf
        refine fk_callV0I (ci := 0) (rest := []) X hq rfl (c_X1_well hv) n_X1_well q1001 q1003 qs25 q122 q1004 rfl dX1_pair_161 rfl rfl rfl rfl rfl (Nat.le_refl _) (Nat.le_refl _) ?_
        cases hf
        exact fk_ireturn X Y dX1_pair_164 rfl
      refine fk_if_eq X 160 dX1_pair_153 rfl (fun hc7 => ?_) (fun hc7 => ?_)
      · refine fk_iconst (v := 0) X dX1_pair_160 rfl ?_
        simp only [if_pos hc7] at J6
        exact fk_cut' J6 [] rfl
      · refine fk_iconst (v := 1) X dX1_pair_156 rfl ?_
        refine fk_goto X 161 dX1_pair_157 rfl ?_
        simp only [if_neg hc7] at J6
        exact fk_cut' J6 [] rfl
    · exact fk_cut' (w_X1_pair_J17 X Y a0 m0 hf) [0] rfl
/-! FigureKnee why (ZIII)I -/
theorem n_X1_why : fk_N yX1_why 4 := ⟨by decide +kernel, by decide +kernel, by decide +kernel, by decide +kernel⟩
def f_X1_why (a0 : Option Nat) (a1 : Int32) (a2 : Int32) (a3 : Int32) (a4 : Int32) (m : fk_M) : Option Int32 :=
  if a1 = 0 then (some 1) else ((f_X1_in a2 a3 a4 m).bind fun z1 => some (if z1 = 0 then (2 : Int32) else 0))
set_option maxHeartbeats 4000000 in
theorem c_X1_why {l : Launch} {G : fk_G} {b0 : Nat} {n : Nat} {a0 : Option Nat} {a1 : Int32} {a2 : Int32} {a3 : Int32} {a4 : Int32} {m : fk_M} {r : Int32} (hf : f_X1_why a0 a1 a2 a3 a4 m = some r) : fk_Ct l G b0 yX1_why cX1_why 5 (some .int) 2 82 [tR a0, tI a1, tI a2, tI a3, tI a4] n m (some (tI r)) n m 0 0 := by
  refine fk_enter n_X1_why.1 rfl ?_
  intro E X0 Y
  have X : fk_X E l G b0 "FigureKnee" "why" cX1_why 5 2 82 0 0 := X0
  show fk_W E 5 n m 0 0 0 [(0, tR a0), (1, tI a1), (2, tI a2), (3, tI a3), (4, tI a4)] []
  unfold f_X1_why at hf
  refine fk_iload_n X 1 dX1_why_0 rfl ?_
  refine fk_if_ne' X 8 dX1_why_1 rfl hf (fun hf => ?_) (fun hf => ?_)
  · refine fk_iload_n X 2 dX1_why_8 rfl ?_
    refine fk_iload_n X 3 dX1_why_9 rfl ?_
    refine fk_iload X 4 dX1_why_10 rfl ?_
    obtain ⟨z1, hv, hf⟩ := bI hf
    refine fk_callS0I (rest := []) X (c_X1_in hv) n_X1_in q261 q262 q122 q263 dX1_why_12 rfl rfl rfl rfl rfl (Nat.le_refl _) (Nat.le_refl _) ?_
    have J1 : fk_W E 5 n m 0 0 23 [] [tI (if z1 = 0 then (2 : Int32) else 0)] := by
      cases hf
      exact fk_ireturn X Y dX1_why_23 rfl
    refine fk_if_eq X 22 dX1_why_15 rfl (fun hc2 => ?_) (fun hc2 => ?_)
    · refine fk_iconst (v := 2) X dX1_why_22 rfl ?_
      simp only [if_pos hc2] at J1
      exact fk_cut' J1 [] rfl
    · refine fk_iconst (v := 0) X dX1_why_18 rfl ?_
      refine fk_goto X 23 dX1_why_19 rfl ?_
      simp only [if_neg hc2] at J1
      exact fk_cut' J1 [] rfl
  · refine fk_iconst (v := 1) X dX1_why_4 rfl ?_
    refine fk_goto X 23 dX1_why_5 rfl ?_
    cases hf
    exact fk_ireturn X Y dX1_why_23 rfl
/-! FigureKnee whyAhead (ZI)I -/
theorem n_X1_whyAhead : fk_N yX1_whyAhead 2 := ⟨by decide +kernel, by decide +kernel, by decide +kernel, by decide +kernel⟩
def f_X1_whyAhead (a0 : Option Nat) (a1 : Int32) (a2 : Int32) (m : fk_M) : Option Int32 :=
  (isO m a0 0).bind fun u1 => (f_X1_why a0 a1 a2 0 60 m).bind fun z2 => some z2
set_option maxHeartbeats 4000000 in
theorem c_X1_whyAhead {l : Launch} {G : fk_G} {b0 : Nat} {n : Nat} {a0 : Option Nat} {a1 : Int32} {a2 : Int32} {m : fk_M} {r : Int32} (hf : f_X1_whyAhead a0 a1 a2 m = some r) : fk_Ct l G b0 yX1_whyAhead cX1_whyAhead 3 (some .int) 3 106 [tR a0, tI a1, tI a2] n m (some (tI r)) n m 0 0 := by
  refine fk_enter n_X1_whyAhead.1 rfl ?_
  intro E X0 Y
  have X : fk_X E l G b0 "FigureKnee" "whyAhead" cX1_whyAhead 3 3 106 0 0 := X0
  show fk_W E 3 n m 0 0 0 [(0, tR a0), (1, tI a1), (2, tI a2)] []
  unfold f_X1_whyAhead at hf
  refine fk_aload_n X 0 dX1_whyAhead_0 rfl ?_
  refine fk_iload_n X 1 dX1_whyAhead_1 rfl ?_
  refine fk_iload_n X 2 dX1_whyAhead_2 rfl ?_
  refine fk_iconst (v := 0) X dX1_whyAhead_3 rfl ?_
  refine fk_bipush (v := 60) X dX1_whyAhead_4 rfl ?_
  obtain ⟨u1, hq, hf⟩ := bI hf
  obtain ⟨z2, hv, hf⟩ := bI hf
  refine fk_callV0I (ci := 0) (rest := []) X hq rfl (c_X1_why hv) n_X1_why q1039 q1041 qs30 q122 q1042 rfl dX1_whyAhead_6 rfl rfl rfl rfl rfl (Nat.le_refl _) (Nat.le_refl _) ?_
  cases hf
  exact fk_ireturn X Y dX1_whyAhead_9 rfl
/-! FigureKnee then (IIIIIZ)I -/
theorem n_X1_then : fk_N yX1_then 6 := ⟨by decide +kernel, by decide +kernel, by decide +kernel, by decide +kernel⟩
def f_X1_then_J29 (x0 : Option Nat) (x4 : Int32) (x5 : Int32) (y0 : Int32) (m : fk_M) : Option Int32 :=
  if x4 ≤ 0 then (some y0) else (if x4 = 0 then none else (if (i_rem x5 x4) = 0 then ((gR m x0 0 5).bind fun z1 => (gI m z1 4 0).bind fun z2 => some (z2 - y0)) else (some y0)))
set_option maxHeartbeats 4000000 in
theorem w_X1_then_J29 {E : fk_E} {l : Launch} {G : fk_G} {b0 n : Nat} {m : fk_M} {r : Int32} (X : fk_X E l G b0 "FigureKnee" "then" cX1_then 8 5 145 0 0) (Y : fk_Y E (some .int) (some (tI r)) n m 0 0) (x0 : Option Nat) (x4 : Int32) (x5 : Int32) (y0 : Int32) (hf : f_X1_then_J29 x0 x4 x5 y0 m = some r) : fk_W E 8 n m 0 0 29 [(0, tR x0), (4, tI x4), (5, tI x5)] [tI y0] := by
  unfold f_X1_then_J29 at hf
  refine fk_istore X [(7, tI y0), (0, tR x0), (4, tI x4), (5, tI x5)] dX1_then_29 rfl rfl ?_
  refine fk_iload X 2 dX1_then_31 rfl ?_
  refine fk_if_le' X 57 dX1_then_33 rfl hf (fun hf => ?_) (fun hf => ?_)
  · refine fk_iload X 0 dX1_then_57 rfl ?_
    cases hf
    exact fk_ireturn X Y dX1_then_59 rfl
  · refine fk_iload X 3 dX1_then_36 rfl ?_
    refine fk_iload X 2 dX1_then_38 rfl ?_
    refine fk_irem' X dX1_then_40 hf (fun hf => ?_)
    refine fk_if_ne' X 57 dX1_then_41 rfl hf (fun hf => ?_) (fun hf => ?_)
    · refine fk_iload X 0 dX1_then_57 rfl ?_
      cases hf
      exact fk_ireturn X Y dX1_then_59 rfl
    · refine fk_aload_n X 1 dX1_then_44 rfl ?_
      refine fk_getR' X fd_0_5 q195 dX1_then_45 hf (fun z1 hf => ?_)
      refine fk_getI' X fd_4_0 q300 dX1_then_48 hf (fun z2 hf => ?_)
      refine fk_iload X 0 dX1_then_51 rfl ?_
      refine fk_isub X dX1_then_53 ?_
      refine fk_goto X 59 dX1_then_54 rfl ?_
      cases hf
      exact fk_ireturn X Y dX1_then_59 rfl
def f_X1_then (a0 : Option Nat) (a1 : Int32) (a2 : Int32) (a3 : Int32) (a4 : Int32) (a5 : Int32) (a6 : Int32) (m : fk_M) : Option Int32 :=
  if a6 = 0 then ((isO m a0 0).bind fun u1 => (f_X1_at a0 a1 m).bind fun z2 => (gR m z2 6 1).bind fun z3 => (gR m a0 0 5).bind fun z4 => (gI m z4 4 0).bind fun z5 => (f_V_next z3 a2 a3 z5 m).bind fun z6 => f_X1_then_J29 a0 a4 a5 z6 m) else (f_X1_then_J29 a0 a4 a5 a2 m)
set_option maxHeartbeats 4000000 in
theorem c_X1_then {l : Launch} {G : fk_G} {b0 : Nat} {n : Nat} {a0 : Option Nat} {a1 : Int32} {a2 : Int32} {a3 : Int32} {a4 : Int32} {a5 : Int32} {a6 : Int32} {m : fk_M} {r : Int32} (hf : f_X1_then a0 a1 a2 a3 a4 a5 a6 m = some r) : fk_Ct l G b0 yX1_then cX1_then 8 (some .int) 5 145 [tR a0, tI a1, tI a2, tI a3, tI a4, tI a5, tI a6] n m (some (tI r)) n m 0 0 := by
  refine fk_enter n_X1_then.1 rfl ?_
  intro E X0 Y
  have X : fk_X E l G b0 "FigureKnee" "then" cX1_then 8 5 145 0 0 := X0
  show fk_W E 8 n m 0 0 0 [(0, tR a0), (1, tI a1), (2, tI a2), (3, tI a3), (4, tI a4), (5, tI a5), (6, tI a6)] []
  unfold f_X1_then at hf
  refine fk_iload X 6 dX1_then_0 rfl ?_
  refine fk_if_eq' X 9 dX1_then_2 rfl hf (fun hf => ?_) (fun hf => ?_)
  · refine fk_aload_n X 0 dX1_then_9 rfl ?_
    refine fk_iload_n X 1 dX1_then_10 rfl ?_
    obtain ⟨u1, hq, hf⟩ := bI hf
    obtain ⟨z2, hv, hf⟩ := bI hf
    refine fk_callV0R (ci := 0) (rest := []) X hq rfl (c_X1_at hv) n_X1_at q1021 q1023 qs27 q122 q1024 rfl dX1_then_11 rfl rfl rfl rfl rfl (Nat.le_refl _) (Nat.le_refl _) ?_
    refine fk_getR' X fd_6_1 q745 dX1_then_14 hf (fun z3 hf => ?_)
    refine fk_iload_n X 2 dX1_then_17 rfl ?_
    refine fk_iload_n X 3 dX1_then_18 rfl ?_
    refine fk_aload_n X 0 dX1_then_19 rfl ?_
    refine fk_getR' X fd_0_5 q195 dX1_then_20 hf (fun z4 hf => ?_)
    refine fk_getI' X fd_4_0 q300 dX1_then_23 hf (fun z5 hf => ?_)
    obtain ⟨z6, hv, hf⟩ := bI hf
    have J1 : fk_W E 8 n m 0 0 29 [(0, tR a0), (1, tI a1), (2, tI a2), (3, tI a3), (4, tI a4), (5, tI a5), (6, tI a6)] [tI z6] := by
      exact fk_cut' (w_X1_then_J29 X Y a0 a4 a5 z6 hf) [0, 4, 5] rfl
    unfold f_V_next at hv
    by_cases hq7 : isO m z3 7 = some ()
    · rw [if_pos hq7] at hv
      exact fk_callU0I (na := 3) (rest := []) (owner := "FigureKnee$Law") (x := ⟨"FigureKnee$Law", "next", "(III)I"⟩) X hq7 rfl (c_X8_next hv) n_X8_next.2 rfl q1055 q1057 q1058 q1056 q143 q1062 dX1_then_26 rfl rfl rfl rfl rfl (Nat.le_refl _) (Nat.le_refl _) J1
    rw [if_neg hq7] at hv
    by_cases hq8 : isO m z3 8 = some ()
    · rw [if_pos hq8] at hv
      exact fk_callU0I (na := 3) (rest := []) (owner := "FigureKnee$Law") (x := ⟨"FigureKnee$Law", "next", "(III)I"⟩) X hq8 rfl (c_X8_next hv) n_X8_next.2 rfl q1055 q1057 q1060 q1056 q143 q1062 dX1_then_26 rfl rfl rfl rfl rfl (Nat.le_refl _) (Nat.le_refl _) J1
    rw [if_neg hq8] at hv
    by_cases hq9 : isO m z3 9 = some ()
    · rw [if_pos hq9] at hv
      exact fk_callU0I (na := 3) (rest := []) (owner := "FigureKnee$Law") (x := ⟨"FigureKnee$Law", "next", "(III)I"⟩) X hq9 rfl (c_X8_next hv) n_X8_next.2 rfl q1055 q1057 q1059 q1056 q143 q1062 dX1_then_26 rfl rfl rfl rfl rfl (Nat.le_refl _) (Nat.le_refl _) J1
    rw [if_neg hq9] at hv
    by_cases hq10 : isO m z3 10 = some ()
    · rw [if_pos hq10] at hv
      exact fk_callU0I (na := 3) (rest := []) (owner := "FigureKnee$Law") (x := ⟨"FigureKnee$Law", "next", "(III)I"⟩) X hq10 rfl (c_X8_next hv) n_X8_next.2 rfl q1055 q1057 q1061 q1056 q143 q1062 dX1_then_26 rfl rfl rfl rfl rfl (Nat.le_refl _) (Nat.le_refl _) J1
    rw [if_neg hq10] at hv
    cases hv
  · refine fk_iload_n X 2 dX1_then_5 rfl ?_
    refine fk_goto X 29 dX1_then_6 rfl ?_
    exact fk_cut' (w_X1_then_J29 X Y a0 a4 a5 a2 hf) [0, 4, 5] rfl
/-! FigureKnee tells (IIII)V -/
theorem n_X1_tells : fk_N yX1_tells 4 := ⟨by decide +kernel, by decide +kernel, by decide +kernel, by decide +kernel⟩
def f_X1_tells_L19 (x0 : Option Nat) (x1 : Int32) (x2 : Int32) (x3 : Int32) (x4 : Int32) : Nat → Int32 → fk_M → Option fk_M
  | 0, _, _ => none
  | N + 1, x5, m0 =>
  if x4 < x5 then (some m0) else ((gR m0 x0 0 9).bind fun z1 => (gR m0 x0 0 9).bind fun z2 => (aI m0 z2 2 (x5 - 1)).bind fun z3 => (gR m0 x0 0 6).bind fun z4 => (gI m0 z4 13 4).bind fun z5 => (isO m0 x0 0).bind fun u6 => (f_X1_then x0 x1 z3 x2 x3 (z5 + x5) 0 m0).bind fun z7 => (sI m0 z1 2 x5 (i_s z7)).bind fun m8 => f_X1_tells_L19 x0 x1 x2 x3 x4 N (x5 + 1) m8)
set_option maxHeartbeats 4000000 in
theorem w_X1_tells_L19 {E : fk_E} {l : Launch} {G : fk_G} {b0 n : Nat} {mF : fk_M} (X : fk_X E l G b0 "FigureKnee" "tells" cX1_tells 6 6 172 0 0) (Y : fk_Y E none none n mF 0 0) (x0 : Option Nat) (x1 : Int32) (x2 : Int32) (x3 : Int32) (x4 : Int32) : ∀ (N : Nat) (x5 : Int32) (m0 : fk_M), f_X1_tells_L19 x0 x1 x2 x3 x4 N x5 m0 = some mF → fk_W E 6 n m0 0 0 19 [(0, tR x0), (1, tI x1), (2, tI x2), (3, tI x3), (4, tI x4), (5, tI x5)] [] := by
  intro N
  induction N with
  | zero =>
    intro x5 m0 hf
    have hf : (none : Option fk_M) = some _ := hf
    cases hf
  | succ N ih =>
    intro x5 m0 hf
    rw [f_X1_tells_L19] at hf
    refine fk_iload X 5 dX1_tells_19 rfl ?_
    refine fk_iload X 4 dX1_tells_21 rfl ?_
    refine fk_icmp_gt' X 67 dX1_tells_23 rfl hf (fun hf => ?_) (fun hf => ?_)
    · cases hf
      exact fk_return X Y dX1_tells_67
    · refine fk_aload_n X 0 dX1_tells_26 rfl ?_
      refine fk_getR' X fd_0_9 q199 dX1_tells_27 hf (fun z1 hf => ?_)
      refine fk_iload X 5 dX1_tells_30 rfl ?_
      refine fk_aload_n X 0 dX1_tells_32 rfl ?_
      refine fk_iload_n X 1 dX1_tells_33 rfl ?_
      refine fk_aload_n X 0 dX1_tells_34 rfl ?_
      refine fk_getR' X fd_0_9 q199 dX1_tells_35 hf (fun z2 hf => ?_)
      refine fk_iload X 5 dX1_tells_38 rfl ?_
      refine fk_iconst (v := 1) X dX1_tells_40 rfl ?_
      refine fk_isub X dX1_tells_41 ?_
      refine fk_saload' X dX1_tells_42 hf (fun z3 hf => ?_)
      refine fk_iload_n X 2 dX1_tells_43 rfl ?_
      refine fk_iload_n X 3 dX1_tells_44 rfl ?_
      refine fk_aload_n X 0 dX1_tells_45 rfl ?_
      refine fk_getR' X fd_0_6 q196 dX1_tells_46 hf (fun z4 hf => ?_)
      refine fk_getI' X fd_13_4 q972 dX1_tells_49 hf (fun z5 hf => ?_)
      refine fk_iload X 5 dX1_tells_52 rfl ?_
      refine fk_iadd X dX1_tells_54 ?_
      refine fk_iconst (v := 0) X dX1_tells_55 rfl ?_
      obtain ⟨u6, hq, hf⟩ := bI hf
      obtain ⟨z7, hv, hf⟩ := bI hf
      refine fk_callV0I (ci := 0) (rest := [tI x5, tR z1]) X hq rfl (c_X1_then hv) n_X1_then q1051 q1053 qs33 q122 q1054 rfl dX1_tells_56 rfl rfl rfl rfl rfl (Nat.le_refl _) (Nat.le_refl _) ?_
      refine fk_i2s X dX1_tells_59 ?_
      refine fk_sastore' X dX1_tells_60 hf (fun m8 hf => ?_)
      refine fk_iinc X 5 [(5, tI (x5 + 1)), (0, tR x0), (1, tI x1), (2, tI x2), (3, tI x3), (4, tI x4)] dX1_tells_61 rfl rfl rfl rfl ?_
      refine fk_goto X 19 dX1_tells_64 rfl ?_
      exact fk_cut' (ih (x5 + 1) m8  hf) [1, 2, 3, 4, 5, 0] rfl
def f_X1_tells (a0 : Option Nat) (a1 : Int32) (a2 : Int32) (a3 : Int32) (a4 : Int32) (m0 : fk_M) : Option fk_M :=
  (gR m0 a0 0 9).bind fun z1 => (gR m0 a0 0 6).bind fun z2 => (gR m0 z2 13 1).bind fun z3 => (aI m0 z3 1 a1).bind fun z4 => (sI m0 z1 2 0 (i_s z4)).bind fun m5 => f_X1_tells_L19 a0 a1 a2 a3 a4 fk_fuel 1 m5
set_option maxHeartbeats 4000000 in
theorem c_X1_tells {l : Launch} {G : fk_G} {b0 : Nat} {n : Nat} {a0 : Option Nat} {a1 : Int32} {a2 : Int32} {a3 : Int32} {a4 : Int32} {m0 : fk_M} {mF : fk_M} (hf : f_X1_tells a0 a1 a2 a3 a4 m0 = some mF) : fk_Ct l G b0 yX1_tells cX1_tells 6 none 6 172 [tR a0, tI a1, tI a2, tI a3, tI a4] n m0 none n mF 0 0 := by
  refine fk_enter n_X1_tells.1 rfl ?_
  intro E X0 Y
  have X : fk_X E l G b0 "FigureKnee" "tells" cX1_tells 6 6 172 0 0 := X0
  show fk_W E 6 n m0 0 0 0 [(0, tR a0), (1, tI a1), (2, tI a2), (3, tI a3), (4, tI a4)] []
  unfold f_X1_tells at hf
  refine fk_aload_n X 0 dX1_tells_0 rfl ?_
  refine fk_getR' X fd_0_9 q199 dX1_tells_1 hf (fun z1 hf => ?_)
  refine fk_iconst (v := 0) X dX1_tells_4 rfl ?_
  refine fk_aload_n X 0 dX1_tells_5 rfl ?_
  refine fk_getR' X fd_0_6 q196 dX1_tells_6 hf (fun z2 hf => ?_)
  refine fk_getR' X fd_13_1 q966 dX1_tells_9 hf (fun z3 hf => ?_)
  refine fk_iload_n X 1 dX1_tells_12 rfl ?_
  refine fk_baload' X dX1_tells_13 hf (fun z4 hf => ?_)
  refine fk_i2s X dX1_tells_14 ?_
  refine fk_sastore' X dX1_tells_15 hf (fun m5 hf => ?_)
  refine fk_iconst (v := 1) X dX1_tells_16 rfl ?_
  refine fk_istore X [(5, tI 1), (0, tR a0), (1, tI a1), (2, tI a2), (3, tI a3), (4, tI a4)] dX1_tells_17 rfl rfl ?_
  exact fk_cut' (w_X1_tells_L19 X Y a0 a1 a2 a3 a4 fk_fuel 1 m5 hf) [1, 2, 3, 4, 5, 0] rfl
/-! FigureKnee tellsOn (II)V -/
theorem n_X1_tellsOn : fk_N yX1_tellsOn 2 := ⟨by decide +kernel, by decide +kernel, by decide +kernel, by decide +kernel⟩
def f_X1_tellsOn (a0 : Option Nat) (a1 : Int32) (a2 : Int32) (m0 : fk_M) : Option fk_M :=
  (gR m0 a0 0 6).bind fun z1 => (gR m0 z1 13 2).bind fun z2 => (aI m0 z2 1 a1).bind fun z3 => (isO m0 a0 0).bind fun u4 => (f_X1_at a0 a1 m0).bind fun z5 => (gI m0 z5 6 4).bind fun z6 => (isO m0 a0 0).bind fun u7 => (f_X1_tells a0 a1 z3 z6 a2 m0).bind fun m8 => some m8
set_option maxHeartbeats 4000000 in
theorem c_X1_tellsOn {l : Launch} {G : fk_G} {b0 : Nat} {n : Nat} {a0 : Option Nat} {a1 : Int32} {a2 : Int32} {m0 : fk_M} {mF : fk_M} (hf : f_X1_tellsOn a0 a1 a2 m0 = some mF) : fk_Ct l G b0 yX1_tellsOn cX1_tellsOn 3 none 7 197 [tR a0, tI a1, tI a2] n m0 none n mF 0 0 := by
  refine fk_enter n_X1_tellsOn.1 rfl ?_
  intro E X0 Y
  have X : fk_X E l G b0 "FigureKnee" "tellsOn" cX1_tellsOn 3 7 197 0 0 := X0
  show fk_W E 3 n m0 0 0 0 [(0, tR a0), (1, tI a1), (2, tI a2)] []
  unfold f_X1_tellsOn at hf
  refine fk_aload_n X 0 dX1_tellsOn_0 rfl ?_
  refine fk_iload_n X 1 dX1_tellsOn_1 rfl ?_
  refine fk_aload_n X 0 dX1_tellsOn_2 rfl ?_
  refine fk_getR' X fd_0_6 q196 dX1_tellsOn_3 hf (fun z1 hf => ?_)
  refine fk_getR' X fd_13_2 q968 dX1_tellsOn_6 hf (fun z2 hf => ?_)
  refine fk_iload_n X 1 dX1_tellsOn_9 rfl ?_
  refine fk_baload' X dX1_tellsOn_10 hf (fun z3 hf => ?_)
  refine fk_aload_n X 0 dX1_tellsOn_11 rfl ?_
  refine fk_iload_n X 1 dX1_tellsOn_12 rfl ?_
  obtain ⟨u4, hq, hf⟩ := bI hf
  obtain ⟨z5, hv, hf⟩ := bI hf
  refine fk_callV0R (ci := 0) (rest := [tI z3, tI a1, tR a0]) X hq rfl (c_X1_at hv) n_X1_at q1021 q1023 qs27 q122 q1024 rfl dX1_tellsOn_13 rfl rfl rfl rfl rfl (Nat.le_refl _) (Nat.le_refl _) ?_
  refine fk_getI' X fd_6_4 q753 dX1_tellsOn_16 hf (fun z6 hf => ?_)
  refine fk_iload_n X 2 dX1_tellsOn_19 rfl ?_
  obtain ⟨u7, hq, hf⟩ := bI hf
  obtain ⟨m8, hv, hf⟩ := bI hf
  refine fk_callV0V (ci := 0) (rest := []) X hq rfl (c_X1_tells hv) n_X1_tells q1047 q1049 qs32 q122 q1050 rfl dX1_tellsOn_20 rfl rfl rfl rfl rfl (Nat.le_refl _) (Nat.le_refl _) ?_
  cases hf
  exact fk_return X Y dX1_tellsOn_23
/-! FigureKnee says (II)I -/
theorem n_X1_says : fk_N yX1_says 2 := ⟨by decide +kernel, by decide +kernel, by decide +kernel, by decide +kernel⟩
def f_X1_says (a0 : Option Nat) (a1 : Int32) (a2 : Int32) (m0 : fk_M) : Option (Int32 × fk_M) :=
  (isO m0 a0 0).bind fun u1 => (f_X1_isPair a0 a1 m0).bind fun z2 => (isO m0 a0 0).bind fun u3 => (f_X1_whyAhead a0 z2 a2 m0).bind fun z4 => if z4 ≤ 0 then ((isO m0 a0 0).bind fun u5 => (f_X1_tellsOn a0 a1 a2 m0).bind fun m6 => (gR m6 a0 0 9).bind fun z7 => (aI m6 z7 2 a2).bind fun z8 => (isO m6 a0 0).bind fun u9 => bn2 (f_X1_well a0 z8 m6) fun z10 m11 => some (z10, m11)) else ((isO m0 a0 0).bind fun u12 => bn2 (f_X1_refused a0 z4 m0) fun z13 m14 => some (z13, m14))
set_option maxHeartbeats 4000000 in
theorem c_X1_says {l : Launch} {G : fk_G} {b0 : Nat} {n : Nat} {a0 : Option Nat} {a1 : Int32} {a2 : Int32} {m0 : fk_M} {r : Int32} {mF : fk_M} (hf : f_X1_says a0 a1 a2 m0 = some (r, mF)) : fk_Ct l G b0 yX1_says cX1_says 4 (some .int) 8 219 [tR a0, tI a1, tI a2] n m0 (some (tI r)) n mF 0 0 := by
  refine fk_enter n_X1_says.1 rfl ?_
  intro E X0 Y
  have X : fk_X E l G b0 "FigureKnee" "says" cX1_says 4 8 219 0 0 := X0
  show fk_W E 4 n m0 0 0 0 [(0, tR a0), (1, tI a1), (2, tI a2)] []
  unfold f_X1_says at hf
  refine fk_aload_n X 0 dX1_says_0 rfl ?_
  refine fk_aload_n X 0 dX1_says_1 rfl ?_
  refine fk_iload_n X 1 dX1_says_2 rfl ?_
  obtain ⟨u1, hq, hf⟩ := bI hf
  obtain ⟨z2, hv, hf⟩ := bI hf
  refine fk_callV0I (ci := 0) (rest := [tR a0]) X hq rfl (c_X1_isPair hv) n_X1_isPair q1017 q1019 qs26 q122 q1020 rfl dX1_says_3 rfl rfl rfl rfl rfl (Nat.le_refl _) (Nat.le_refl _) ?_
  refine fk_iload_n X 2 dX1_says_6 rfl ?_
  obtain ⟨u3, hq, hf⟩ := bI hf
  obtain ⟨z4, hv, hf⟩ := bI hf
  refine fk_callV0I (ci := 0) (rest := []) X hq rfl (c_X1_whyAhead hv) n_X1_whyAhead q1035 q1037 qs29 q122 q1038 rfl dX1_says_7 rfl rfl rfl rfl rfl (Nat.le_refl _) (Nat.le_refl _) ?_
  refine fk_istore_n X [(3, tI z4), (0, tR a0), (1, tI a1), (2, tI a2)] dX1_says_10 rfl rfl ?_
  refine fk_iload_n X 0 dX1_says_11 rfl ?_
  refine fk_if_le' X 21 dX1_says_12 rfl hf (fun hf => ?_) (fun hf => ?_)
  · refine fk_aload_n X 1 dX1_says_21 rfl ?_
    refine fk_iload_n X 2 dX1_says_22 rfl ?_
    refine fk_iload_n X 3 dX1_says_23 rfl ?_
    obtain ⟨u5, hq, hf⟩ := bI hf
    obtain ⟨m6, hv, hf⟩ := bI hf
    refine fk_callV0V (ci := 0) (rest := []) X hq rfl (c_X1_tellsOn hv) n_X1_tellsOn q1043 q1045 qs31 q122 q1046 rfl dX1_says_24 rfl rfl rfl rfl rfl (Nat.le_refl _) (Nat.le_refl _) ?_
    refine fk_aload_n X 1 dX1_says_27 rfl ?_
    refine fk_aload_n X 1 dX1_says_28 rfl ?_
    refine fk_getR' X fd_0_9 q199 dX1_says_29 hf (fun z7 hf => ?_)
    refine fk_iload_n X 3 dX1_says_32 rfl ?_
    refine fk_saload' X dX1_says_33 hf (fun z8 hf => ?_)
    obtain ⟨u9, hq, hf⟩ := bI hf
    obtain ⟨z10, m11, hv, hf⟩ := bn2_eq hf
    refine fk_callV0I (ci := 0) (rest := []) X hq rfl (c_X1_well hv) n_X1_well q1001 q1003 qs25 q122 q1004 rfl dX1_says_34 rfl rfl rfl rfl rfl (Nat.le_refl _) (Nat.le_refl _) ?_
    cases hf
    exact fk_ireturn X Y dX1_says_37 rfl
  · refine fk_aload_n X 1 dX1_says_15 rfl ?_
    refine fk_iload_n X 0 dX1_says_16 rfl ?_
    obtain ⟨u12, hq, hf⟩ := bI hf
    obtain ⟨z13, m14, hv, hf⟩ := bn2_eq hf
    refine fk_callV0I (ci := 0) (rest := []) X hq rfl (c_X1_refused hv) n_X1_refused q264 q266 qs0 q122 q267 rfl dX1_says_17 rfl rfl rfl rfl rfl (Nat.le_refl _) (Nat.le_refl _) ?_
    cases hf
    exact fk_ireturn X Y dX1_says_20 rfl
/-! FigureKnee saysAll (II)I -/
theorem n_X1_saysAll : fk_N yX1_saysAll 2 := ⟨by decide +kernel, by decide +kernel, by decide +kernel, by decide +kernel⟩
def f_X1_saysAll_L33 (x0 : Option Nat) (x2 : Int32) (m0 : fk_M) : Nat → Int32 → Int32 → Option (Int32 × fk_M)
  | 0, _, _ => none
  | N + 1, x4, x5 =>
  if x2 < x5 then ((isO m0 x0 0).bind fun u1 => bn2 (f_X1_well x0 x4 m0) fun z2 m3 => some (z2, m3)) else ((gR m0 x0 0 9).bind fun z4 => (aI m0 z4 2 x5).bind fun z5 => f_X1_saysAll_L33 x0 x2 m0 N (x4 + z5) (x5 + 1))
set_option maxHeartbeats 4000000 in
theorem w_X1_saysAll_L33 {E : fk_E} {l : Launch} {G : fk_G} {b0 n : Nat} {r : Int32} {mF : fk_M} (X : fk_X E l G b0 "FigureKnee" "saysAll" cX1_saysAll 6 8 219 0 0) (Y : fk_Y E (some .int) (some (tI r)) n mF 0 0) (x0 : Option Nat) (x2 : Int32) (m0 : fk_M) : ∀ (N : Nat) (x4 : Int32) (x5 : Int32), f_X1_saysAll_L33 x0 x2 m0 N x4 x5 = some (r, mF) → fk_W E 6 n m0 0 0 33 [(0, tR x0), (2, tI x2), (4, tI x4), (5, tI x5)] [] := by
  intro N
  induction N with
  | zero =>
    intro x4 x5 hf
    have hf : (none : Option (Int32 × fk_M)) = some _ := hf
    cases hf
  | succ N ih =>
    intro x4 x5 hf
    rw [f_X1_saysAll_L33] at hf
    refine fk_iload X 3 dX1_saysAll_33 rfl ?_
    refine fk_iload_n X 1 dX1_saysAll_35 rfl ?_
    refine fk_icmp_gt' X 57 dX1_saysAll_36 rfl hf (fun hf => ?_) (fun hf => ?_)
    · refine fk_aload_n X 0 dX1_saysAll_57 rfl ?_
      refine fk_iload X 2 dX1_saysAll_58 rfl ?_
      obtain ⟨u1, hq, hf⟩ := bI hf
      obtain ⟨z2, m3, hv, hf⟩ := bn2_eq hf
      refine fk_callV0I (ci := 0) (rest := []) X hq rfl (c_X1_well hv) n_X1_well q1001 q1003 qs25 q122 q1004 rfl dX1_saysAll_60 rfl rfl rfl rfl rfl (Nat.le_refl _) (Nat.le_refl _) ?_
      cases hf
      exact fk_ireturn X Y dX1_saysAll_63 rfl
    · refine fk_iload X 2 dX1_saysAll_39 rfl ?_
      refine fk_aload_n X 0 dX1_saysAll_41 rfl ?_
      refine fk_getR' X fd_0_9 q199 dX1_saysAll_42 hf (fun z4 hf => ?_)
      refine fk_iload X 3 dX1_saysAll_45 rfl ?_
      refine fk_saload' X dX1_saysAll_47 hf (fun z5 hf => ?_)
      refine fk_iadd X dX1_saysAll_48 ?_
      refine fk_istore X [(4, tI (x4 + z5)), (0, tR x0), (2, tI x2), (5, tI x5)] dX1_saysAll_49 rfl rfl ?_
      refine fk_iinc X 3 [(5, tI (x5 + 1)), (4, tI (x4 + z5)), (0, tR x0), (2, tI x2)] dX1_saysAll_51 rfl rfl rfl rfl ?_
      refine fk_goto X 33 dX1_saysAll_54 rfl ?_
      exact fk_cut' (ih (x4 + z5) (x5 + 1)  hf) [2, 3, 1, 0] rfl
def f_X1_saysAll (a0 : Option Nat) (a1 : Int32) (a2 : Int32) (m0 : fk_M) : Option (Int32 × fk_M) :=
  (isO m0 a0 0).bind fun u1 => (f_X1_isPair a0 a1 m0).bind fun z2 => (isO m0 a0 0).bind fun u3 => (f_X1_whyAhead a0 z2 a2 m0).bind fun z4 => if z4 ≤ 0 then ((isO m0 a0 0).bind fun u5 => (f_X1_tellsOn a0 a1 a2 m0).bind fun m6 => f_X1_saysAll_L33 a0 a2 m6 fk_fuel 0 1) else ((isO m0 a0 0).bind fun u7 => bn2 (f_X1_refused a0 z4 m0) fun z8 m9 => some (z8, m9))
set_option maxHeartbeats 4000000 in
theorem c_X1_saysAll {l : Launch} {G : fk_G} {b0 : Nat} {n : Nat} {a0 : Option Nat} {a1 : Int32} {a2 : Int32} {m0 : fk_M} {r : Int32} {mF : fk_M} (hf : f_X1_saysAll a0 a1 a2 m0 = some (r, mF)) : fk_Ct l G b0 yX1_saysAll cX1_saysAll 6 (some .int) 8 219 [tR a0, tI a1, tI a2] n m0 (some (tI r)) n mF 0 0 := by
  refine fk_enter n_X1_saysAll.1 rfl ?_
  intro E X0 Y
  have X : fk_X E l G b0 "FigureKnee" "saysAll" cX1_saysAll 6 8 219 0 0 := X0
  show fk_W E 6 n m0 0 0 0 [(0, tR a0), (1, tI a1), (2, tI a2)] []
  unfold f_X1_saysAll at hf
  refine fk_aload_n X 0 dX1_saysAll_0 rfl ?_
  refine fk_aload_n X 0 dX1_saysAll_1 rfl ?_
  refine fk_iload_n X 1 dX1_saysAll_2 rfl ?_
  obtain ⟨u1, hq, hf⟩ := bI hf
  obtain ⟨z2, hv, hf⟩ := bI hf
  refine fk_callV0I (ci := 0) (rest := [tR a0]) X hq rfl (c_X1_isPair hv) n_X1_isPair q1017 q1019 qs26 q122 q1020 rfl dX1_saysAll_3 rfl rfl rfl rfl rfl (Nat.le_refl _) (Nat.le_refl _) ?_
  refine fk_iload_n X 2 dX1_saysAll_6 rfl ?_
  obtain ⟨u3, hq, hf⟩ := bI hf
  obtain ⟨z4, hv, hf⟩ := bI hf
  refine fk_callV0I (ci := 0) (rest := []) X hq rfl (c_X1_whyAhead hv) n_X1_whyAhead q1035 q1037 qs29 q122 q1038 rfl dX1_saysAll_7 rfl rfl rfl rfl rfl (Nat.le_refl _) (Nat.le_refl _) ?_
  refine fk_istore_n X [(3, tI z4), (0, tR a0), (1, tI a1), (2, tI a2)] dX1_saysAll_10 rfl rfl ?_
  refine fk_iload_n X 0 dX1_saysAll_11 rfl ?_
  refine fk_if_le' X 21 dX1_saysAll_12 rfl hf (fun hf => ?_) (fun hf => ?_)
  · refine fk_aload_n X 1 dX1_saysAll_21 rfl ?_
    refine fk_iload_n X 2 dX1_saysAll_22 rfl ?_
    refine fk_iload_n X 3 dX1_saysAll_23 rfl ?_
    obtain ⟨u5, hq, hf⟩ := bI hf
    obtain ⟨m6, hv, hf⟩ := bI hf
    refine fk_callV0V (ci := 0) (rest := []) X hq rfl (c_X1_tellsOn hv) n_X1_tellsOn q1043 q1045 qs31 q122 q1046 rfl dX1_saysAll_24 rfl rfl rfl rfl rfl (Nat.le_refl _) (Nat.le_refl _) ?_
    refine fk_iconst (v := 0) X dX1_saysAll_27 rfl ?_
    refine fk_istore X [(4, tI 0), (3, tI z4), (0, tR a0), (1, tI a1), (2, tI a2)] dX1_saysAll_28 rfl rfl ?_
    refine fk_iconst (v := 1) X dX1_saysAll_30 rfl ?_
    refine fk_istore X [(5, tI 1), (4, tI 0), (3, tI z4), (0, tR a0), (1, tI a1), (2, tI a2)] dX1_saysAll_31 rfl rfl ?_
    exact fk_cut' (w_X1_saysAll_L33 X Y a0 a2 m6 fk_fuel 0 1 hf) [3, 5, 1, 0] rfl
  · refine fk_aload_n X 1 dX1_saysAll_15 rfl ?_
    refine fk_iload_n X 0 dX1_saysAll_16 rfl ?_
    obtain ⟨u7, hq, hf⟩ := bI hf
    obtain ⟨z8, m9, hv, hf⟩ := bn2_eq hf
    refine fk_callV0I (ci := 0) (rest := []) X hq rfl (c_X1_refused hv) n_X1_refused q264 q266 qs0 q122 q267 rfl dX1_saysAll_17 rfl rfl rfl rfl rfl (Nat.le_refl _) (Nat.le_refl _) ?_
    cases hf
    exact fk_ireturn X Y dX1_saysAll_20 rfl
/-! FigureKnee moreIn (I)I -/
theorem n_X1_moreIn : fk_N yX1_moreIn 1 := ⟨by decide +kernel, by decide +kernel, by decide +kernel, by decide +kernel⟩
def f_X1_moreIn_L23 (x0 : Option Nat) (m0 : fk_M) : Nat → Int32 → Option (Int32 × fk_M)
  | 0, _ => none
  | N + 1, x2 =>
  if 60 < x2 then ((isO m0 x0 0).bind fun u1 => bn2 (f_X1_well x0 (-2) m0) fun z2 m3 => some (z2, m3)) else ((gR m0 x0 0 9).bind fun z4 => (aI m0 z4 2 x2).bind fun z5 => (isO m0 x0 0).bind fun u6 => (f_X1_isMore x0 z5 m0).bind fun z7 => if z7 = 0 then (f_X1_moreIn_L23 x0 m0 N (x2 + 1)) else ((isO m0 x0 0).bind fun u8 => bn2 (f_X1_well x0 x2 m0) fun z9 m10 => some (z9, m10)))
set_option maxHeartbeats 4000000 in
theorem w_X1_moreIn_L23 {E : fk_E} {l : Launch} {G : fk_G} {b0 n : Nat} {r : Int32} {mF : fk_M} (X : fk_X E l G b0 "FigureKnee" "moreIn" cX1_moreIn 3 8 219 0 0) (Y : fk_Y E (some .int) (some (tI r)) n mF 0 0) (x0 : Option Nat) (m0 : fk_M) : ∀ (N : Nat) (x2 : Int32), f_X1_moreIn_L23 x0 m0 N x2 = some (r, mF) → fk_W E 3 n m0 0 0 23 [(0, tR x0), (2, tI x2)] [] := by
  intro N
  induction N with
  | zero =>
    intro x2 hf
    have hf : (none : Option (Int32 × fk_M)) = some _ := hf
    cases hf
  | succ N ih =>
    intro x2 hf
    rw [f_X1_moreIn_L23] at hf
    refine fk_iload_n X 1 dX1_moreIn_23 rfl ?_
    refine fk_bipush (v := 60) X dX1_moreIn_24 rfl ?_
    refine fk_icmp_gt' X 54 dX1_moreIn_26 rfl hf (fun hf => ?_) (fun hf => ?_)
    · refine fk_aload_n X 0 dX1_moreIn_54 rfl ?_
      refine fk_bipush (v := (-2)) X dX1_moreIn_55 rfl ?_
      obtain ⟨u1, hq, hf⟩ := bI hf
      obtain ⟨z2, m3, hv, hf⟩ := bn2_eq hf
      refine fk_callV0I (ci := 0) (rest := []) X hq rfl (c_X1_well hv) n_X1_well q1001 q1003 qs25 q122 q1004 rfl dX1_moreIn_57 rfl rfl rfl rfl rfl (Nat.le_refl _) (Nat.le_refl _) ?_
      cases hf
      exact fk_ireturn X Y dX1_moreIn_60 rfl
    · refine fk_aload_n X 0 dX1_moreIn_29 rfl ?_
      refine fk_aload_n X 0 dX1_moreIn_30 rfl ?_
      refine fk_getR' X fd_0_9 q199 dX1_moreIn_31 hf (fun z4 hf => ?_)
      refine fk_iload_n X 1 dX1_moreIn_34 rfl ?_
      refine fk_saload' X dX1_moreIn_35 hf (fun z5 hf => ?_)
      obtain ⟨u6, hq, hf⟩ := bI hf
      obtain ⟨z7, hv, hf⟩ := bI hf
      refine fk_callV0I (ci := 0) (rest := []) X hq rfl (c_X1_isMore hv) n_X1_isMore q1027 q1029 qs28 q122 q1030 rfl dX1_moreIn_36 rfl rfl rfl rfl rfl (Nat.le_refl _) (Nat.le_refl _) ?_
      refine fk_if_eq' X 48 dX1_moreIn_39 rfl hf (fun hf => ?_) (fun hf => ?_)
      · refine fk_iinc X 1 [(2, tI (x2 + 1)), (0, tR x0)] dX1_moreIn_48 rfl rfl rfl rfl ?_
        refine fk_goto X 23 dX1_moreIn_51 rfl ?_
        exact fk_cut' (ih (x2 + 1)  hf) [1, 0] rfl
      · refine fk_aload_n X 0 dX1_moreIn_42 rfl ?_
        refine fk_iload_n X 1 dX1_moreIn_43 rfl ?_
        obtain ⟨u8, hq, hf⟩ := bI hf
        obtain ⟨z9, m10, hv, hf⟩ := bn2_eq hf
        refine fk_callV0I (ci := 0) (rest := []) X hq rfl (c_X1_well hv) n_X1_well q1001 q1003 qs25 q122 q1004 rfl dX1_moreIn_44 rfl rfl rfl rfl rfl (Nat.le_refl _) (Nat.le_refl _) ?_
        cases hf
        exact fk_ireturn X Y dX1_moreIn_47 rfl
def f_X1_moreIn (a0 : Option Nat) (a1 : Int32) (m0 : fk_M) : Option (Int32 × fk_M) :=
  (isO m0 a0 0).bind fun u1 => (f_X1_isPair a0 a1 m0).bind fun z2 => if z2 = 0 then ((isO m0 a0 0).bind fun u3 => bn2 (f_X1_refused a0 1 m0) fun z4 m5 => some (z4, m5)) else ((isO m0 a0 0).bind fun u6 => (f_X1_tellsOn a0 a1 60 m0).bind fun m7 => f_X1_moreIn_L23 a0 m7 fk_fuel 0)
set_option maxHeartbeats 4000000 in
theorem c_X1_moreIn {l : Launch} {G : fk_G} {b0 : Nat} {n : Nat} {a0 : Option Nat} {a1 : Int32} {m0 : fk_M} {r : Int32} {mF : fk_M} (hf : f_X1_moreIn a0 a1 m0 = some (r, mF)) : fk_Ct l G b0 yX1_moreIn cX1_moreIn 3 (some .int) 8 219 [tR a0, tI a1] n m0 (some (tI r)) n mF 0 0 := by
  refine fk_enter n_X1_moreIn.1 rfl ?_
  intro E X0 Y
  have X : fk_X E l G b0 "FigureKnee" "moreIn" cX1_moreIn 3 8 219 0 0 := X0
  show fk_W E 3 n m0 0 0 0 [(0, tR a0), (1, tI a1)] []
  unfold f_X1_moreIn at hf
  refine fk_aload_n X 0 dX1_moreIn_0 rfl ?_
  refine fk_iload_n X 1 dX1_moreIn_1 rfl ?_
  obtain ⟨u1, hq, hf⟩ := bI hf
  obtain ⟨z2, hv, hf⟩ := bI hf
  refine fk_callV0I (ci := 0) (rest := []) X hq rfl (c_X1_isPair hv) n_X1_isPair q1017 q1019 qs26 q122 q1020 rfl dX1_moreIn_2 rfl rfl rfl rfl rfl (Nat.le_refl _) (Nat.le_refl _) ?_
  refine fk_if_ne' X 14 dX1_moreIn_5 rfl hf (fun hf => ?_) (fun hf => ?_)
  · refine fk_aload_n X 0 dX1_moreIn_14 rfl ?_
    refine fk_iload_n X 1 dX1_moreIn_15 rfl ?_
    refine fk_bipush (v := 60) X dX1_moreIn_16 rfl ?_
    obtain ⟨u6, hq, hf⟩ := bI hf
    obtain ⟨m7, hv, hf⟩ := bI hf
    refine fk_callV0V (ci := 0) (rest := []) X hq rfl (c_X1_tellsOn hv) n_X1_tellsOn q1043 q1045 qs31 q122 q1046 rfl dX1_moreIn_18 rfl rfl rfl rfl rfl (Nat.le_refl _) (Nat.le_refl _) ?_
    refine fk_iconst (v := 0) X dX1_moreIn_21 rfl ?_
    refine fk_istore_n X [(2, tI 0), (0, tR a0), (1, tI a1)] dX1_moreIn_22 rfl rfl ?_
    exact fk_cut' (w_X1_moreIn_L23 X Y a0 m7 fk_fuel 0 hf) [1, 0] rfl
  · refine fk_aload_n X 0 dX1_moreIn_8 rfl ?_
    refine fk_iconst (v := 1) X dX1_moreIn_9 rfl ?_
    obtain ⟨u3, hq, hf⟩ := bI hf
    obtain ⟨z4, m5, hv, hf⟩ := bn2_eq hf
    refine fk_callV0I (ci := 0) (rest := []) X hq rfl (c_X1_refused hv) n_X1_refused q264 q266 qs0 q122 q267 rfl dX1_moreIn_10 rfl rfl rfl rfl rfl (Nat.le_refl _) (Nat.le_refl _) ?_
    cases hf
    exact fk_ireturn X Y dX1_moreIn_13 rfl
/-! FigureKnee moreTimes (II)I -/
theorem n_X1_moreTimes : fk_N yX1_moreTimes 2 := ⟨by decide +kernel, by decide +kernel, by decide +kernel, by decide +kernel⟩
def f_X1_moreTimes_L33 (x0 : Option Nat) (x2 : Int32) (m0 : fk_M) : Nat → Int32 → Int32 → Option (Int32 × fk_M)
  | 0, _, _ => none
  | N + 1, x4, x5 =>
  if x2 < x5 then ((isO m0 x0 0).bind fun u1 => bn2 (f_X1_well x0 x4 m0) fun z2 m3 => some (z2, m3)) else ((gR m0 x0 0 9).bind fun z4 => (aI m0 z4 2 x5).bind fun z5 => (isO m0 x0 0).bind fun u6 => (f_X1_isMore x0 z5 m0).bind fun z7 => f_X1_moreTimes_L33 x0 x2 m0 N (x4 + (if z7 = 0 then (0 : Int32) else 1)) (x5 + 1))
set_option maxHeartbeats 4000000 in
theorem w_X1_moreTimes_L33 {E : fk_E} {l : Launch} {G : fk_G} {b0 n : Nat} {r : Int32} {mF : fk_M} (X : fk_X E l G b0 "FigureKnee" "moreTimes" cX1_moreTimes 6 8 219 0 0) (Y : fk_Y E (some .int) (some (tI r)) n mF 0 0) (x0 : Option Nat) (x2 : Int32) (m0 : fk_M) : ∀ (N : Nat) (x4 : Int32) (x5 : Int32), f_X1_moreTimes_L33 x0 x2 m0 N x4 x5 = some (r, mF) → fk_W E 6 n m0 0 0 33 [(0, tR x0), (2, tI x2), (4, tI x4), (5, tI x5)] [] := by
  intro N
  induction N with
  | zero =>
    intro x4 x5 hf
    have hf : (none : Option (Int32 × fk_M)) = some _ := hf
    cases hf
  | succ N ih =>
    intro x4 x5 hf
    rw [f_X1_moreTimes_L33] at hf
    refine fk_iload X 3 dX1_moreTimes_33 rfl ?_
    refine fk_iload_n X 1 dX1_moreTimes_35 rfl ?_
    refine fk_icmp_gt' X 69 dX1_moreTimes_36 rfl hf (fun hf => ?_) (fun hf => ?_)
    · refine fk_aload_n X 0 dX1_moreTimes_69 rfl ?_
      refine fk_iload X 2 dX1_moreTimes_70 rfl ?_
      obtain ⟨u1, hq, hf⟩ := bI hf
      obtain ⟨z2, m3, hv, hf⟩ := bn2_eq hf
      refine fk_callV0I (ci := 0) (rest := []) X hq rfl (c_X1_well hv) n_X1_well q1001 q1003 qs25 q122 q1004 rfl dX1_moreTimes_72 rfl rfl rfl rfl rfl (Nat.le_refl _) (Nat.le_refl _) ?_
      cases hf
      exact fk_ireturn X Y dX1_moreTimes_75 rfl
    · refine fk_iload X 2 dX1_moreTimes_39 rfl ?_
      refine fk_aload_n X 0 dX1_moreTimes_41 rfl ?_
      refine fk_aload_n X 0 dX1_moreTimes_42 rfl ?_
      refine fk_getR' X fd_0_9 q199 dX1_moreTimes_43 hf (fun z4 hf => ?_)
      refine fk_iload X 3 dX1_moreTimes_46 rfl ?_
      refine fk_saload' X dX1_moreTimes_48 hf (fun z5 hf => ?_)
      obtain ⟨u6, hq, hf⟩ := bI hf
      obtain ⟨z7, hv, hf⟩ := bI hf
      refine fk_callV0I (ci := 0) (rest := [tI x4]) X hq rfl (c_X1_isMore hv) n_X1_isMore q1027 q1029 qs28 q122 q1030 rfl dX1_moreTimes_49 rfl rfl rfl rfl rfl (Nat.le_refl _) (Nat.le_refl _) ?_
      have J1 : fk_W E 6 n m0 0 0 60 [(0, tR x0), (2, tI x2), (5, tI x5)] [tI (if z7 = 0 then (0 : Int32) else 1), tI x4] := by
        refine fk_iadd X dX1_moreTimes_60 ?_
        refine fk_istore X [(4, tI (x4 + (if z7 = 0 then (0 : Int32) else 1))), (0, tR x0), (2, tI x2), (5, tI x5)] dX1_moreTimes_61 rfl rfl ?_
        refine fk_iinc X 3 [(5, tI (x5 + 1)), (4, tI (x4 + (if z7 = 0 then (0 : Int32) else 1))), (0, tR x0), (2, tI x2)] dX1_moreTimes_63 rfl rfl rfl rfl ?_
        refine fk_goto X 33 dX1_moreTimes_66 rfl ?_
        exact fk_cut' (ih (x4 + (if z7 = 0 then (0 : Int32) else 1)) (x5 + 1)  hf) [2, 3, 1, 0] rfl
      refine fk_if_eq X 59 dX1_moreTimes_52 rfl (fun hc2 => ?_) (fun hc2 => ?_)
      · refine fk_iconst (v := 0) X dX1_moreTimes_59 rfl ?_
        simp only [if_pos hc2] at J1
        exact fk_cut' J1 [0, 1, 3] rfl
      · refine fk_iconst (v := 1) X dX1_moreTimes_55 rfl ?_
        refine fk_goto X 60 dX1_moreTimes_56 rfl ?_
        simp only [if_neg hc2] at J1
        exact fk_cut' J1 [0, 1, 3] rfl
def f_X1_moreTimes (a0 : Option Nat) (a1 : Int32) (a2 : Int32) (m0 : fk_M) : Option (Int32 × fk_M) :=
  (isO m0 a0 0).bind fun u1 => (f_X1_isPair a0 a1 m0).bind fun z2 => (isO m0 a0 0).bind fun u3 => (f_X1_whyAhead a0 z2 a2 m0).bind fun z4 => if z4 ≤ 0 then ((isO m0 a0 0).bind fun u5 => (f_X1_tellsOn a0 a1 a2 m0).bind fun m6 => f_X1_moreTimes_L33 a0 a2 m6 fk_fuel 0 1) else ((isO m0 a0 0).bind fun u7 => bn2 (f_X1_refused a0 z4 m0) fun z8 m9 => some (z8, m9))
set_option maxHeartbeats 4000000 in
theorem c_X1_moreTimes {l : Launch} {G : fk_G} {b0 : Nat} {n : Nat} {a0 : Option Nat} {a1 : Int32} {a2 : Int32} {m0 : fk_M} {r : Int32} {mF : fk_M} (hf : f_X1_moreTimes a0 a1 a2 m0 = some (r, mF)) : fk_Ct l G b0 yX1_moreTimes cX1_moreTimes 6 (some .int) 8 219 [tR a0, tI a1, tI a2] n m0 (some (tI r)) n mF 0 0 := by
  refine fk_enter n_X1_moreTimes.1 rfl ?_
  intro E X0 Y
  have X : fk_X E l G b0 "FigureKnee" "moreTimes" cX1_moreTimes 6 8 219 0 0 := X0
  show fk_W E 6 n m0 0 0 0 [(0, tR a0), (1, tI a1), (2, tI a2)] []
  unfold f_X1_moreTimes at hf
  refine fk_aload_n X 0 dX1_moreTimes_0 rfl ?_
  refine fk_aload_n X 0 dX1_moreTimes_1 rfl ?_
  refine fk_iload_n X 1 dX1_moreTimes_2 rfl ?_
  obtain ⟨u1, hq, hf⟩ := bI hf
  obtain ⟨z2, hv, hf⟩ := bI hf
  refine fk_callV0I (ci := 0) (rest := [tR a0]) X hq rfl (c_X1_isPair hv) n_X1_isPair q1017 q1019 qs26 q122 q1020 rfl dX1_moreTimes_3 rfl rfl rfl rfl rfl (Nat.le_refl _) (Nat.le_refl _) ?_
  refine fk_iload_n X 2 dX1_moreTimes_6 rfl ?_
  obtain ⟨u3, hq, hf⟩ := bI hf
  obtain ⟨z4, hv, hf⟩ := bI hf
  refine fk_callV0I (ci := 0) (rest := []) X hq rfl (c_X1_whyAhead hv) n_X1_whyAhead q1035 q1037 qs29 q122 q1038 rfl dX1_moreTimes_7 rfl rfl rfl rfl rfl (Nat.le_refl _) (Nat.le_refl _) ?_
  refine fk_istore_n X [(3, tI z4), (0, tR a0), (1, tI a1), (2, tI a2)] dX1_moreTimes_10 rfl rfl ?_
  refine fk_iload_n X 0 dX1_moreTimes_11 rfl ?_
  refine fk_if_le' X 21 dX1_moreTimes_12 rfl hf (fun hf => ?_) (fun hf => ?_)
  · refine fk_aload_n X 1 dX1_moreTimes_21 rfl ?_
    refine fk_iload_n X 2 dX1_moreTimes_22 rfl ?_
    refine fk_iload_n X 3 dX1_moreTimes_23 rfl ?_
    obtain ⟨u5, hq, hf⟩ := bI hf
    obtain ⟨m6, hv, hf⟩ := bI hf
    refine fk_callV0V (ci := 0) (rest := []) X hq rfl (c_X1_tellsOn hv) n_X1_tellsOn q1043 q1045 qs31 q122 q1046 rfl dX1_moreTimes_24 rfl rfl rfl rfl rfl (Nat.le_refl _) (Nat.le_refl _) ?_
    refine fk_iconst (v := 0) X dX1_moreTimes_27 rfl ?_
    refine fk_istore X [(4, tI 0), (3, tI z4), (0, tR a0), (1, tI a1), (2, tI a2)] dX1_moreTimes_28 rfl rfl ?_
    refine fk_iconst (v := 1) X dX1_moreTimes_30 rfl ?_
    refine fk_istore X [(5, tI 1), (4, tI 0), (3, tI z4), (0, tR a0), (1, tI a1), (2, tI a2)] dX1_moreTimes_31 rfl rfl ?_
    exact fk_cut' (w_X1_moreTimes_L33 X Y a0 a2 m6 fk_fuel 0 1 hf) [3, 5, 1, 0] rfl
  · refine fk_aload_n X 1 dX1_moreTimes_15 rfl ?_
    refine fk_iload_n X 0 dX1_moreTimes_16 rfl ?_
    obtain ⟨u7, hq, hf⟩ := bI hf
    obtain ⟨z8, m9, hv, hf⟩ := bn2_eq hf
    refine fk_callV0I (ci := 0) (rest := []) X hq rfl (c_X1_refused hv) n_X1_refused q264 q266 qs0 q122 q267 rfl dX1_moreTimes_17 rfl rfl rfl rfl rfl (Nat.le_refl _) (Nat.le_refl _) ?_
    cases hf
    exact fk_ireturn X Y dX1_moreTimes_20 rfl
/-! FigureKnee goesRound (III)Z -/
theorem n_X1_goesRound : fk_N yX1_goesRound 3 := ⟨by decide +kernel, by decide +kernel, by decide +kernel, by decide +kernel⟩
def f_X1_goesRound_L3 (x0 : Option Nat) (x2 : Int32) (x3 : Int32) (m : fk_M) : Nat → Int32 → Option Int32
  | 0, _ => none
  | N + 1, x4 =>
  if x3 ≤ x4 then (some 1) else ((gR m x0 0 9).bind fun z1 => (aI m z1 2 x4).bind fun z2 => (gR m x0 0 9).bind fun z3 => (aI m z3 2 (x4 + x2)).bind fun z4 => if z2 = z4 then (f_X1_goesRound_L3 x0 x2 x3 m N (x4 + 1)) else (some 0))
set_option maxHeartbeats 4000000 in
theorem w_X1_goesRound_L3 {E : fk_E} {l : Launch} {G : fk_G} {b0 n : Nat} {m : fk_M} {r : Int32} (X : fk_X E l G b0 "FigureKnee" "goesRound" cX1_goesRound 5 1 60 0 0) (Y : fk_Y E (some .boolean) (some (tI r)) n m 0 0) (x0 : Option Nat) (x2 : Int32) (x3 : Int32) : ∀ (N : Nat) (x4 : Int32), f_X1_goesRound_L3 x0 x2 x3 m N x4 = some r → fk_W E 5 n m 0 0 3 [(0, tR x0), (2, tI x2), (3, tI x3), (4, tI x4)] [] := by
  intro N
  induction N with
  | zero =>
    intro x4 hf
    have hf : (none : Option Int32) = some _ := hf
    cases hf
  | succ N ih =>
    intro x4 hf
    rw [f_X1_goesRound_L3] at hf
    refine fk_iload X 3 dX1_goesRound_3 rfl ?_
    refine fk_iload_n X 2 dX1_goesRound_5 rfl ?_
    refine fk_icmp_ge' X 36 dX1_goesRound_6 rfl hf (fun hf => ?_) (fun hf => ?_)
    · refine fk_iconst (v := 1) X dX1_goesRound_36 rfl ?_
      cases hf
      exact fk_ireturn X Y dX1_goesRound_37 (by decide +kernel)
    · refine fk_aload_n X 0 dX1_goesRound_9 rfl ?_
      refine fk_getR' X fd_0_9 q199 dX1_goesRound_10 hf (fun z1 hf => ?_)
      refine fk_iload X 3 dX1_goesRound_13 rfl ?_
      refine fk_saload' X dX1_goesRound_15 hf (fun z2 hf => ?_)
      refine fk_aload_n X 0 dX1_goesRound_16 rfl ?_
      refine fk_getR' X fd_0_9 q199 dX1_goesRound_17 hf (fun z3 hf => ?_)
      refine fk_iload X 3 dX1_goesRound_20 rfl ?_
      refine fk_iload_n X 1 dX1_goesRound_22 rfl ?_
      refine fk_iadd X dX1_goesRound_23 ?_
      refine fk_saload' X dX1_goesRound_24 hf (fun z4 hf => ?_)
      refine fk_icmp_eq' X 30 dX1_goesRound_25 rfl hf (fun hf => ?_) (fun hf => ?_)
      · refine fk_iinc X 3 [(4, tI (x4 + 1)), (0, tR x0), (2, tI x2), (3, tI x3)] dX1_goesRound_30 rfl rfl rfl rfl ?_
        refine fk_goto X 3 dX1_goesRound_33 rfl ?_
        exact fk_cut' (ih (x4 + 1)  hf) [1, 2, 3, 0] rfl
      · refine fk_iconst (v := 0) X dX1_goesRound_28 rfl ?_
        cases hf
        exact fk_ireturn X Y dX1_goesRound_29 (by decide +kernel)
def f_X1_goesRound (a0 : Option Nat) (a1 : Int32) (a2 : Int32) (a3 : Int32) (m : fk_M) : Option Int32 :=
  f_X1_goesRound_L3 a0 a2 a3 m fk_fuel a1
set_option maxHeartbeats 4000000 in
theorem c_X1_goesRound {l : Launch} {G : fk_G} {b0 : Nat} {n : Nat} {a0 : Option Nat} {a1 : Int32} {a2 : Int32} {a3 : Int32} {m : fk_M} {r : Int32} (hf : f_X1_goesRound a0 a1 a2 a3 m = some r) : fk_Ct l G b0 yX1_goesRound cX1_goesRound 5 (some .boolean) 1 60 [tR a0, tI a1, tI a2, tI a3] n m (some (tI r)) n m 0 0 := by
  refine fk_enter n_X1_goesRound.1 rfl ?_
  intro E X0 Y
  have X : fk_X E l G b0 "FigureKnee" "goesRound" cX1_goesRound 5 1 60 0 0 := X0
  show fk_W E 5 n m 0 0 0 [(0, tR a0), (1, tI a1), (2, tI a2), (3, tI a3)] []
  unfold f_X1_goesRound at hf
  refine fk_iload_n X 1 dX1_goesRound_0 rfl ?_
  refine fk_istore X [(4, tI a1), (0, tR a0), (1, tI a1), (2, tI a2), (3, tI a3)] dX1_goesRound_1 rfl rfl ?_
  exact fk_cut' (w_X1_goesRound_L3 X Y a0 a2 a3 fk_fuel a1 hf) [1, 3, 4, 0] rfl
/-! FigureKnee rounds (I)V -/
theorem n_X1_rounds : fk_N yX1_rounds 1 := ⟨by decide +kernel, by decide +kernel, by decide +kernel, by decide +kernel⟩
def f_X1_rounds_J103 (R75 : fk_M → Option fk_M) (x0 : Option Nat) (x4 : Int32) (x5 : Int32) (m0 : fk_M) : Option fk_M :=
  (gI m0 x0 0 11).bind fun z1 => (pV m0 x0 0 11 (tI (z1 + 1))).bind fun m2 => R75 m2
set_option maxHeartbeats 4000000 in
theorem w_X1_rounds_J103 {E : fk_E} {l : Launch} {G : fk_G} {b0 n : Nat} {mF : fk_M} (X : fk_X E l G b0 "FigureKnee" "rounds" cX1_rounds 6 8 219 0 0) (Y : fk_Y E none none n mF 0 0) (x0 : Option Nat) (x4 : Int32) (x5 : Int32)  (m0 : fk_M) {R75 : fk_M → Option fk_M} (hR75 : ∀  (m9 : fk_M), R75 m9 = some mF → fk_W E 6 n m9 0 0 75 [(0, tR x0), (4, tI x4), (5, tI x5)] []) (hf : f_X1_rounds_J103 R75 x0 x4 x5 m0 = some mF) : fk_W E 6 n m0 0 0 103 [(0, tR x0), (4, tI x4), (5, tI x5)] [] := by
  unfold f_X1_rounds_J103 at hf
  refine fk_aload_n X 0 dX1_rounds_103 rfl ?_
  refine fk_dup X dX1_rounds_104 rfl ?_
  refine fk_getI' X fd_0_11 q201 dX1_rounds_105 hf (fun z1 hf => ?_)
  refine fk_iconst (v := 1) X dX1_rounds_108 rfl ?_
  refine fk_iadd X dX1_rounds_109 ?_
  refine fk_putI' X fd_0_11 q201 dX1_rounds_110 (fit_I _) hf (fun m2 hf => ?_)
  refine fk_goto X 75 dX1_rounds_113 rfl ?_
  exact fk_cut' (hR75 m2  hf) [0, 1, 2] rfl
def f_X1_rounds_L122 (x0 : Option Nat) : Nat → fk_M → Option fk_M
  | 0, _ => none
  | N + 1, m0 =>
  (gI m0 x0 0 10).bind fun z1 => if z1 ≤ 0 then (some m0) else ((gR m0 x0 0 9).bind fun z2 => (gI m0 x0 0 10).bind fun z3 => (aI m0 z2 2 (z3 - 1)).bind fun z4 => (gR m0 x0 0 9).bind fun z5 => (gI m0 x0 0 10).bind fun z6 => (gI m0 x0 0 11).bind fun z7 => (aI m0 z5 2 ((z6 - 1) + z7)).bind fun z8 => if z4 = z8 then ((gI m0 x0 0 10).bind fun z9 => (pV m0 x0 0 10 (tI (z9 - 1))).bind fun m10 => f_X1_rounds_L122 x0 N m10) else (some m0))
set_option maxHeartbeats 4000000 in
theorem w_X1_rounds_L122 {E : fk_E} {l : Launch} {G : fk_G} {b0 n : Nat} {mF : fk_M} (X : fk_X E l G b0 "FigureKnee" "rounds" cX1_rounds 6 8 219 0 0) (Y : fk_Y E none none n mF 0 0) (x0 : Option Nat) : ∀ (N : Nat)  (m0 : fk_M), f_X1_rounds_L122 x0 N m0 = some mF → fk_W E 6 n m0 0 0 122 [(0, tR x0)] [] := by
  intro N
  induction N with
  | zero =>
    intro m0 hf
    have hf : (none : Option fk_M) = some _ := hf
    cases hf
  | succ N ih =>
    intro m0 hf
    rw [f_X1_rounds_L122] at hf
    refine fk_aload_n X 0 dX1_rounds_122 rfl ?_
    refine fk_getI' X fd_0_10 q200 dX1_rounds_123 hf (fun z1 hf => ?_)
    refine fk_if_le' X 172 dX1_rounds_126 rfl hf (fun hf => ?_) (fun hf => ?_)
    · cases hf
      exact fk_return X Y dX1_rounds_172
    · refine fk_aload_n X 0 dX1_rounds_129 rfl ?_
      refine fk_getR' X fd_0_9 q199 dX1_rounds_130 hf (fun z2 hf => ?_)
      refine fk_aload_n X 0 dX1_rounds_133 rfl ?_
      refine fk_getI' X fd_0_10 q200 dX1_rounds_134 hf (fun z3 hf => ?_)
      refine fk_iconst (v := 1) X dX1_rounds_137 rfl ?_
      refine fk_isub X dX1_rounds_138 ?_
      refine fk_saload' X dX1_rounds_139 hf (fun z4 hf => ?_)
      refine fk_aload_n X 0 dX1_rounds_140 rfl ?_
      refine fk_getR' X fd_0_9 q199 dX1_rounds_141 hf (fun z5 hf => ?_)
      refine fk_aload_n X 0 dX1_rounds_144 rfl ?_
      refine fk_getI' X fd_0_10 q200 dX1_rounds_145 hf (fun z6 hf => ?_)
      refine fk_iconst (v := 1) X dX1_rounds_148 rfl ?_
      refine fk_isub X dX1_rounds_149 ?_
      refine fk_aload_n X 0 dX1_rounds_150 rfl ?_
      refine fk_getI' X fd_0_11 q201 dX1_rounds_151 hf (fun z7 hf => ?_)
      refine fk_iadd X dX1_rounds_154 ?_
      refine fk_saload' X dX1_rounds_155 hf (fun z8 hf => ?_)
      refine fk_icmp_ne' X 172 dX1_rounds_156 rfl hf (fun hf => ?_) (fun hf => ?_)
      · cases hf
        exact fk_return X Y dX1_rounds_172
      · refine fk_aload_n X 0 dX1_rounds_159 rfl ?_
        refine fk_dup X dX1_rounds_160 rfl ?_
        refine fk_getI' X fd_0_10 q200 dX1_rounds_161 hf (fun z9 hf => ?_)
        refine fk_iconst (v := 1) X dX1_rounds_164 rfl ?_
        refine fk_isub X dX1_rounds_165 ?_
        refine fk_putI' X fd_0_10 q200 dX1_rounds_166 (fit_I _) hf (fun m10 hf => ?_)
        refine fk_goto X 122 dX1_rounds_169 rfl ?_
        exact fk_cut' (ih m10  hf) [0] rfl
def f_X1_rounds_L75 (x0 : Option Nat) (x4 : Int32) (x5 : Int32) : Nat → fk_M → Option fk_M
  | 0, _ => none
  | N + 1, m0 =>
  (gI m0 x0 0 11).bind fun z1 => if z1 = 0 then none else (if (i_rem x5 z1) = 0 then ((gI m0 x0 0 11).bind fun z2 => (isO m0 x0 0).bind fun u3 => (f_X1_goesRound x0 x4 z2 (x4 + x5) m0).bind fun z4 => if z4 = 0 then (f_X1_rounds_J103 (f_X1_rounds_L75 x0 x4 x5 N) x0 x4 x5 m0) else ((pV m0 x0 0 10 (tI x4)).bind fun m5 => f_X1_rounds_L122 x0 fk_fuel m5)) else (f_X1_rounds_J103 (f_X1_rounds_L75 x0 x4 x5 N) x0 x4 x5 m0))
set_option maxHeartbeats 4000000 in
theorem w_X1_rounds_L75 {E : fk_E} {l : Launch} {G : fk_G} {b0 n : Nat} {mF : fk_M} (X : fk_X E l G b0 "FigureKnee" "rounds" cX1_rounds 6 8 219 0 0) (Y : fk_Y E none none n mF 0 0) (x0 : Option Nat) (x4 : Int32) (x5 : Int32) : ∀ (N : Nat)  (m0 : fk_M), f_X1_rounds_L75 x0 x4 x5 N m0 = some mF → fk_W E 6 n m0 0 0 75 [(0, tR x0), (4, tI x4), (5, tI x5)] [] := by
  intro N
  induction N with
  | zero =>
    intro m0 hf
    have hf : (none : Option fk_M) = some _ := hf
    cases hf
  | succ N ih =>
    intro m0 hf
    rw [f_X1_rounds_L75] at hf
    refine fk_iload X 2 dX1_rounds_75 rfl ?_
    refine fk_aload_n X 0 dX1_rounds_77 rfl ?_
    refine fk_getI' X fd_0_11 q201 dX1_rounds_78 hf (fun z1 hf => ?_)
    refine fk_irem' X dX1_rounds_81 hf (fun hf => ?_)
    refine fk_if_ne' X 103 dX1_rounds_82 rfl hf (fun hf => ?_) (fun hf => ?_)
    · exact fk_cut' (w_X1_rounds_J103 X Y x0 x4 x5 m0 ih hf) [0, 1, 2] rfl
    · refine fk_aload_n X 0 dX1_rounds_85 rfl ?_
      refine fk_iload X 1 dX1_rounds_86 rfl ?_
      refine fk_aload_n X 0 dX1_rounds_88 rfl ?_
      refine fk_getI' X fd_0_11 q201 dX1_rounds_89 hf (fun z2 hf => ?_)
      refine fk_iload X 1 dX1_rounds_92 rfl ?_
      refine fk_iload X 2 dX1_rounds_94 rfl ?_
      refine fk_iadd X dX1_rounds_96 ?_
      obtain ⟨u3, hq, hf⟩ := bI hf
      obtain ⟨z4, hv, hf⟩ := bI hf
      refine fk_callV0I (ci := 0) (rest := []) X hq rfl (c_X1_goesRound hv) n_X1_goesRound q1104 q1106 qs35 q122 q1107 rfl dX1_rounds_97 rfl rfl rfl rfl rfl (Nat.le_refl _) (Nat.le_refl _) ?_
      refine fk_if_ne' X 116 dX1_rounds_100 rfl hf (fun hf => ?_) (fun hf => ?_)
      · refine fk_aload_n X 0 dX1_rounds_116 rfl ?_
        refine fk_iload X 1 dX1_rounds_117 rfl ?_
        refine fk_putI' X fd_0_10 q200 dX1_rounds_119 (fit_I _) hf (fun m5 hf => ?_)
        exact fk_cut' (w_X1_rounds_L122 X Y x0 fk_fuel m5 hf) [0] rfl
      · exact fk_cut' (w_X1_rounds_J103 X Y x0 x4 x5 m0 ih hf) [0, 1, 2] rfl
def f_X1_rounds_L41 (x0 : Option Nat) (x2 : Int32) (x4 : Int32) (m0 : fk_M) : Nat → Int32 → Option fk_M
  | 0, _ => none
  | N + 1, x5 =>
  (gR m0 x0 0 9).bind fun z1 => (aI m0 z1 2 x4).bind fun z2 => (gR m0 x0 0 9).bind fun z3 => (aI m0 z3 2 (x4 + x5)).bind fun z4 => if z2 = z4 then ((pV m0 x0 0 11 (tI 1)).bind fun m5 => f_X1_rounds_L75 x0 x4 x5 fk_fuel m5) else (f_X1_rounds_L41 x0 x2 x4 m0 N (x5 + x2))
set_option maxHeartbeats 4000000 in
theorem w_X1_rounds_L41 {E : fk_E} {l : Launch} {G : fk_G} {b0 n : Nat} {mF : fk_M} (X : fk_X E l G b0 "FigureKnee" "rounds" cX1_rounds 6 8 219 0 0) (Y : fk_Y E none none n mF 0 0) (x0 : Option Nat) (x2 : Int32) (x4 : Int32) (m0 : fk_M) : ∀ (N : Nat) (x5 : Int32), f_X1_rounds_L41 x0 x2 x4 m0 N x5 = some mF → fk_W E 6 n m0 0 0 41 [(0, tR x0), (2, tI x2), (4, tI x4), (5, tI x5)] [] := by
  intro N
  induction N with
  | zero =>
    intro x5 hf
    have hf : (none : Option fk_M) = some _ := hf
    cases hf
  | succ N ih =>
    intro x5 hf
    rw [f_X1_rounds_L41] at hf
    refine fk_aload_n X 0 dX1_rounds_41 rfl ?_
    refine fk_getR' X fd_0_9 q199 dX1_rounds_42 hf (fun z1 hf => ?_)
    refine fk_iload X 2 dX1_rounds_45 rfl ?_
    refine fk_saload' X dX1_rounds_47 hf (fun z2 hf => ?_)
    refine fk_aload_n X 0 dX1_rounds_48 rfl ?_
    refine fk_getR' X fd_0_9 q199 dX1_rounds_49 hf (fun z3 hf => ?_)
    refine fk_iload X 2 dX1_rounds_52 rfl ?_
    refine fk_iload X 3 dX1_rounds_54 rfl ?_
    refine fk_iadd X dX1_rounds_56 ?_
    refine fk_saload' X dX1_rounds_57 hf (fun z4 hf => ?_)
    refine fk_icmp_eq' X 70 dX1_rounds_58 rfl hf (fun hf => ?_) (fun hf => ?_)
    · refine fk_aload_n X 0 dX1_rounds_70 rfl ?_
      refine fk_iconst (v := 1) X dX1_rounds_71 rfl ?_
      refine fk_putI' X fd_0_11 q201 dX1_rounds_72 (fit_I _) hf (fun m5 hf => ?_)
      exact fk_cut' (w_X1_rounds_L75 X Y x0 x4 x5 fk_fuel m5 hf) [0, 2, 3] rfl
    · refine fk_iload X 3 dX1_rounds_61 rfl ?_
      refine fk_iload_n X 1 dX1_rounds_63 rfl ?_
      refine fk_iadd X dX1_rounds_64 ?_
      refine fk_istore X [(5, tI (x5 + x2)), (0, tR x0), (2, tI x2), (4, tI x4)] dX1_rounds_65 rfl rfl ?_
      refine fk_goto X 41 dX1_rounds_67 rfl ?_
      exact fk_cut' (ih (x5 + x2)  hf) [1, 2, 3, 0] rfl
def f_X1_rounds (a0 : Option Nat) (a1 : Int32) (m0 : fk_M) : Option fk_M :=
  (isO m0 a0 0).bind fun u1 => (f_X1_at a0 a1 m0).bind fun z2 => (gI m0 z2 6 4).bind fun z3 => (gR m0 a0 0 5).bind fun z4 => (gI m0 z4 4 0).bind fun z5 => (isO m0 a0 0).bind fun u6 => (f_X1_tellsOn a0 a1 ((2 * ((i_max 1 z3) * (z5 + 1))) + ((i_max 1 z3) * (z5 + 1))) m0).bind fun m7 => f_X1_rounds_L41 a0 (i_max 1 z3) ((i_max 1 z3) * (z5 + 1)) m7 fk_fuel (i_max 1 z3)
set_option maxHeartbeats 4000000 in
theorem c_X1_rounds {l : Launch} {G : fk_G} {b0 : Nat} {n : Nat} {a0 : Option Nat} {a1 : Int32} {m0 : fk_M} {mF : fk_M} (hf : f_X1_rounds a0 a1 m0 = some mF) : fk_Ct l G b0 yX1_rounds cX1_rounds 6 none 8 219 [tR a0, tI a1] n m0 none n mF 0 0 := by
  refine fk_enter n_X1_rounds.1 rfl ?_
  intro E X0 Y
  have X : fk_X E l G b0 "FigureKnee" "rounds" cX1_rounds 6 8 219 0 0 := X0
  show fk_W E 6 n m0 0 0 0 [(0, tR a0), (1, tI a1)] []
  unfold f_X1_rounds at hf
  refine fk_iconst (v := 1) X dX1_rounds_0 rfl ?_
  refine fk_aload_n X 0 dX1_rounds_1 rfl ?_
  refine fk_iload_n X 1 dX1_rounds_2 rfl ?_
  obtain ⟨u1, hq, hf⟩ := bI hf
  obtain ⟨z2, hv, hf⟩ := bI hf
  refine fk_callV0R (ci := 0) (rest := [tI 1]) X hq rfl (c_X1_at hv) n_X1_at q1021 q1023 qs27 q122 q1024 rfl dX1_rounds_3 rfl rfl rfl rfl rfl (Nat.le_refl _) (Nat.le_refl _) ?_
  refine fk_getI' X fd_6_4 q753 dX1_rounds_6 hf (fun z3 hf => ?_)
  refine fk_mmax X q1103 q421 q136 q422 dX1_rounds_9 (by omega) (Nat.le_trans (Nat.le_of_ble_eq_true (rfl : Nat.ble (_ + 13) 40 = true)) (by omega)) (Nat.le_refl _) (Nat.le_refl _) ?_
  refine fk_istore_n X [(2, tI (i_max 1 z3)), (0, tR a0), (1, tI a1)] dX1_rounds_12 rfl rfl ?_
  refine fk_iload_n X 0 dX1_rounds_13 rfl ?_
  refine fk_aload_n X 1 dX1_rounds_14 rfl ?_
  refine fk_getR' X fd_0_5 q195 dX1_rounds_15 hf (fun z4 hf => ?_)
  refine fk_getI' X fd_4_0 q300 dX1_rounds_18 hf (fun z5 hf => ?_)
  refine fk_iconst (v := 1) X dX1_rounds_21 rfl ?_
  refine fk_iadd X dX1_rounds_22 ?_
  refine fk_imul X dX1_rounds_23 ?_
  refine fk_istore_n X [(3, tI ((i_max 1 z3) * (z5 + 1))), (2, tI (i_max 1 z3)), (0, tR a0), (1, tI a1)] dX1_rounds_24 rfl rfl ?_
  refine fk_aload_n X 2 dX1_rounds_25 rfl ?_
  refine fk_iload_n X 3 dX1_rounds_26 rfl ?_
  refine fk_iconst (v := 2) X dX1_rounds_27 rfl ?_
  refine fk_iload_n X 0 dX1_rounds_28 rfl ?_
  refine fk_imul X dX1_rounds_29 ?_
  refine fk_iload_n X 0 dX1_rounds_30 rfl ?_
  refine fk_iadd X dX1_rounds_31 ?_
  obtain ⟨u6, hq, hf⟩ := bI hf
  obtain ⟨m7, hv, hf⟩ := bI hf
  refine fk_callV0V (ci := 0) (rest := []) X hq rfl (c_X1_tellsOn hv) n_X1_tellsOn q1043 q1045 qs31 q122 q1046 rfl dX1_rounds_32 rfl rfl rfl rfl rfl (Nat.le_refl _) (Nat.le_refl _) ?_
  refine fk_iload_n X 0 dX1_rounds_35 rfl ?_
  refine fk_istore X [(4, tI ((i_max 1 z3) * (z5 + 1))), (3, tI ((i_max 1 z3) * (z5 + 1))), (2, tI (i_max 1 z3)), (0, tR a0), (1, tI a1)] dX1_rounds_36 rfl rfl ?_
  refine fk_iload_n X 2 dX1_rounds_38 rfl ?_
  refine fk_istore X [(5, tI (i_max 1 z3)), (4, tI ((i_max 1 z3) * (z5 + 1))), (3, tI ((i_max 1 z3) * (z5 + 1))), (2, tI (i_max 1 z3)), (0, tR a0), (1, tI a1)] dX1_rounds_39 rfl rfl ?_
  exact fk_cut' (w_X1_rounds_L41 X Y a0 (i_max 1 z3) ((i_max 1 z3) * (z5 + 1)) m7 fk_fuel (i_max 1 z3) hf) [4, 3, 1, 0] rfl
/-! FigureKnee settles (I)I -/
theorem n_X1_settles : fk_N yX1_settles 1 := ⟨by decide +kernel, by decide +kernel, by decide +kernel, by decide +kernel⟩
def f_X1_settles (a0 : Option Nat) (a1 : Int32) (m0 : fk_M) : Option (Int32 × fk_M) :=
  (isO m0 a0 0).bind fun u1 => (f_X1_isPair a0 a1 m0).bind fun z2 => if z2 = 0 then ((isO m0 a0 0).bind fun u3 => bn2 (f_X1_refused a0 1 m0) fun z4 m5 => some (z4, m5)) else ((isO m0 a0 0).bind fun u6 => (f_X1_rounds a0 a1 m0).bind fun m7 => (gI m7 a0 0 10).bind fun z8 => (isO m7 a0 0).bind fun u9 => bn2 (f_X1_well a0 z8 m7) fun z10 m11 => some (z10, m11))
set_option maxHeartbeats 4000000 in
theorem c_X1_settles {l : Launch} {G : fk_G} {b0 : Nat} {n : Nat} {a0 : Option Nat} {a1 : Int32} {m0 : fk_M} {r : Int32} {mF : fk_M} (hf : f_X1_settles a0 a1 m0 = some (r, mF)) : fk_Ct l G b0 yX1_settles cX1_settles 2 (some .int) 9 244 [tR a0, tI a1] n m0 (some (tI r)) n mF 0 0 := by
  refine fk_enter n_X1_settles.1 rfl ?_
  intro E X0 Y
  have X : fk_X E l G b0 "FigureKnee" "settles" cX1_settles 2 9 244 0 0 := X0
  show fk_W E 2 n m0 0 0 0 [(0, tR a0), (1, tI a1)] []
  unfold f_X1_settles at hf
  refine fk_aload_n X 0 dX1_settles_0 rfl ?_
  refine fk_iload_n X 1 dX1_settles_1 rfl ?_
  obtain ⟨u1, hq, hf⟩ := bI hf
  obtain ⟨z2, hv, hf⟩ := bI hf
  refine fk_callV0I (ci := 0) (rest := []) X hq rfl (c_X1_isPair hv) n_X1_isPair q1017 q1019 qs26 q122 q1020 rfl dX1_settles_2 rfl rfl rfl rfl rfl (Nat.le_refl _) (Nat.le_refl _) ?_
  refine fk_if_ne' X 14 dX1_settles_5 rfl hf (fun hf => ?_) (fun hf => ?_)
  · refine fk_aload_n X 0 dX1_settles_14 rfl ?_
    refine fk_iload_n X 1 dX1_settles_15 rfl ?_
    obtain ⟨u6, hq, hf⟩ := bI hf
    obtain ⟨m7, hv, hf⟩ := bI hf
    refine fk_callV0V (ci := 0) (rest := []) X hq rfl (c_X1_rounds hv) n_X1_rounds q1099 q1101 qs34 q122 q1102 rfl dX1_settles_16 rfl rfl rfl rfl rfl (Nat.le_refl _) (Nat.le_refl _) ?_
    refine fk_aload_n X 0 dX1_settles_19 rfl ?_
    refine fk_aload_n X 0 dX1_settles_20 rfl ?_
    refine fk_getI' X fd_0_10 q200 dX1_settles_21 hf (fun z8 hf => ?_)
    obtain ⟨u9, hq, hf⟩ := bI hf
    obtain ⟨z10, m11, hv, hf⟩ := bn2_eq hf
    refine fk_callV0I (ci := 0) (rest := []) X hq rfl (c_X1_well hv) n_X1_well q1001 q1003 qs25 q122 q1004 rfl dX1_settles_24 rfl rfl rfl rfl rfl (Nat.le_refl _) (Nat.le_refl _) ?_
    cases hf
    exact fk_ireturn X Y dX1_settles_27 rfl
  · refine fk_aload_n X 0 dX1_settles_8 rfl ?_
    refine fk_iconst (v := 1) X dX1_settles_9 rfl ?_
    obtain ⟨u3, hq, hf⟩ := bI hf
    obtain ⟨z4, m5, hv, hf⟩ := bn2_eq hf
    refine fk_callV0I (ci := 0) (rest := []) X hq rfl (c_X1_refused hv) n_X1_refused q264 q266 qs0 q122 q267 rfl dX1_settles_10 rfl rfl rfl rfl rfl (Nat.le_refl _) (Nat.le_refl _) ?_
    cases hf
    exact fk_ireturn X Y dX1_settles_13 rfl
/-! FigureKnee round (I)I -/
theorem n_X1_round : fk_N yX1_round 1 := ⟨by decide +kernel, by decide +kernel, by decide +kernel, by decide +kernel⟩
def f_X1_round (a0 : Option Nat) (a1 : Int32) (m0 : fk_M) : Option (Int32 × fk_M) :=
  (isO m0 a0 0).bind fun u1 => (f_X1_isPair a0 a1 m0).bind fun z2 => if z2 = 0 then ((isO m0 a0 0).bind fun u3 => bn2 (f_X1_refused a0 1 m0) fun z4 m5 => some (z4, m5)) else ((isO m0 a0 0).bind fun u6 => (f_X1_rounds a0 a1 m0).bind fun m7 => (gI m7 a0 0 11).bind fun z8 => (isO m7 a0 0).bind fun u9 => bn2 (f_X1_well a0 z8 m7) fun z10 m11 => some (z10, m11))
set_option maxHeartbeats 4000000 in
theorem c_X1_round {l : Launch} {G : fk_G} {b0 : Nat} {n : Nat} {a0 : Option Nat} {a1 : Int32} {m0 : fk_M} {r : Int32} {mF : fk_M} (hf : f_X1_round a0 a1 m0 = some (r, mF)) : fk_Ct l G b0 yX1_round cX1_round 2 (some .int) 9 244 [tR a0, tI a1] n m0 (some (tI r)) n mF 0 0 := by
  refine fk_enter n_X1_round.1 rfl ?_
  intro E X0 Y
  have X : fk_X E l G b0 "FigureKnee" "round" cX1_round 2 9 244 0 0 := X0
  show fk_W E 2 n m0 0 0 0 [(0, tR a0), (1, tI a1)] []
  unfold f_X1_round at hf
  refine fk_aload_n X 0 dX1_round_0 rfl ?_
  refine fk_iload_n X 1 dX1_round_1 rfl ?_
  obtain ⟨u1, hq, hf⟩ := bI hf
  obtain ⟨z2, hv, hf⟩ := bI hf
  refine fk_callV0I (ci := 0) (rest := []) X hq rfl (c_X1_isPair hv) n_X1_isPair q1017 q1019 qs26 q122 q1020 rfl dX1_round_2 rfl rfl rfl rfl rfl (Nat.le_refl _) (Nat.le_refl _) ?_
  refine fk_if_ne' X 14 dX1_round_5 rfl hf (fun hf => ?_) (fun hf => ?_)
  · refine fk_aload_n X 0 dX1_round_14 rfl ?_
    refine fk_iload_n X 1 dX1_round_15 rfl ?_
    obtain ⟨u6, hq, hf⟩ := bI hf
    obtain ⟨m7, hv, hf⟩ := bI hf
    refine fk_callV0V (ci := 0) (rest := []) X hq rfl (c_X1_rounds hv) n_X1_rounds q1099 q1101 qs34 q122 q1102 rfl dX1_round_16 rfl rfl rfl rfl rfl (Nat.le_refl _) (Nat.le_refl _) ?_
    refine fk_aload_n X 0 dX1_round_19 rfl ?_
    refine fk_aload_n X 0 dX1_round_20 rfl ?_
    refine fk_getI' X fd_0_11 q201 dX1_round_21 hf (fun z8 hf => ?_)
    obtain ⟨u9, hq, hf⟩ := bI hf
    obtain ⟨z10, m11, hv, hf⟩ := bn2_eq hf
    refine fk_callV0I (ci := 0) (rest := []) X hq rfl (c_X1_well hv) n_X1_well q1001 q1003 qs25 q122 q1004 rfl dX1_round_24 rfl rfl rfl rfl rfl (Nat.le_refl _) (Nat.le_refl _) ?_
    cases hf
    exact fk_ireturn X Y dX1_round_27 rfl
  · refine fk_aload_n X 0 dX1_round_8 rfl ?_
    refine fk_iconst (v := 1) X dX1_round_9 rfl ?_
    obtain ⟨u3, hq, hf⟩ := bI hf
    obtain ⟨z4, m5, hv, hf⟩ := bn2_eq hf
    refine fk_callV0I (ci := 0) (rest := []) X hq rfl (c_X1_refused hv) n_X1_refused q264 q266 qs0 q122 q267 rfl dX1_round_10 rfl rfl rfl rfl rfl (Nat.le_refl _) (Nat.le_refl _) ?_
    cases hf
    exact fk_ireturn X Y dX1_round_13 rfl
/-! FigureKnee saysLate (II)I -/
theorem n_X1_saysLate : fk_N yX1_saysLate 2 := ⟨by decide +kernel, by decide +kernel, by decide +kernel, by decide +kernel⟩
def f_X1_saysLate_J68 (y0 : Int32) (y1 : Option Nat) (m0 : fk_M) : Option (Int32 × fk_M) :=
  (isO m0 y1 0).bind fun u1 => bn2 (f_X1_well y1 y0 m0) fun z2 m3 => some (z2, m3)
set_option maxHeartbeats 4000000 in
theorem w_X1_saysLate_J68 {E : fk_E} {l : Launch} {G : fk_G} {b0 n : Nat} {r : Int32} {mF : fk_M} (X : fk_X E l G b0 "FigureKnee" "saysLate" cX1_saysLate 4 9 244 0 0) (Y : fk_Y E (some .int) (some (tI r)) n mF 0 0)  (y0 : Int32) (y1 : Option Nat) (m0 : fk_M) (hf : f_X1_saysLate_J68 y0 y1 m0 = some (r, mF)) : fk_W E 4 n m0 0 0 68 [] [tI y0, tR y1] := by
  unfold f_X1_saysLate_J68 at hf
  obtain ⟨u1, hq, hf⟩ := bI hf
  obtain ⟨z2, m3, hv, hf⟩ := bn2_eq hf
  refine fk_callV0I (ci := 0) (rest := []) X hq rfl (c_X1_well hv) n_X1_well q1001 q1003 qs25 q122 q1004 rfl dX1_saysLate_68 rfl rfl rfl rfl rfl (Nat.le_refl _) (Nat.le_refl _) ?_
  cases hf
  exact fk_ireturn X Y dX1_saysLate_71 rfl
def f_X1_saysLate (a0 : Option Nat) (a1 : Int32) (a2 : Int32) (m0 : fk_M) : Option (Int32 × fk_M) :=
  (isO m0 a0 0).bind fun u1 => (f_X1_isPair a0 a1 m0).bind fun z2 => (isO m0 a0 0).bind fun u3 => (f_X1_why a0 z2 a2 0 2000000000 m0).bind fun z4 => if z4 ≤ 0 then ((isO m0 a0 0).bind fun u5 => (f_X1_rounds a0 a1 m0).bind fun m6 => (gI m6 a0 0 10).bind fun z7 => if z7 ≤ a2 then ((gR m6 a0 0 9).bind fun z8 => (gI m6 a0 0 10).bind fun z9 => (gI m6 a0 0 10).bind fun z10 => (gI m6 a0 0 11).bind fun z11 => if z11 = 0 then none else ((aI m6 z8 2 (z9 + (i_rem (a2 - z10) z11))).bind fun z12 => f_X1_saysLate_J68 z12 a0 m6)) else ((gR m6 a0 0 9).bind fun z13 => (aI m6 z13 2 a2).bind fun z14 => f_X1_saysLate_J68 z14 a0 m6)) else ((isO m0 a0 0).bind fun u15 => bn2 (f_X1_refused a0 z4 m0) fun z16 m17 => some (z16, m17))
set_option maxHeartbeats 4000000 in
theorem c_X1_saysLate {l : Launch} {G : fk_G} {b0 : Nat} {n : Nat} {a0 : Option Nat} {a1 : Int32} {a2 : Int32} {m0 : fk_M} {r : Int32} {mF : fk_M} (hf : f_X1_saysLate a0 a1 a2 m0 = some (r, mF)) : fk_Ct l G b0 yX1_saysLate cX1_saysLate 4 (some .int) 9 244 [tR a0, tI a1, tI a2] n m0 (some (tI r)) n mF 0 0 := by
  refine fk_enter n_X1_saysLate.1 rfl ?_
  intro E X0 Y
  have X : fk_X E l G b0 "FigureKnee" "saysLate" cX1_saysLate 4 9 244 0 0 := X0
  show fk_W E 4 n m0 0 0 0 [(0, tR a0), (1, tI a1), (2, tI a2)] []
  unfold f_X1_saysLate at hf
  refine fk_aload_n X 0 dX1_saysLate_0 rfl ?_
  refine fk_aload_n X 0 dX1_saysLate_1 rfl ?_
  refine fk_iload_n X 1 dX1_saysLate_2 rfl ?_
  obtain ⟨u1, hq, hf⟩ := bI hf
  obtain ⟨z2, hv, hf⟩ := bI hf
  refine fk_callV0I (ci := 0) (rest := [tR a0]) X hq rfl (c_X1_isPair hv) n_X1_isPair q1017 q1019 qs26 q122 q1020 rfl dX1_saysLate_3 rfl rfl rfl rfl rfl (Nat.le_refl _) (Nat.le_refl _) ?_
  refine fk_iload_n X 2 dX1_saysLate_6 rfl ?_
  refine fk_iconst (v := 0) X dX1_saysLate_7 rfl ?_
  refine fk_ldc X q1116 dX1_saysLate_8 ?_
  obtain ⟨u3, hq, hf⟩ := bI hf
  obtain ⟨z4, hv, hf⟩ := bI hf
  refine fk_callV0I (ci := 0) (rest := []) X hq rfl (c_X1_why hv) n_X1_why q1039 q1041 qs30 q122 q1042 rfl dX1_saysLate_10 rfl rfl rfl rfl rfl (Nat.le_refl _) (Nat.le_refl _) ?_
  refine fk_istore_n X [(3, tI z4), (0, tR a0), (1, tI a1), (2, tI a2)] dX1_saysLate_13 rfl rfl ?_
  refine fk_iload_n X 0 dX1_saysLate_14 rfl ?_
  refine fk_if_le' X 24 dX1_saysLate_15 rfl hf (fun hf => ?_) (fun hf => ?_)
  · refine fk_aload_n X 1 dX1_saysLate_24 rfl ?_
    refine fk_iload_n X 2 dX1_saysLate_25 rfl ?_
    obtain ⟨u5, hq, hf⟩ := bI hf
    obtain ⟨m6, hv, hf⟩ := bI hf
    refine fk_callV0V (ci := 0) (rest := []) X hq rfl (c_X1_rounds hv) n_X1_rounds q1099 q1101 qs34 q122 q1102 rfl dX1_saysLate_26 rfl rfl rfl rfl rfl (Nat.le_refl _) (Nat.le_refl _) ?_
    refine fk_aload_n X 1 dX1_saysLate_29 rfl ?_
    refine fk_iload_n X 3 dX1_saysLate_30 rfl ?_
    refine fk_aload_n X 1 dX1_saysLate_31 rfl ?_
    refine fk_getI' X fd_0_10 q200 dX1_saysLate_32 hf (fun z7 hf => ?_)
    refine fk_icmp_ge' X 47 dX1_saysLate_35 rfl hf (fun hf => ?_) (fun hf => ?_)
    · refine fk_aload_n X 1 dX1_saysLate_47 rfl ?_
      refine fk_getR' X fd_0_9 q199 dX1_saysLate_48 hf (fun z8 hf => ?_)
      refine fk_aload_n X 1 dX1_saysLate_51 rfl ?_
      refine fk_getI' X fd_0_10 q200 dX1_saysLate_52 hf (fun z9 hf => ?_)
      refine fk_iload_n X 3 dX1_saysLate_55 rfl ?_
      refine fk_aload_n X 1 dX1_saysLate_56 rfl ?_
      refine fk_getI' X fd_0_10 q200 dX1_saysLate_57 hf (fun z10 hf => ?_)
      refine fk_isub X dX1_saysLate_60 ?_
      refine fk_aload_n X 1 dX1_saysLate_61 rfl ?_
      refine fk_getI' X fd_0_11 q201 dX1_saysLate_62 hf (fun z11 hf => ?_)
      refine fk_irem' X dX1_saysLate_65 hf (fun hf => ?_)
      refine fk_iadd X dX1_saysLate_66 ?_
      refine fk_saload' X dX1_saysLate_67 hf (fun z12 hf => ?_)
      exact fk_cut' (w_X1_saysLate_J68 X Y z12 a0 m6 hf) [] rfl
    · refine fk_aload_n X 1 dX1_saysLate_38 rfl ?_
      refine fk_getR' X fd_0_9 q199 dX1_saysLate_39 hf (fun z13 hf => ?_)
      refine fk_iload_n X 3 dX1_saysLate_42 rfl ?_
      refine fk_saload' X dX1_saysLate_43 hf (fun z14 hf => ?_)
      refine fk_goto X 68 dX1_saysLate_44 rfl ?_
      exact fk_cut' (w_X1_saysLate_J68 X Y z14 a0 m6 hf) [] rfl
  · refine fk_aload_n X 1 dX1_saysLate_18 rfl ?_
    refine fk_iload_n X 0 dX1_saysLate_19 rfl ?_
    obtain ⟨u15, hq, hf⟩ := bI hf
    obtain ⟨z16, m17, hv, hf⟩ := bn2_eq hf
    refine fk_callV0I (ci := 0) (rest := []) X hq rfl (c_X1_refused hv) n_X1_refused q264 q266 qs0 q122 q267 rfl dX1_saysLate_20 rfl rfl rfl rfl rfl (Nat.le_refl _) (Nat.le_refl _) ?_
    cases hf
    exact fk_ireturn X Y dX1_saysLate_23 rfl
/-! FigureKnee roundMost (I)I -/
theorem n_X1_roundMost : fk_N yX1_roundMost 1 := ⟨by decide +kernel, by decide +kernel, by decide +kernel, by decide +kernel⟩
def f_X1_roundMost_L23 (x0 : Option Nat) (m0 : fk_M) : Nat → Int32 → Int32 → Option (Int32 × fk_M)
  | 0, _, _ => none
  | N + 1, x2, x3 =>
  (gI m0 x0 0 11).bind fun z1 => if z1 ≤ x3 then ((isO m0 x0 0).bind fun u2 => bn2 (f_X1_well x0 x2 m0) fun z3 m4 => some (z3, m4)) else ((gR m0 x0 0 9).bind fun z5 => (gI m0 x0 0 10).bind fun z6 => (aI m0 z5 2 (z6 + x3)).bind fun z7 => f_X1_roundMost_L23 x0 m0 N (i_max x2 z7) (x3 + 1))
set_option maxHeartbeats 4000000 in
theorem w_X1_roundMost_L23 {E : fk_E} {l : Launch} {G : fk_G} {b0 n : Nat} {r : Int32} {mF : fk_M} (X : fk_X E l G b0 "FigureKnee" "roundMost" cX1_roundMost 4 9 244 0 0) (Y : fk_Y E (some .int) (some (tI r)) n mF 0 0) (x0 : Option Nat) (m0 : fk_M) : ∀ (N : Nat) (x2 : Int32) (x3 : Int32), f_X1_roundMost_L23 x0 m0 N x2 x3 = some (r, mF) → fk_W E 4 n m0 0 0 23 [(0, tR x0), (2, tI x2), (3, tI x3)] [] := by
  intro N
  induction N with
  | zero =>
    intro x2 x3 hf
    have hf : (none : Option (Int32 × fk_M)) = some _ := hf
    cases hf
  | succ N ih =>
    intro x2 x3 hf
    rw [f_X1_roundMost_L23] at hf
    refine fk_iload_n X 2 dX1_roundMost_23 rfl ?_
    refine fk_aload_n X 0 dX1_roundMost_24 rfl ?_
    refine fk_getI' X fd_0_11 q201 dX1_roundMost_25 hf (fun z1 hf => ?_)
    refine fk_icmp_ge' X 53 dX1_roundMost_28 rfl hf (fun hf => ?_) (fun hf => ?_)
    · refine fk_aload_n X 0 dX1_roundMost_53 rfl ?_
      refine fk_iload_n X 1 dX1_roundMost_54 rfl ?_
      obtain ⟨u2, hq, hf⟩ := bI hf
      obtain ⟨z3, m4, hv, hf⟩ := bn2_eq hf
      refine fk_callV0I (ci := 0) (rest := []) X hq rfl (c_X1_well hv) n_X1_well q1001 q1003 qs25 q122 q1004 rfl dX1_roundMost_55 rfl rfl rfl rfl rfl (Nat.le_refl _) (Nat.le_refl _) ?_
      cases hf
      exact fk_ireturn X Y dX1_roundMost_58 rfl
    · refine fk_iload_n X 1 dX1_roundMost_31 rfl ?_
      refine fk_aload_n X 0 dX1_roundMost_32 rfl ?_
      refine fk_getR' X fd_0_9 q199 dX1_roundMost_33 hf (fun z5 hf => ?_)
      refine fk_aload_n X 0 dX1_roundMost_36 rfl ?_
      refine fk_getI' X fd_0_10 q200 dX1_roundMost_37 hf (fun z6 hf => ?_)
      refine fk_iload_n X 2 dX1_roundMost_40 rfl ?_
      refine fk_iadd X dX1_roundMost_41 ?_
      refine fk_saload' X dX1_roundMost_42 hf (fun z7 hf => ?_)
      refine fk_mmax X q1103 q421 q136 q422 dX1_roundMost_43 (by omega) (Nat.le_trans (Nat.le_of_ble_eq_true (rfl : Nat.ble (_ + 13) 40 = true)) (by omega)) (Nat.le_refl _) (Nat.le_refl _) ?_
      refine fk_istore_n X [(2, tI (i_max x2 z7)), (0, tR x0), (3, tI x3)] dX1_roundMost_46 rfl rfl ?_
      refine fk_iinc X 2 [(3, tI (x3 + 1)), (2, tI (i_max x2 z7)), (0, tR x0)] dX1_roundMost_47 rfl rfl rfl rfl ?_
      refine fk_goto X 23 dX1_roundMost_50 rfl ?_
      exact fk_cut' (ih (i_max x2 z7) (x3 + 1)  hf) [2, 1, 0] rfl
def f_X1_roundMost (a0 : Option Nat) (a1 : Int32) (m0 : fk_M) : Option (Int32 × fk_M) :=
  (isO m0 a0 0).bind fun u1 => (f_X1_isPair a0 a1 m0).bind fun z2 => if z2 = 0 then ((isO m0 a0 0).bind fun u3 => bn2 (f_X1_refused a0 1 m0) fun z4 m5 => some (z4, m5)) else ((isO m0 a0 0).bind fun u6 => (f_X1_rounds a0 a1 m0).bind fun m7 => f_X1_roundMost_L23 a0 m7 fk_fuel 0 0)
set_option maxHeartbeats 4000000 in
theorem c_X1_roundMost {l : Launch} {G : fk_G} {b0 : Nat} {n : Nat} {a0 : Option Nat} {a1 : Int32} {m0 : fk_M} {r : Int32} {mF : fk_M} (hf : f_X1_roundMost a0 a1 m0 = some (r, mF)) : fk_Ct l G b0 yX1_roundMost cX1_roundMost 4 (some .int) 9 244 [tR a0, tI a1] n m0 (some (tI r)) n mF 0 0 := by
  refine fk_enter n_X1_roundMost.1 rfl ?_
  intro E X0 Y
  have X : fk_X E l G b0 "FigureKnee" "roundMost" cX1_roundMost 4 9 244 0 0 := X0
  show fk_W E 4 n m0 0 0 0 [(0, tR a0), (1, tI a1)] []
  unfold f_X1_roundMost at hf
  refine fk_aload_n X 0 dX1_roundMost_0 rfl ?_
  refine fk_iload_n X 1 dX1_roundMost_1 rfl ?_
  obtain ⟨u1, hq, hf⟩ := bI hf
  obtain ⟨z2, hv, hf⟩ := bI hf
  refine fk_callV0I (ci := 0) (rest := []) X hq rfl (c_X1_isPair hv) n_X1_isPair q1017 q1019 qs26 q122 q1020 rfl dX1_roundMost_2 rfl rfl rfl rfl rfl (Nat.le_refl _) (Nat.le_refl _) ?_
  refine fk_if_ne' X 14 dX1_roundMost_5 rfl hf (fun hf => ?_) (fun hf => ?_)
  · refine fk_aload_n X 0 dX1_roundMost_14 rfl ?_
    refine fk_iload_n X 1 dX1_roundMost_15 rfl ?_
    obtain ⟨u6, hq, hf⟩ := bI hf
    obtain ⟨m7, hv, hf⟩ := bI hf
    refine fk_callV0V (ci := 0) (rest := []) X hq rfl (c_X1_rounds hv) n_X1_rounds q1099 q1101 qs34 q122 q1102 rfl dX1_roundMost_16 rfl rfl rfl rfl rfl (Nat.le_refl _) (Nat.le_refl _) ?_
    refine fk_iconst (v := 0) X dX1_roundMost_19 rfl ?_
    refine fk_istore_n X [(2, tI 0), (0, tR a0), (1, tI a1)] dX1_roundMost_20 rfl rfl ?_
    refine fk_iconst (v := 0) X dX1_roundMost_21 rfl ?_
    refine fk_istore_n X [(3, tI 0), (2, tI 0), (0, tR a0), (1, tI a1)] dX1_roundMost_22 rfl rfl ?_
    exact fk_cut' (w_X1_roundMost_L23 X Y a0 m7 fk_fuel 0 0 hf) [2, 1, 0] rfl
  · refine fk_aload_n X 0 dX1_roundMost_8 rfl ?_
    refine fk_iconst (v := 1) X dX1_roundMost_9 rfl ?_
    obtain ⟨u3, hq, hf⟩ := bI hf
    obtain ⟨z4, m5, hv, hf⟩ := bn2_eq hf
    refine fk_callV0I (ci := 0) (rest := []) X hq rfl (c_X1_refused hv) n_X1_refused q264 q266 qs0 q122 q267 rfl dX1_roundMost_10 rfl rfl rfl rfl rfl (Nat.le_refl _) (Nat.le_refl _) ?_
    cases hf
    exact fk_ireturn X Y dX1_roundMost_13 rfl
/-! FigureKnee roundLeast (I)I -/
theorem n_X1_roundLeast : fk_N yX1_roundLeast 1 := ⟨by decide +kernel, by decide +kernel, by decide +kernel, by decide +kernel⟩
def f_X1_roundLeast_L29 (x0 : Option Nat) (m0 : fk_M) : Nat → Int32 → Int32 → Option (Int32 × fk_M)
  | 0, _, _ => none
  | N + 1, x2, x3 =>
  (gI m0 x0 0 11).bind fun z1 => if z1 ≤ x3 then ((isO m0 x0 0).bind fun u2 => bn2 (f_X1_well x0 x2 m0) fun z3 m4 => some (z3, m4)) else ((gR m0 x0 0 9).bind fun z5 => (gI m0 x0 0 10).bind fun z6 => (aI m0 z5 2 (z6 + x3)).bind fun z7 => f_X1_roundLeast_L29 x0 m0 N (i_min x2 z7) (x3 + 1))
set_option maxHeartbeats 4000000 in
theorem w_X1_roundLeast_L29 {E : fk_E} {l : Launch} {G : fk_G} {b0 n : Nat} {r : Int32} {mF : fk_M} (X : fk_X E l G b0 "FigureKnee" "roundLeast" cX1_roundLeast 4 9 244 0 0) (Y : fk_Y E (some .int) (some (tI r)) n mF 0 0) (x0 : Option Nat) (m0 : fk_M) : ∀ (N : Nat) (x2 : Int32) (x3 : Int32), f_X1_roundLeast_L29 x0 m0 N x2 x3 = some (r, mF) → fk_W E 4 n m0 0 0 29 [(0, tR x0), (2, tI x2), (3, tI x3)] [] := by
  intro N
  induction N with
  | zero =>
    intro x2 x3 hf
    have hf : (none : Option (Int32 × fk_M)) = some _ := hf
    cases hf
  | succ N ih =>
    intro x2 x3 hf
    rw [f_X1_roundLeast_L29] at hf
    refine fk_iload_n X 2 dX1_roundLeast_29 rfl ?_
    refine fk_aload_n X 0 dX1_roundLeast_30 rfl ?_
    refine fk_getI' X fd_0_11 q201 dX1_roundLeast_31 hf (fun z1 hf => ?_)
    refine fk_icmp_ge' X 59 dX1_roundLeast_34 rfl hf (fun hf => ?_) (fun hf => ?_)
    · refine fk_aload_n X 0 dX1_roundLeast_59 rfl ?_
      refine fk_iload_n X 1 dX1_roundLeast_60 rfl ?_
      obtain ⟨u2, hq, hf⟩ := bI hf
      obtain ⟨z3, m4, hv, hf⟩ := bn2_eq hf
      refine fk_callV0I (ci := 0) (rest := []) X hq rfl (c_X1_well hv) n_X1_well q1001 q1003 qs25 q122 q1004 rfl dX1_roundLeast_61 rfl rfl rfl rfl rfl (Nat.le_refl _) (Nat.le_refl _) ?_
      cases hf
      exact fk_ireturn X Y dX1_roundLeast_64 rfl
    · refine fk_iload_n X 1 dX1_roundLeast_37 rfl ?_
      refine fk_aload_n X 0 dX1_roundLeast_38 rfl ?_
      refine fk_getR' X fd_0_9 q199 dX1_roundLeast_39 hf (fun z5 hf => ?_)
      refine fk_aload_n X 0 dX1_roundLeast_42 rfl ?_
      refine fk_getI' X fd_0_10 q200 dX1_roundLeast_43 hf (fun z6 hf => ?_)
      refine fk_iload_n X 2 dX1_roundLeast_46 rfl ?_
      refine fk_iadd X dX1_roundLeast_47 ?_
      refine fk_saload' X dX1_roundLeast_48 hf (fun z7 hf => ?_)
      refine fk_mmin X q1125 q439 q136 q440 dX1_roundLeast_49 (by omega) (Nat.le_trans (Nat.le_of_ble_eq_true (rfl : Nat.ble (_ + 13) 40 = true)) (by omega)) (Nat.le_refl _) (Nat.le_refl _) ?_
      refine fk_istore_n X [(2, tI (i_min x2 z7)), (0, tR x0), (3, tI x3)] dX1_roundLeast_52 rfl rfl ?_
      refine fk_iinc X 2 [(3, tI (x3 + 1)), (2, tI (i_min x2 z7)), (0, tR x0)] dX1_roundLeast_53 rfl rfl rfl rfl ?_
      refine fk_goto X 29 dX1_roundLeast_56 rfl ?_
      exact fk_cut' (ih (i_min x2 z7) (x3 + 1)  hf) [2, 1, 0] rfl
def f_X1_roundLeast (a0 : Option Nat) (a1 : Int32) (m0 : fk_M) : Option (Int32 × fk_M) :=
  (isO m0 a0 0).bind fun u1 => (f_X1_isPair a0 a1 m0).bind fun z2 => if z2 = 0 then ((isO m0 a0 0).bind fun u3 => bn2 (f_X1_refused a0 1 m0) fun z4 m5 => some (z4, m5)) else ((isO m0 a0 0).bind fun u6 => (f_X1_rounds a0 a1 m0).bind fun m7 => (gR m7 a0 0 5).bind fun z8 => (gI m7 z8 4 0).bind fun z9 => f_X1_roundLeast_L29 a0 m7 fk_fuel z9 0)
set_option maxHeartbeats 4000000 in
theorem c_X1_roundLeast {l : Launch} {G : fk_G} {b0 : Nat} {n : Nat} {a0 : Option Nat} {a1 : Int32} {m0 : fk_M} {r : Int32} {mF : fk_M} (hf : f_X1_roundLeast a0 a1 m0 = some (r, mF)) : fk_Ct l G b0 yX1_roundLeast cX1_roundLeast 4 (some .int) 9 244 [tR a0, tI a1] n m0 (some (tI r)) n mF 0 0 := by
  refine fk_enter n_X1_roundLeast.1 rfl ?_
  intro E X0 Y
  have X : fk_X E l G b0 "FigureKnee" "roundLeast" cX1_roundLeast 4 9 244 0 0 := X0
  show fk_W E 4 n m0 0 0 0 [(0, tR a0), (1, tI a1)] []
  unfold f_X1_roundLeast at hf
  refine fk_aload_n X 0 dX1_roundLeast_0 rfl ?_
  refine fk_iload_n X 1 dX1_roundLeast_1 rfl ?_
  obtain ⟨u1, hq, hf⟩ := bI hf
  obtain ⟨z2, hv, hf⟩ := bI hf
  refine fk_callV0I (ci := 0) (rest := []) X hq rfl (c_X1_isPair hv) n_X1_isPair q1017 q1019 qs26 q122 q1020 rfl dX1_roundLeast_2 rfl rfl rfl rfl rfl (Nat.le_refl _) (Nat.le_refl _) ?_
  refine fk_if_ne' X 14 dX1_roundLeast_5 rfl hf (fun hf => ?_) (fun hf => ?_)
  · refine fk_aload_n X 0 dX1_roundLeast_14 rfl ?_
    refine fk_iload_n X 1 dX1_roundLeast_15 rfl ?_
    obtain ⟨u6, hq, hf⟩ := bI hf
    obtain ⟨m7, hv, hf⟩ := bI hf
    refine fk_callV0V (ci := 0) (rest := []) X hq rfl (c_X1_rounds hv) n_X1_rounds q1099 q1101 qs34 q122 q1102 rfl dX1_roundLeast_16 rfl rfl rfl rfl rfl (Nat.le_refl _) (Nat.le_refl _) ?_
    refine fk_aload_n X 0 dX1_roundLeast_19 rfl ?_
    refine fk_getR' X fd_0_5 q195 dX1_roundLeast_20 hf (fun z8 hf => ?_)
    refine fk_getI' X fd_4_0 q300 dX1_roundLeast_23 hf (fun z9 hf => ?_)
    refine fk_istore_n X [(2, tI z9), (0, tR a0), (1, tI a1)] dX1_roundLeast_26 rfl rfl ?_
    refine fk_iconst (v := 0) X dX1_roundLeast_27 rfl ?_
    refine fk_istore_n X [(3, tI 0), (2, tI z9), (0, tR a0), (1, tI a1)] dX1_roundLeast_28 rfl rfl ?_
    exact fk_cut' (w_X1_roundLeast_L29 X Y a0 m7 fk_fuel z9 0 hf) [2, 1, 0] rfl
  · refine fk_aload_n X 0 dX1_roundLeast_8 rfl ?_
    refine fk_iconst (v := 1) X dX1_roundLeast_9 rfl ?_
    obtain ⟨u3, hq, hf⟩ := bI hf
    obtain ⟨z4, m5, hv, hf⟩ := bn2_eq hf
    refine fk_callV0I (ci := 0) (rest := []) X hq rfl (c_X1_refused hv) n_X1_refused q264 q266 qs0 q122 q267 rfl dX1_roundLeast_10 rfl rfl rfl rfl rfl (Nat.le_refl _) (Nat.le_refl _) ?_
    cases hf
    exact fk_ireturn X Y dX1_roundLeast_13 rfl
/-! FigureKnee turnsAbout (I)I -/
theorem n_X1_turnsAbout : fk_N yX1_turnsAbout 1 := ⟨by decide +kernel, by decide +kernel, by decide +kernel, by decide +kernel⟩
def f_X1_turnsAbout_L25 (x0 : Option Nat) (m0 : fk_M) : Nat → Int32 → Int32 → Option (Int32 × fk_M)
  | 0, _, _ => none
  | N + 1, x2, x3 =>
  if 60 < x3 then ((isO m0 x0 0).bind fun u1 => bn2 (f_X1_well x0 x2 m0) fun z2 m3 => some (z2, m3)) else ((gR m0 x0 0 9).bind fun z4 => (aI m0 z4 2 x3).bind fun z5 => (isO m0 x0 0).bind fun u6 => (f_X1_isMore x0 z5 m0).bind fun z7 => (gR m0 x0 0 9).bind fun z8 => (aI m0 z8 2 (x3 - 1)).bind fun z9 => (isO m0 x0 0).bind fun u10 => (f_X1_isMore x0 z9 m0).bind fun z11 => f_X1_turnsAbout_L25 x0 m0 N (x2 + (if z7 = z11 then (0 : Int32) else 1)) (x3 + 1))
set_option maxHeartbeats 4000000 in
theorem w_X1_turnsAbout_L25 {E : fk_E} {l : Launch} {G : fk_G} {b0 n : Nat} {r : Int32} {mF : fk_M} (X : fk_X E l G b0 "FigureKnee" "turnsAbout" cX1_turnsAbout 4 8 219 0 0) (Y : fk_Y E (some .int) (some (tI r)) n mF 0 0) (x0 : Option Nat) (m0 : fk_M) : ∀ (N : Nat) (x2 : Int32) (x3 : Int32), f_X1_turnsAbout_L25 x0 m0 N x2 x3 = some (r, mF) → fk_W E 4 n m0 0 0 25 [(0, tR x0), (2, tI x2), (3, tI x3)] [] := by
  intro N
  induction N with
  | zero =>
    intro x2 x3 hf
    have hf : (none : Option (Int32 × fk_M)) = some _ := hf
    cases hf
  | succ N ih =>
    intro x2 x3 hf
    rw [f_X1_turnsAbout_L25] at hf
    refine fk_iload_n X 2 dX1_turnsAbout_25 rfl ?_
    refine fk_bipush (v := 60) X dX1_turnsAbout_26 rfl ?_
    refine fk_icmp_gt' X 70 dX1_turnsAbout_28 rfl hf (fun hf => ?_) (fun hf => ?_)
    · refine fk_aload_n X 0 dX1_turnsAbout_70 rfl ?_
      refine fk_iload_n X 1 dX1_turnsAbout_71 rfl ?_
      obtain ⟨u1, hq, hf⟩ := bI hf
      obtain ⟨z2, m3, hv, hf⟩ := bn2_eq hf
      refine fk_callV0I (ci := 0) (rest := []) X hq rfl (c_X1_well hv) n_X1_well q1001 q1003 qs25 q122 q1004 rfl dX1_turnsAbout_72 rfl rfl rfl rfl rfl (Nat.le_refl _) (Nat.le_refl _) ?_
      cases hf
      exact fk_ireturn X Y dX1_turnsAbout_75 rfl
    · refine fk_iload_n X 1 dX1_turnsAbout_31 rfl ?_
      refine fk_aload_n X 0 dX1_turnsAbout_32 rfl ?_
      refine fk_aload_n X 0 dX1_turnsAbout_33 rfl ?_
      refine fk_getR' X fd_0_9 q199 dX1_turnsAbout_34 hf (fun z4 hf => ?_)
      refine fk_iload_n X 2 dX1_turnsAbout_37 rfl ?_
      refine fk_saload' X dX1_turnsAbout_38 hf (fun z5 hf => ?_)
      obtain ⟨u6, hq, hf⟩ := bI hf
      obtain ⟨z7, hv, hf⟩ := bI hf
      refine fk_callV0I (ci := 0) (rest := [tI x2]) X hq rfl (c_X1_isMore hv) n_X1_isMore q1027 q1029 qs28 q122 q1030 rfl dX1_turnsAbout_39 rfl rfl rfl rfl rfl (Nat.le_refl _) (Nat.le_refl _) ?_
      refine fk_aload_n X 0 dX1_turnsAbout_42 rfl ?_
      refine fk_aload_n X 0 dX1_turnsAbout_43 rfl ?_
      refine fk_getR' X fd_0_9 q199 dX1_turnsAbout_44 hf (fun z8 hf => ?_)
      refine fk_iload_n X 2 dX1_turnsAbout_47 rfl ?_
      refine fk_iconst (v := 1) X dX1_turnsAbout_48 rfl ?_
      refine fk_isub X dX1_turnsAbout_49 ?_
      refine fk_saload' X dX1_turnsAbout_50 hf (fun z9 hf => ?_)
      obtain ⟨u10, hq, hf⟩ := bI hf
      obtain ⟨z11, hv, hf⟩ := bI hf
      refine fk_callV0I (ci := 0) (rest := [tI z7, tI x2]) X hq rfl (c_X1_isMore hv) n_X1_isMore q1027 q1029 qs28 q122 q1030 rfl dX1_turnsAbout_51 rfl rfl rfl rfl rfl (Nat.le_refl _) (Nat.le_refl _) ?_
      have J1 : fk_W E 4 n m0 0 0 62 [(0, tR x0), (3, tI x3)] [tI (if z7 = z11 then (0 : Int32) else 1), tI x2] := by
        refine fk_iadd X dX1_turnsAbout_62 ?_
        refine fk_istore_n X [(2, tI (x2 + (if z7 = z11 then (0 : Int32) else 1))), (0, tR x0), (3, tI x3)] dX1_turnsAbout_63 rfl rfl ?_
        refine fk_iinc X 2 [(3, tI (x3 + 1)), (2, tI (x2 + (if z7 = z11 then (0 : Int32) else 1))), (0, tR x0)] dX1_turnsAbout_64 rfl rfl rfl rfl ?_
        refine fk_goto X 25 dX1_turnsAbout_67 rfl ?_
        exact fk_cut' (ih (x2 + (if z7 = z11 then (0 : Int32) else 1)) (x3 + 1)  hf) [2, 1, 0] rfl
      refine fk_icmp_eq X 61 dX1_turnsAbout_54 rfl (fun hc2 => ?_) (fun hc2 => ?_)
      · refine fk_iconst (v := 0) X dX1_turnsAbout_61 rfl ?_
        simp only [if_pos hc2] at J1
        exact fk_cut' J1 [0, 2] rfl
      · refine fk_iconst (v := 1) X dX1_turnsAbout_57 rfl ?_
        refine fk_goto X 62 dX1_turnsAbout_58 rfl ?_
        simp only [if_neg hc2] at J1
        exact fk_cut' J1 [0, 2] rfl
def f_X1_turnsAbout (a0 : Option Nat) (a1 : Int32) (m0 : fk_M) : Option (Int32 × fk_M) :=
  (isO m0 a0 0).bind fun u1 => (f_X1_isPair a0 a1 m0).bind fun z2 => if z2 = 0 then ((isO m0 a0 0).bind fun u3 => bn2 (f_X1_refused a0 1 m0) fun z4 m5 => some (z4, m5)) else ((isO m0 a0 0).bind fun u6 => (f_X1_tellsOn a0 a1 60 m0).bind fun m7 => f_X1_turnsAbout_L25 a0 m7 fk_fuel 0 1)
set_option maxHeartbeats 4000000 in
theorem c_X1_turnsAbout {l : Launch} {G : fk_G} {b0 : Nat} {n : Nat} {a0 : Option Nat} {a1 : Int32} {m0 : fk_M} {r : Int32} {mF : fk_M} (hf : f_X1_turnsAbout a0 a1 m0 = some (r, mF)) : fk_Ct l G b0 yX1_turnsAbout cX1_turnsAbout 4 (some .int) 8 219 [tR a0, tI a1] n m0 (some (tI r)) n mF 0 0 := by
  refine fk_enter n_X1_turnsAbout.1 rfl ?_
  intro E X0 Y
  have X : fk_X E l G b0 "FigureKnee" "turnsAbout" cX1_turnsAbout 4 8 219 0 0 := X0
  show fk_W E 4 n m0 0 0 0 [(0, tR a0), (1, tI a1)] []
  unfold f_X1_turnsAbout at hf
  refine fk_aload_n X 0 dX1_turnsAbout_0 rfl ?_
  refine fk_iload_n X 1 dX1_turnsAbout_1 rfl ?_
  obtain ⟨u1, hq, hf⟩ := bI hf
  obtain ⟨z2, hv, hf⟩ := bI hf
  refine fk_callV0I (ci := 0) (rest := []) X hq rfl (c_X1_isPair hv) n_X1_isPair q1017 q1019 qs26 q122 q1020 rfl dX1_turnsAbout_2 rfl rfl rfl rfl rfl (Nat.le_refl _) (Nat.le_refl _) ?_
  refine fk_if_ne' X 14 dX1_turnsAbout_5 rfl hf (fun hf => ?_) (fun hf => ?_)
  · refine fk_aload_n X 0 dX1_turnsAbout_14 rfl ?_
    refine fk_iload_n X 1 dX1_turnsAbout_15 rfl ?_
    refine fk_bipush (v := 60) X dX1_turnsAbout_16 rfl ?_
    obtain ⟨u6, hq, hf⟩ := bI hf
    obtain ⟨m7, hv, hf⟩ := bI hf
    refine fk_callV0V (ci := 0) (rest := []) X hq rfl (c_X1_tellsOn hv) n_X1_tellsOn q1043 q1045 qs31 q122 q1046 rfl dX1_turnsAbout_18 rfl rfl rfl rfl rfl (Nat.le_refl _) (Nat.le_refl _) ?_
    refine fk_iconst (v := 0) X dX1_turnsAbout_21 rfl ?_
    refine fk_istore_n X [(2, tI 0), (0, tR a0), (1, tI a1)] dX1_turnsAbout_22 rfl rfl ?_
    refine fk_iconst (v := 1) X dX1_turnsAbout_23 rfl ?_
    refine fk_istore_n X [(3, tI 1), (2, tI 0), (0, tR a0), (1, tI a1)] dX1_turnsAbout_24 rfl rfl ?_
    exact fk_cut' (w_X1_turnsAbout_L25 X Y a0 m7 fk_fuel 0 1 hf) [2, 1, 0] rfl
  · refine fk_aload_n X 0 dX1_turnsAbout_8 rfl ?_
    refine fk_iconst (v := 1) X dX1_turnsAbout_9 rfl ?_
    obtain ⟨u3, hq, hf⟩ := bI hf
    obtain ⟨z4, m5, hv, hf⟩ := bn2_eq hf
    refine fk_callV0I (ci := 0) (rest := []) X hq rfl (c_X1_refused hv) n_X1_refused q264 q266 qs0 q122 q267 rfl dX1_turnsAbout_10 rfl rfl rfl rfl rfl (Nat.le_refl _) (Nat.le_refl _) ?_
    cases hf
    exact fk_ireturn X Y dX1_turnsAbout_13 rfl
/-! FigureKnee areTwo (II)Z -/
theorem n_X1_areTwo : fk_N yX1_areTwo 2 := ⟨by decide +kernel, by decide +kernel, by decide +kernel, by decide +kernel⟩
def f_X1_areTwo (a0 : Option Nat) (a1 : Int32) (a2 : Int32) (m : fk_M) : Option Int32 :=
  (isO m a0 0).bind fun u1 => (f_X1_isPair a0 a1 m).bind fun z2 => if z2 = 0 then (some 0) else ((isO m a0 0).bind fun u3 => (f_X1_isPair a0 a2 m).bind fun z4 => some (if z4 = 0 then (0 : Int32) else (if a1 = a2 then (0 : Int32) else 1)))
set_option maxHeartbeats 4000000 in
theorem c_X1_areTwo {l : Launch} {G : fk_G} {b0 : Nat} {n : Nat} {a0 : Option Nat} {a1 : Int32} {a2 : Int32} {m : fk_M} {r : Int32} (hf : f_X1_areTwo a0 a1 a2 m = some r) : fk_Ct l G b0 yX1_areTwo cX1_areTwo 3 (some .boolean) 4 121 [tR a0, tI a1, tI a2] n m (some (tI r)) n m 0 0 := by
  refine fk_enter n_X1_areTwo.1 rfl ?_
  intro E X0 Y
  have X : fk_X E l G b0 "FigureKnee" "areTwo" cX1_areTwo 3 4 121 0 0 := X0
  show fk_W E 3 n m 0 0 0 [(0, tR a0), (1, tI a1), (2, tI a2)] []
  unfold f_X1_areTwo at hf
  refine fk_aload_n X 0 dX1_areTwo_0 rfl ?_
  refine fk_iload_n X 1 dX1_areTwo_1 rfl ?_
  obtain ⟨u1, hq, hf⟩ := bI hf
  obtain ⟨z2, hv, hf⟩ := bI hf
  refine fk_callV0I (ci := 0) (rest := []) X hq rfl (c_X1_isPair hv) n_X1_isPair q1017 q1019 qs26 q122 q1020 rfl dX1_areTwo_2 rfl rfl rfl rfl rfl (Nat.le_refl _) (Nat.le_refl _) ?_
  refine fk_if_eq' X 25 dX1_areTwo_5 rfl hf (fun hf => ?_) (fun hf => ?_)
  · refine fk_iconst (v := 0) X dX1_areTwo_25 rfl ?_
    cases hf
    exact fk_ireturn X Y dX1_areTwo_26 (by decide +kernel)
  · refine fk_aload_n X 0 dX1_areTwo_8 rfl ?_
    refine fk_iload_n X 2 dX1_areTwo_9 rfl ?_
    obtain ⟨u3, hq, hf⟩ := bI hf
    obtain ⟨z4, hv, hf⟩ := bI hf
    refine fk_callV0I (ci := 0) (rest := []) X hq rfl (c_X1_isPair hv) n_X1_isPair q1017 q1019 qs26 q122 q1020 rfl dX1_areTwo_10 rfl rfl rfl rfl rfl (Nat.le_refl _) (Nat.le_refl _) ?_
    have J1 : fk_W E 3 n m 0 0 26 [] [tI (if z4 = 0 then (0 : Int32) else (if a1 = a2 then (0 : Int32) else 1))] := by
      cases hf
      exact fk_ireturn X Y dX1_areTwo_26 (by (repeat' split) <;> decide +kernel)
    refine fk_if_eq X 25 dX1_areTwo_13 rfl (fun hc2 => ?_) (fun hc2 => ?_)
    · refine fk_iconst (v := 0) X dX1_areTwo_25 rfl ?_
      simp only [if_pos hc2] at J1
      exact fk_cut' J1 [] rfl
    · refine fk_iload_n X 1 dX1_areTwo_16 rfl ?_
      refine fk_iload_n X 2 dX1_areTwo_17 rfl ?_
      have J3 : fk_W E 3 n m 0 0 26 [] [tI (if a1 = a2 then (0 : Int32) else 1)] := by
        simp only [if_neg hc2] at J1
        exact fk_cut' J1 [] rfl
      refine fk_icmp_eq X 25 dX1_areTwo_18 rfl (fun hc4 => ?_) (fun hc4 => ?_)
      · refine fk_iconst (v := 0) X dX1_areTwo_25 rfl ?_
        simp only [if_pos hc4] at J3
        exact fk_cut' J3 [] rfl
      · refine fk_iconst (v := 1) X dX1_areTwo_21 rfl ?_
        refine fk_goto X 26 dX1_areTwo_22 rfl ?_
        simp only [if_neg hc4] at J3
        exact fk_cut' J3 [] rfl
/-! FigureKnee alikeIn (II)I -/
theorem n_X1_alikeIn : fk_N yX1_alikeIn 2 := ⟨by decide +kernel, by decide +kernel, by decide +kernel, by decide +kernel⟩
def f_X1_alikeIn_L39 (x0 : Option Nat) (x1 : Int32) (x2 : Int32) (m0 : fk_M) : Nat → Int32 → Int32 → Int32 → Option (Int32 × fk_M)
  | 0, _, _, _ => none
  | N + 1, x3, x4, x5 =>
  if 60 < x5 then ((isO m0 x0 0).bind fun u1 => bn2 (f_X1_well x0 (-2) m0) fun z2 m3 => some (z2, m3)) else (if x3 = x4 then ((isO m0 x0 0).bind fun u4 => bn2 (f_X1_well x0 x5 m0) fun z5 m6 => some (z5, m6)) else ((gR m0 x0 0 6).bind fun z7 => (gR m0 z7 13 2).bind fun z8 => (aI m0 z8 1 x1).bind fun z9 => (isO m0 x0 0).bind fun u10 => (f_X1_at x0 x1 m0).bind fun z11 => (gI m0 z11 6 4).bind fun z12 => (gR m0 x0 0 6).bind fun z13 => (gI m0 z13 13 4).bind fun z14 => (isO m0 x0 0).bind fun u15 => (f_X1_then x0 x1 x3 z9 z12 ((z14 + x5) + 1) 0 m0).bind fun z16 => (gR m0 x0 0 6).bind fun z17 => (gR m0 z17 13 2).bind fun z18 => (aI m0 z18 1 x2).bind fun z19 => (isO m0 x0 0).bind fun u20 => (f_X1_at x0 x2 m0).bind fun z21 => (gI m0 z21 6 4).bind fun z22 => (gR m0 x0 0 6).bind fun z23 => (gI m0 z23 13 4).bind fun z24 => (isO m0 x0 0).bind fun u25 => (f_X1_then x0 x2 x4 z19 z22 ((z24 + x5) + 1) 0 m0).bind fun z26 => f_X1_alikeIn_L39 x0 x1 x2 m0 N z16 z26 (x5 + 1)))
set_option maxHeartbeats 4000000 in
theorem w_X1_alikeIn_L39 {E : fk_E} {l : Launch} {G : fk_G} {b0 n : Nat} {r : Int32} {mF : fk_M} (X : fk_X E l G b0 "FigureKnee" "alikeIn" cX1_alikeIn 6 6 172 0 0) (Y : fk_Y E (some .int) (some (tI r)) n mF 0 0) (x0 : Option Nat) (x1 : Int32) (x2 : Int32) (m0 : fk_M) : ∀ (N : Nat) (x3 : Int32) (x4 : Int32) (x5 : Int32), f_X1_alikeIn_L39 x0 x1 x2 m0 N x3 x4 x5 = some (r, mF) → fk_W E 6 n m0 0 0 39 [(0, tR x0), (1, tI x1), (2, tI x2), (3, tI x3), (4, tI x4), (5, tI x5)] [] := by
  intro N
  induction N with
  | zero =>
    intro x3 x4 x5 hf
    have hf : (none : Option (Int32 × fk_M)) = some _ := hf
    cases hf
  | succ N ih =>
    intro x3 x4 x5 hf
    rw [f_X1_alikeIn_L39] at hf
    refine fk_iload X 5 dX1_alikeIn_39 rfl ?_
    refine fk_bipush (v := 60) X dX1_alikeIn_41 rfl ?_
    refine fk_icmp_gt' X 141 dX1_alikeIn_43 rfl hf (fun hf => ?_) (fun hf => ?_)
    · refine fk_aload_n X 0 dX1_alikeIn_141 rfl ?_
      refine fk_bipush (v := (-2)) X dX1_alikeIn_142 rfl ?_
      obtain ⟨u1, hq, hf⟩ := bI hf
      obtain ⟨z2, m3, hv, hf⟩ := bn2_eq hf
      refine fk_callV0I (ci := 0) (rest := []) X hq rfl (c_X1_well hv) n_X1_well q1001 q1003 qs25 q122 q1004 rfl dX1_alikeIn_144 rfl rfl rfl rfl rfl (Nat.le_refl _) (Nat.le_refl _) ?_
      cases hf
      exact fk_ireturn X Y dX1_alikeIn_147 rfl
    · refine fk_iload_n X 3 dX1_alikeIn_46 rfl ?_
      refine fk_iload X 4 dX1_alikeIn_47 rfl ?_
      refine fk_icmp_ne' X 59 dX1_alikeIn_49 rfl hf (fun hf => ?_) (fun hf => ?_)
      · refine fk_aload_n X 0 dX1_alikeIn_59 rfl ?_
        refine fk_iload_n X 1 dX1_alikeIn_60 rfl ?_
        refine fk_iload_n X 3 dX1_alikeIn_61 rfl ?_
        refine fk_aload_n X 0 dX1_alikeIn_62 rfl ?_
        refine fk_getR' X fd_0_6 q196 dX1_alikeIn_63 hf (fun z7 hf => ?_)
        refine fk_getR' X fd_13_2 q968 dX1_alikeIn_66 hf (fun z8 hf => ?_)
        refine fk_iload_n X 1 dX1_alikeIn_69 rfl ?_
        refine fk_baload' X dX1_alikeIn_70 hf (fun z9 hf => ?_)
        refine fk_aload_n X 0 dX1_alikeIn_71 rfl ?_
        refine fk_iload_n X 1 dX1_alikeIn_72 rfl ?_
        obtain ⟨u10, hq, hf⟩ := bI hf
        obtain ⟨z11, hv, hf⟩ := bI hf
        refine fk_callV0R (ci := 0) (rest := [tI z9, tI x3, tI x1, tR x0]) X hq rfl (c_X1_at hv) n_X1_at q1021 q1023 qs27 q122 q1024 rfl dX1_alikeIn_73 rfl rfl rfl rfl rfl (Nat.le_refl _) (Nat.le_refl _) ?_
        refine fk_getI' X fd_6_4 q753 dX1_alikeIn_76 hf (fun z12 hf => ?_)
        refine fk_aload_n X 0 dX1_alikeIn_79 rfl ?_
        refine fk_getR' X fd_0_6 q196 dX1_alikeIn_80 hf (fun z13 hf => ?_)
        refine fk_getI' X fd_13_4 q972 dX1_alikeIn_83 hf (fun z14 hf => ?_)
        refine fk_iload X 5 dX1_alikeIn_86 rfl ?_
        refine fk_iadd X dX1_alikeIn_88 ?_
        refine fk_iconst (v := 1) X dX1_alikeIn_89 rfl ?_
        refine fk_iadd X dX1_alikeIn_90 ?_
        refine fk_iconst (v := 0) X dX1_alikeIn_91 rfl ?_
        obtain ⟨u15, hq, hf⟩ := bI hf
        obtain ⟨z16, hv, hf⟩ := bI hf
        refine fk_callV0I (ci := 0) (rest := []) X hq rfl (c_X1_then hv) n_X1_then q1051 q1053 qs33 q122 q1054 rfl dX1_alikeIn_92 rfl rfl rfl rfl rfl (Nat.le_refl _) (Nat.le_refl _) ?_
        refine fk_istore_n X [(3, tI z16), (0, tR x0), (1, tI x1), (2, tI x2), (4, tI x4), (5, tI x5)] dX1_alikeIn_95 rfl rfl ?_
        refine fk_aload_n X 1 dX1_alikeIn_96 rfl ?_
        refine fk_iload_n X 3 dX1_alikeIn_97 rfl ?_
        refine fk_iload X 4 dX1_alikeIn_98 rfl ?_
        refine fk_aload_n X 1 dX1_alikeIn_100 rfl ?_
        refine fk_getR' X fd_0_6 q196 dX1_alikeIn_101 hf (fun z17 hf => ?_)
        refine fk_getR' X fd_13_2 q968 dX1_alikeIn_104 hf (fun z18 hf => ?_)
        refine fk_iload_n X 3 dX1_alikeIn_107 rfl ?_
        refine fk_baload' X dX1_alikeIn_108 hf (fun z19 hf => ?_)
        refine fk_aload_n X 1 dX1_alikeIn_109 rfl ?_
        refine fk_iload_n X 3 dX1_alikeIn_110 rfl ?_
        obtain ⟨u20, hq, hf⟩ := bI hf
        obtain ⟨z21, hv, hf⟩ := bI hf
        refine fk_callV0R (ci := 0) (rest := [tI z19, tI x4, tI x2, tR x0]) X hq rfl (c_X1_at hv) n_X1_at q1021 q1023 qs27 q122 q1024 rfl dX1_alikeIn_111 rfl rfl rfl rfl rfl (Nat.le_refl _) (Nat.le_refl _) ?_
        refine fk_getI' X fd_6_4 q753 dX1_alikeIn_114 hf (fun z22 hf => ?_)
        refine fk_aload_n X 1 dX1_alikeIn_117 rfl ?_
        refine fk_getR' X fd_0_6 q196 dX1_alikeIn_118 hf (fun z23 hf => ?_)
        refine fk_getI' X fd_13_4 q972 dX1_alikeIn_121 hf (fun z24 hf => ?_)
        refine fk_iload X 5 dX1_alikeIn_124 rfl ?_
        refine fk_iadd X dX1_alikeIn_126 ?_
        refine fk_iconst (v := 1) X dX1_alikeIn_127 rfl ?_
        refine fk_iadd X dX1_alikeIn_128 ?_
        refine fk_iconst (v := 0) X dX1_alikeIn_129 rfl ?_
        obtain ⟨u25, hq, hf⟩ := bI hf
        obtain ⟨z26, hv, hf⟩ := bI hf
        refine fk_callV0I (ci := 0) (rest := []) X hq rfl (c_X1_then hv) n_X1_then q1051 q1053 qs33 q122 q1054 rfl dX1_alikeIn_130 rfl rfl rfl rfl rfl (Nat.le_refl _) (Nat.le_refl _) ?_
        refine fk_istore X [(4, tI z26), (3, tI z16), (0, tR x0), (1, tI x1), (2, tI x2), (5, tI x5)] dX1_alikeIn_133 rfl rfl ?_
        refine fk_iinc X 5 [(5, tI (x5 + 1)), (4, tI z26), (3, tI z16), (0, tR x0), (1, tI x1), (2, tI x2)] dX1_alikeIn_135 rfl rfl rfl rfl ?_
        refine fk_goto X 39 dX1_alikeIn_138 rfl ?_
        exact fk_cut' (ih z16 z26 (x5 + 1)  hf) [3, 4, 5, 2, 1, 0] rfl
      · refine fk_aload_n X 0 dX1_alikeIn_52 rfl ?_
        refine fk_iload X 5 dX1_alikeIn_53 rfl ?_
        obtain ⟨u4, hq, hf⟩ := bI hf
        obtain ⟨z5, m6, hv, hf⟩ := bn2_eq hf
        refine fk_callV0I (ci := 0) (rest := []) X hq rfl (c_X1_well hv) n_X1_well q1001 q1003 qs25 q122 q1004 rfl dX1_alikeIn_55 rfl rfl rfl rfl rfl (Nat.le_refl _) (Nat.le_refl _) ?_
        cases hf
        exact fk_ireturn X Y dX1_alikeIn_58 rfl
def f_X1_alikeIn (a0 : Option Nat) (a1 : Int32) (a2 : Int32) (m0 : fk_M) : Option (Int32 × fk_M) :=
  (isO m0 a0 0).bind fun u1 => (f_X1_areTwo a0 a1 a2 m0).bind fun z2 => if z2 = 0 then ((isO m0 a0 0).bind fun u3 => bn2 (f_X1_refused a0 1 m0) fun z4 m5 => some (z4, m5)) else ((gR m0 a0 0 6).bind fun z6 => (gR m0 z6 13 1).bind fun z7 => (aI m0 z7 1 a1).bind fun z8 => (gR m0 a0 0 6).bind fun z9 => (gR m0 z9 13 1).bind fun z10 => (aI m0 z10 1 a2).bind fun z11 => f_X1_alikeIn_L39 a0 a1 a2 m0 fk_fuel z8 z11 0)
set_option maxHeartbeats 4000000 in
theorem c_X1_alikeIn {l : Launch} {G : fk_G} {b0 : Nat} {n : Nat} {a0 : Option Nat} {a1 : Int32} {a2 : Int32} {m0 : fk_M} {r : Int32} {mF : fk_M} (hf : f_X1_alikeIn a0 a1 a2 m0 = some (r, mF)) : fk_Ct l G b0 yX1_alikeIn cX1_alikeIn 6 (some .int) 6 172 [tR a0, tI a1, tI a2] n m0 (some (tI r)) n mF 0 0 := by
  refine fk_enter n_X1_alikeIn.1 rfl ?_
  intro E X0 Y
  have X : fk_X E l G b0 "FigureKnee" "alikeIn" cX1_alikeIn 6 6 172 0 0 := X0
  show fk_W E 6 n m0 0 0 0 [(0, tR a0), (1, tI a1), (2, tI a2)] []
  unfold f_X1_alikeIn at hf
  refine fk_aload_n X 0 dX1_alikeIn_0 rfl ?_
  refine fk_iload_n X 1 dX1_alikeIn_1 rfl ?_
  refine fk_iload_n X 2 dX1_alikeIn_2 rfl ?_
  obtain ⟨u1, hq, hf⟩ := bI hf
  obtain ⟨z2, hv, hf⟩ := bI hf
  refine fk_callV0I (ci := 0) (rest := []) X hq rfl (c_X1_areTwo hv) n_X1_areTwo q1134 q1136 qs36 q122 q1137 rfl dX1_alikeIn_3 rfl rfl rfl rfl rfl (Nat.le_refl _) (Nat.le_refl _) ?_
  refine fk_if_ne' X 15 dX1_alikeIn_6 rfl hf (fun hf => ?_) (fun hf => ?_)
  · refine fk_aload_n X 0 dX1_alikeIn_15 rfl ?_
    refine fk_getR' X fd_0_6 q196 dX1_alikeIn_16 hf (fun z6 hf => ?_)
    refine fk_getR' X fd_13_1 q966 dX1_alikeIn_19 hf (fun z7 hf => ?_)
    refine fk_iload_n X 1 dX1_alikeIn_22 rfl ?_
    refine fk_baload' X dX1_alikeIn_23 hf (fun z8 hf => ?_)
    refine fk_istore_n X [(3, tI z8), (0, tR a0), (1, tI a1), (2, tI a2)] dX1_alikeIn_24 rfl rfl ?_
    refine fk_aload_n X 1 dX1_alikeIn_25 rfl ?_
    refine fk_getR' X fd_0_6 q196 dX1_alikeIn_26 hf (fun z9 hf => ?_)
    refine fk_getR' X fd_13_1 q966 dX1_alikeIn_29 hf (fun z10 hf => ?_)
    refine fk_iload_n X 3 dX1_alikeIn_32 rfl ?_
    refine fk_baload' X dX1_alikeIn_33 hf (fun z11 hf => ?_)
    refine fk_istore X [(4, tI z11), (3, tI z8), (0, tR a0), (1, tI a1), (2, tI a2)] dX1_alikeIn_34 rfl rfl ?_
    refine fk_iconst (v := 0) X dX1_alikeIn_36 rfl ?_
    refine fk_istore X [(5, tI 0), (4, tI z11), (3, tI z8), (0, tR a0), (1, tI a1), (2, tI a2)] dX1_alikeIn_37 rfl rfl ?_
    exact fk_cut' (w_X1_alikeIn_L39 X Y a0 a1 a2 m0 fk_fuel z8 z11 0 hf) [3, 4, 5, 2, 1, 0] rfl
  · refine fk_aload_n X 0 dX1_alikeIn_9 rfl ?_
    refine fk_iconst (v := 1) X dX1_alikeIn_10 rfl ?_
    obtain ⟨u3, hq, hf⟩ := bI hf
    obtain ⟨z4, m5, hv, hf⟩ := bn2_eq hf
    refine fk_callV0I (ci := 0) (rest := []) X hq rfl (c_X1_refused hv) n_X1_refused q264 q266 qs0 q122 q267 rfl dX1_alikeIn_11 rfl rfl rfl rfl rfl (Nat.le_refl _) (Nat.le_refl _) ?_
    cases hf
    exact fk_ireturn X Y dX1_alikeIn_14 rfl
