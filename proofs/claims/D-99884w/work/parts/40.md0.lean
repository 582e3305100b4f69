set_option maxRecDepth 100000
/-! FigureKneeModel <init> ()V -/
theorem n_X2_init : fk_N yX2_init 0 := ⟨by decide +kernel, by decide +kernel, by decide +kernel, by decide +kernel⟩
def f_X2_init (a0 : Option Nat) (n1 k1 : Nat) (m0 : fk_M) : Option (Nat × Nat × fk_M) :=
  (isS a0).bind fun _ => (nA n1 m0 0 900).bind fun m1 => (pV m1 a0 1 1 (tR (some n1))).bind fun m2 => (pV m2 a0 1 10 (tI (-1))).bind fun m3 => (nA (n1 + 1) m3 0 8).bind fun m4 => (pV m4 a0 1 12 (tR (some (n1 + 1)))).bind fun m5 => (nA ((n1 + 1) + 1) m5 0 95).bind fun m6 => (pV m6 a0 1 15 (tR (some ((n1 + 1) + 1)))).bind fun m7 => (nA (((n1 + 1) + 1) + 1) m7 0 95).bind fun m8 => (pV m8 a0 1 16 (tR (some (((n1 + 1) + 1) + 1)))).bind fun m9 => (nA ((((n1 + 1) + 1) + 1) + 1) m9 0 36).bind fun m10 => (pV m10 a0 1 17 (tR (some ((((n1 + 1) + 1) + 1) + 1)))).bind fun m11 => (nA (((((n1 + 1) + 1) + 1) + 1) + 1) m11 0 36).bind fun m12 => (pV m12 a0 1 18 (tR (some (((((n1 + 1) + 1) + 1) + 1) + 1)))).bind fun m13 => (nA ((((((n1 + 1) + 1) + 1) + 1) + 1) + 1) m13 0 36).bind fun m14 => (pV m14 a0 1 19 (tR (some ((((((n1 + 1) + 1) + 1) + 1) + 1) + 1)))).bind fun m15 => (nA (((((((n1 + 1) + 1) + 1) + 1) + 1) + 1) + 1) m15 0 576).bind fun m16 => (pV m16 a0 1 20 (tR (some (((((((n1 + 1) + 1) + 1) + 1) + 1) + 1) + 1)))).bind fun m17 => (nA ((((((((n1 + 1) + 1) + 1) + 1) + 1) + 1) + 1) + 1) m17 0 108).bind fun m18 => (pV m18 a0 1 21 (tR (some ((((((((n1 + 1) + 1) + 1) + 1) + 1) + 1) + 1) + 1)))).bind fun m19 => (nA (((((((((n1 + 1) + 1) + 1) + 1) + 1) + 1) + 1) + 1) + 1) m19 0 2600).bind fun m20 => (pV m20 a0 1 24 (tR (some (((((((((n1 + 1) + 1) + 1) + 1) + 1) + 1) + 1) + 1) + 1)))).bind fun m21 => (nA ((((((((((n1 + 1) + 1) + 1) + 1) + 1) + 1) + 1) + 1) + 1) + 1) m21 0 900).bind fun m22 => (pV m22 a0 1 25 (tR (some ((((((((((n1 + 1) + 1) + 1) + 1) + 1) + 1) + 1) + 1) + 1) + 1)))).bind fun m23 => (nA (((((((((((n1 + 1) + 1) + 1) + 1) + 1) + 1) + 1) + 1) + 1) + 1) + 1) m23 0 4).bind fun m24 => (pV m24 a0 1 30 (tR (some (((((((((((n1 + 1) + 1) + 1) + 1) + 1) + 1) + 1) + 1) + 1) + 1) + 1)))).bind fun m25 => (nA ((((((((((((n1 + 1) + 1) + 1) + 1) + 1) + 1) + 1) + 1) + 1) + 1) + 1) + 1) m25 0 5).bind fun m26 => (pV m26 a0 1 34 (tR (some ((((((((((((n1 + 1) + 1) + 1) + 1) + 1) + 1) + 1) + 1) + 1) + 1) + 1) + 1)))).bind fun m27 => (nA (((((((((((((n1 + 1) + 1) + 1) + 1) + 1) + 1) + 1) + 1) + 1) + 1) + 1) + 1) + 1) m27 0 5).bind fun m28 => (pV m28 a0 1 35 (tR (some (((((((((((((n1 + 1) + 1) + 1) + 1) + 1) + 1) + 1) + 1) + 1) + 1) + 1) + 1) + 1)))).bind fun m29 => (nA ((((((((((((((n1 + 1) + 1) + 1) + 1) + 1) + 1) + 1) + 1) + 1) + 1) + 1) + 1) + 1) + 1) m29 0 5).bind fun m30 => (pV m30 a0 1 38 (tR (some ((((((((((((((n1 + 1) + 1) + 1) + 1) + 1) + 1) + 1) + 1) + 1) + 1) + 1) + 1) + 1) + 1)))).bind fun m31 => some ((((((((((((((((n1 + 1) + 1) + 1) + 1) + 1) + 1) + 1) + 1) + 1) + 1) + 1) + 1) + 1) + 1) + 1), (((((((((((((((k1 + (Int32.toNatClampNeg 900)) + (Int32.toNatClampNeg 8)) + (Int32.toNatClampNeg 95)) + (Int32.toNatClampNeg 95)) + (Int32.toNatClampNeg 36)) + (Int32.toNatClampNeg 36)) + (Int32.toNatClampNeg 36)) + (Int32.toNatClampNeg 576)) + (Int32.toNatClampNeg 108)) + (Int32.toNatClampNeg 2600)) + (Int32.toNatClampNeg 900)) + (Int32.toNatClampNeg 4)) + (Int32.toNatClampNeg 5)) + (Int32.toNatClampNeg 5)) + (Int32.toNatClampNeg 5)), m31)
theorem mo_X2_init (a0 : Option Nat) (n1 k1 : Nat) (m0 : fk_M) : Mo3 n1 k1 (f_X2_init a0 n1 k1 m0) := by
  unfold f_X2_init
  exact Mo3.bind (fun _ => Mo3.bind (fun m1 => Mo3.le (n1 := (n1 + 1)) (k1 := (k1 + (Int32.toNatClampNeg 900))) (Mo3.bind (fun m2 => Mo3.bind (fun m3 => Mo3.bind (fun m4 => Mo3.le (n1 := ((n1 + 1) + 1)) (k1 := ((k1 + (Int32.toNatClampNeg 900)) + (Int32.toNatClampNeg 8))) (Mo3.bind (fun m5 => Mo3.bind (fun m6 => Mo3.le (n1 := (((n1 + 1) + 1) + 1)) (k1 := (((k1 + (Int32.toNatClampNeg 900)) + (Int32.toNatClampNeg 8)) + (Int32.toNatClampNeg 95))) (Mo3.bind (fun m7 => Mo3.bind (fun m8 => Mo3.le (n1 := ((((n1 + 1) + 1) + 1) + 1)) (k1 := ((((k1 + (Int32.toNatClampNeg 900)) + (Int32.toNatClampNeg 8)) + (Int32.toNatClampNeg 95)) + (Int32.toNatClampNeg 95))) (Mo3.bind (fun m9 => Mo3.bind (fun m10 => Mo3.le (n1 := (((((n1 + 1) + 1) + 1) + 1) + 1)) (k1 := (((((k1 + (Int32.toNatClampNeg 900)) + (Int32.toNatClampNeg 8)) + (Int32.toNatClampNeg 95)) + (Int32.toNatClampNeg 95)) + (Int32.toNatClampNeg 36))) (Mo3.bind (fun m11 => Mo3.bind (fun m12 => Mo3.le (n1 := ((((((n1 + 1) + 1) + 1) + 1) + 1) + 1)) (k1 := ((((((k1 + (Int32.toNatClampNeg 900)) + (Int32.toNatClampNeg 8)) + (Int32.toNatClampNeg 95)) + (Int32.toNatClampNeg 95)) + (Int32.toNatClampNeg 36)) + (Int32.toNatClampNeg 36))) (Mo3.bind (fun m13 => Mo3.bind (fun m14 => Mo3.le (n1 := (((((((n1 + 1) + 1) + 1) + 1) + 1) + 1) + 1)) (k1 := (((((((k1 + (Int32.toNatClampNeg 900)) + (Int32.toNatClampNeg 8)) + (Int32.toNatClampNeg 95)) + (Int32.toNatClampNeg 95)) + (Int32.toNatClampNeg 36)) + (Int32.toNatClampNeg 36)) + (Int32.toNatClampNeg 36))) (Mo3.bind (fun m15 => Mo3.bind (fun m16 => Mo3.le (n1 := ((((((((n1 + 1) + 1) + 1) + 1) + 1) + 1) + 1) + 1)) (k1 := ((((((((k1 + (Int32.toNatClampNeg 900)) + (Int32.toNatClampNeg 8)) + (Int32.toNatClampNeg 95)) + (Int32.toNatClampNeg 95)) + (Int32.toNatClampNeg 36)) + (Int32.toNatClampNeg 36)) + (Int32.toNatClampNeg 36)) + (Int32.toNatClampNeg 576))) (Mo3.bind (fun m17 => Mo3.bind (fun m18 => Mo3.le (n1 := (((((((((n1 + 1) + 1) + 1) + 1) + 1) + 1) + 1) + 1) + 1)) (k1 := (((((((((k1 + (Int32.toNatClampNeg 900)) + (Int32.toNatClampNeg 8)) + (Int32.toNatClampNeg 95)) + (Int32.toNatClampNeg 95)) + (Int32.toNatClampNeg 36)) + (Int32.toNatClampNeg 36)) + (Int32.toNatClampNeg 36)) + (Int32.toNatClampNeg 576)) + (Int32.toNatClampNeg 108))) (Mo3.bind (fun m19 => Mo3.bind (fun m20 => Mo3.le (n1 := ((((((((((n1 + 1) + 1) + 1) + 1) + 1) + 1) + 1) + 1) + 1) + 1)) (k1 := ((((((((((k1 + (Int32.toNatClampNeg 900)) + (Int32.toNatClampNeg 8)) + (Int32.toNatClampNeg 95)) + (Int32.toNatClampNeg 95)) + (Int32.toNatClampNeg 36)) + (Int32.toNatClampNeg 36)) + (Int32.toNatClampNeg 36)) + (Int32.toNatClampNeg 576)) + (Int32.toNatClampNeg 108)) + (Int32.toNatClampNeg 2600))) (Mo3.bind (fun m21 => Mo3.bind (fun m22 => Mo3.le (n1 := (((((((((((n1 + 1) + 1) + 1) + 1) + 1) + 1) + 1) + 1) + 1) + 1) + 1)) (k1 := (((((((((((k1 + (Int32.toNatClampNeg 900)) + (Int32.toNatClampNeg 8)) + (Int32.toNatClampNeg 95)) + (Int32.toNatClampNeg 95)) + (Int32.toNatClampNeg 36)) + (Int32.toNatClampNeg 36)) + (Int32.toNatClampNeg 36)) + (Int32.toNatClampNeg 576)) + (Int32.toNatClampNeg 108)) + (Int32.toNatClampNeg 2600)) + (Int32.toNatClampNeg 900))) (Mo3.bind (fun m23 => Mo3.bind (fun m24 => Mo3.le (n1 := ((((((((((((n1 + 1) + 1) + 1) + 1) + 1) + 1) + 1) + 1) + 1) + 1) + 1) + 1)) (k1 := ((((((((((((k1 + (Int32.toNatClampNeg 900)) + (Int32.toNatClampNeg 8)) + (Int32.toNatClampNeg 95)) + (Int32.toNatClampNeg 95)) + (Int32.toNatClampNeg 36)) + (Int32.toNatClampNeg 36)) + (Int32.toNatClampNeg 36)) + (Int32.toNatClampNeg 576)) + (Int32.toNatClampNeg 108)) + (Int32.toNatClampNeg 2600)) + (Int32.toNatClampNeg 900)) + (Int32.toNatClampNeg 4))) (Mo3.bind (fun m25 => Mo3.bind (fun m26 => Mo3.le (n1 := (((((((((((((n1 + 1) + 1) + 1) + 1) + 1) + 1) + 1) + 1) + 1) + 1) + 1) + 1) + 1)) (k1 := (((((((((((((k1 + (Int32.toNatClampNeg 900)) + (Int32.toNatClampNeg 8)) + (Int32.toNatClampNeg 95)) + (Int32.toNatClampNeg 95)) + (Int32.toNatClampNeg 36)) + (Int32.toNatClampNeg 36)) + (Int32.toNatClampNeg 36)) + (Int32.toNatClampNeg 576)) + (Int32.toNatClampNeg 108)) + (Int32.toNatClampNeg 2600)) + (Int32.toNatClampNeg 900)) + (Int32.toNatClampNeg 4)) + (Int32.toNatClampNeg 5))) (Mo3.bind (fun m27 => Mo3.bind (fun m28 => Mo3.le (n1 := ((((((((((((((n1 + 1) + 1) + 1) + 1) + 1) + 1) + 1) + 1) + 1) + 1) + 1) + 1) + 1) + 1)) (k1 := ((((((((((((((k1 + (Int32.toNatClampNeg 900)) + (Int32.toNatClampNeg 8)) + (Int32.toNatClampNeg 95)) + (Int32.toNatClampNeg 95)) + (Int32.toNatClampNeg 36)) + (Int32.toNatClampNeg 36)) + (Int32.toNatClampNeg 36)) + (Int32.toNatClampNeg 576)) + (Int32.toNatClampNeg 108)) + (Int32.toNatClampNeg 2600)) + (Int32.toNatClampNeg 900)) + (Int32.toNatClampNeg 4)) + (Int32.toNatClampNeg 5)) + (Int32.toNatClampNeg 5))) (Mo3.bind (fun m29 => Mo3.bind (fun m30 => Mo3.le (n1 := (((((((((((((((n1 + 1) + 1) + 1) + 1) + 1) + 1) + 1) + 1) + 1) + 1) + 1) + 1) + 1) + 1) + 1)) (k1 := (((((((((((((((k1 + (Int32.toNatClampNeg 900)) + (Int32.toNatClampNeg 8)) + (Int32.toNatClampNeg 95)) + (Int32.toNatClampNeg 95)) + (Int32.toNatClampNeg 36)) + (Int32.toNatClampNeg 36)) + (Int32.toNatClampNeg 36)) + (Int32.toNatClampNeg 576)) + (Int32.toNatClampNeg 108)) + (Int32.toNatClampNeg 2600)) + (Int32.toNatClampNeg 900)) + (Int32.toNatClampNeg 4)) + (Int32.toNatClampNeg 5)) + (Int32.toNatClampNeg 5)) + (Int32.toNatClampNeg 5))) (Mo3.bind (fun m31 => Mo3.ok (by omega) (by omega))) (by omega) (by omega)))) (by omega) (by omega)))) (by omega) (by omega)))) (by omega) (by omega)))) (by omega) (by omega)))) (by omega) (by omega)))) (by omega) (by omega)))) (by omega) (by omega)))) (by omega) (by omega)))) (by omega) (by omega)))) (by omega) (by omega)))) (by omega) (by omega)))) (by omega) (by omega)))) (by omega) (by omega))))) (by omega) (by omega)))
set_option maxHeartbeats 4000000 in
theorem c_X2_init {l : Launch} {G : fk_G} {b0 : Nat} {n1 k1 nF kF : Nat} {a0 : Option Nat} {m0 : fk_M} {mF : fk_M} (hf : f_X2_init a0 n1 k1 m0 = some (nF, kF, mF)) : fk_Ct l G b0 yX2_init cX2_init 1 none 1 60 [tR a0] n1 m0 none nF mF (nF - n1) (kF - k1) := by
  refine fk_enter n_X2_init.1 rfl ?_
  intro E X0 Y
  have X : fk_X E l G b0 "FigureKneeModel" "<init>" cX2_init 1 1 60 (nF - n1) (kF - k1) := X0
  show fk_W E 1 n1 m0 0 0 0 [(0, tR a0)] []
  refine fk_widen (cs2 := n1 - n1) (sl2 := k1 - k1) (Nat.zero_le _) (Nat.zero_le _) ?_
  unfold f_X2_init at hf
  have h01 : n1 ≤ n1 := Nat.le_refl _
  have h02 : k1 ≤ k1 := Nat.le_refl _
  refine fk_aload_n X 0 dX2_init_0 rfl ?_
  refine fk_objInit' X q1525 q161 q162 dX2_init_1 rfl rfl hf (fun hf => ?_)
  refine fk_aload_n X 0 dX2_init_4 rfl ?_
  refine fk_sipush (v := 900) X dX2_init_5 rfl ?_
  obtain ⟨m1, hv, hf⟩ := bI hf
  have hm : (n1 + 1) ≤ nF ∧ (k1 + (Int32.toNatClampNeg 900)) ≤ kF := Mo3.use hf (Mo3.bind (fun m2 => Mo3.bind (fun m3 => Mo3.bind (fun m4 => Mo3.le (n1 := ((n1 + 1) + 1)) (k1 := ((k1 + (Int32.toNatClampNeg 900)) + (Int32.toNatClampNeg 8))) (Mo3.bind (fun m5 => Mo3.bind (fun m6 => Mo3.le (n1 := (((n1 + 1) + 1) + 1)) (k1 := (((k1 + (Int32.toNatClampNeg 900)) + (Int32.toNatClampNeg 8)) + (Int32.toNatClampNeg 95))) (Mo3.bind (fun m7 => Mo3.bind (fun m8 => Mo3.le (n1 := ((((n1 + 1) + 1) + 1) + 1)) (k1 := ((((k1 + (Int32.toNatClampNeg 900)) + (Int32.toNatClampNeg 8)) + (Int32.toNatClampNeg 95)) + (Int32.toNatClampNeg 95))) (Mo3.bind (fun m9 => Mo3.bind (fun m10 => Mo3.le (n1 := (((((n1 + 1) + 1) + 1) + 1) + 1)) (k1 := (((((k1 + (Int32.toNatClampNeg 900)) + (Int32.toNatClampNeg 8)) + (Int32.toNatClampNeg 95)) + (Int32.toNatClampNeg 95)) + (Int32.toNatClampNeg 36))) (Mo3.bind (fun m11 => Mo3.bind (fun m12 => Mo3.le (n1 := ((((((n1 + 1) + 1) + 1) + 1) + 1) + 1)) (k1 := ((((((k1 + (Int32.toNatClampNeg 900)) + (Int32.toNatClampNeg 8)) + (Int32.toNatClampNeg 95)) + (Int32.toNatClampNeg 95)) + (Int32.toNatClampNeg 36)) + (Int32.toNatClampNeg 36))) (Mo3.bind (fun m13 => Mo3.bind (fun m14 => Mo3.le (n1 := (((((((n1 + 1) + 1) + 1) + 1) + 1) + 1) + 1)) (k1 := (((((((k1 + (Int32.toNatClampNeg 900)) + (Int32.toNatClampNeg 8)) + (Int32.toNatClampNeg 95)) + (Int32.toNatClampNeg 95)) + (Int32.toNatClampNeg 36)) + (Int32.toNatClampNeg 36)) + (Int32.toNatClampNeg 36))) (Mo3.bind (fun m15 => Mo3.bind (fun m16 => Mo3.le (n1 := ((((((((n1 + 1) + 1) + 1) + 1) + 1) + 1) + 1) + 1)) (k1 := ((((((((k1 + (Int32.toNatClampNeg 900)) + (Int32.toNatClampNeg 8)) + (Int32.toNatClampNeg 95)) + (Int32.toNatClampNeg 95)) + (Int32.toNatClampNeg 36)) + (Int32.toNatClampNeg 36)) + (Int32.toNatClampNeg 36)) + (Int32.toNatClampNeg 576))) (Mo3.bind (fun m17 => Mo3.bind (fun m18 => Mo3.le (n1 := (((((((((n1 + 1) + 1) + 1) + 1) + 1) + 1) + 1) + 1) + 1)) (k1 := (((((((((k1 + (Int32.toNatClampNeg 900)) + (Int32.toNatClampNeg 8)) + (Int32.toNatClampNeg 95)) + (Int32.toNatClampNeg 95)) + (Int32.toNatClampNeg 36)) + (Int32.toNatClampNeg 36)) + (Int32.toNatClampNeg 36)) + (Int32.toNatClampNeg 576)) + (Int32.toNatClampNeg 108))) (Mo3.bind (fun m19 => Mo3.bind (fun m20 => Mo3.le (n1 := ((((((((((n1 + 1) + 1) + 1) + 1) + 1) + 1) + 1) + 1) + 1) + 1)) (k1 := ((((((((((k1 + (Int32.toNatClampNeg 900)) + (Int32.toNatClampNeg 8)) + (Int32.toNatClampNeg 95)) + (Int32.toNatClampNeg 95)) + (Int32.toNatClampNeg 36)) + (Int32.toNatClampNeg 36)) + (Int32.toNatClampNeg 36)) + (Int32.toNatClampNeg 576)) + (Int32.toNatClampNeg 108)) + (Int32.toNatClampNeg 2600))) (Mo3.bind (fun m21 => Mo3.bind (fun m22 => Mo3.le (n1 := (((((((((((n1 + 1) + 1) + 1) + 1) + 1) + 1) + 1) + 1) + 1) + 1) + 1)) (k1 := (((((((((((k1 + (Int32.toNatClampNeg 900)) + (Int32.toNatClampNeg 8)) + (Int32.toNatClampNeg 95)) + (Int32.toNatClampNeg 95)) + (Int32.toNatClampNeg 36)) + (Int32.toNatClampNeg 36)) + (Int32.toNatClampNeg 36)) + (Int32.toNatClampNeg 576)) + (Int32.toNatClampNeg 108)) + (Int32.toNatClampNeg 2600)) + (Int32.toNatClampNeg 900))) (Mo3.bind (fun m23 => Mo3.bind (fun m24 => Mo3.le (n1 := ((((((((((((n1 + 1) + 1) + 1) + 1) + 1) + 1) + 1) + 1) + 1) + 1) + 1) + 1)) (k1 := ((((((((((((k1 + (Int32.toNatClampNeg 900)) + (Int32.toNatClampNeg 8)) + (Int32.toNatClampNeg 95)) + (Int32.toNatClampNeg 95)) + (Int32.toNatClampNeg 36)) + (Int32.toNatClampNeg 36)) + (Int32.toNatClampNeg 36)) + (Int32.toNatClampNeg 576)) + (Int32.toNatClampNeg 108)) + (Int32.toNatClampNeg 2600)) + (Int32.toNatClampNeg 900)) + (Int32.toNatClampNeg 4))) (Mo3.bind (fun m25 => Mo3.bind (fun m26 => Mo3.le (n1 := (((((((((((((n1 + 1) + 1) + 1) + 1) + 1) + 1) + 1) + 1) + 1) + 1) + 1) + 1) + 1)) (k1 := (((((((((((((k1 + (Int32.toNatClampNeg 900)) + (Int32.toNatClampNeg 8)) + (Int32.toNatClampNeg 95)) + (Int32.toNatClampNeg 95)) + (Int32.toNatClampNeg 36)) + (Int32.toNatClampNeg 36)) + (Int32.toNatClampNeg 36)) + (Int32.toNatClampNeg 576)) + (Int32.toNatClampNeg 108)) + (Int32.toNatClampNeg 2600)) + (Int32.toNatClampNeg 900)) + (Int32.toNatClampNeg 4)) + (Int32.toNatClampNeg 5))) (Mo3.bind (fun m27 => Mo3.bind (fun m28 => Mo3.le (n1 := ((((((((((((((n1 + 1) + 1) + 1) + 1) + 1) + 1) + 1) + 1) + 1) + 1) + 1) + 1) + 1) + 1)) (k1 := ((((((((((((((k1 + (Int32.toNatClampNeg 900)) + (Int32.toNatClampNeg 8)) + (Int32.toNatClampNeg 95)) + (Int32.toNatClampNeg 95)) + (Int32.toNatClampNeg 36)) + (Int32.toNatClampNeg 36)) + (Int32.toNatClampNeg 36)) + (Int32.toNatClampNeg 576)) + (Int32.toNatClampNeg 108)) + (Int32.toNatClampNeg 2600)) + (Int32.toNatClampNeg 900)) + (Int32.toNatClampNeg 4)) + (Int32.toNatClampNeg 5)) + (Int32.toNatClampNeg 5))) (Mo3.bind (fun m29 => Mo3.bind (fun m30 => Mo3.le (n1 := (((((((((((((((n1 + 1) + 1) + 1) + 1) + 1) + 1) + 1) + 1) + 1) + 1) + 1) + 1) + 1) + 1) + 1)) (k1 := (((((((((((((((k1 + (Int32.toNatClampNeg 900)) + (Int32.toNatClampNeg 8)) + (Int32.toNatClampNeg 95)) + (Int32.toNatClampNeg 95)) + (Int32.toNatClampNeg 36)) + (Int32.toNatClampNeg 36)) + (Int32.toNatClampNeg 36)) + (Int32.toNatClampNeg 576)) + (Int32.toNatClampNeg 108)) + (Int32.toNatClampNeg 2600)) + (Int32.toNatClampNeg 900)) + (Int32.toNatClampNeg 4)) + (Int32.toNatClampNeg 5)) + (Int32.toNatClampNeg 5)) + (Int32.toNatClampNeg 5))) (Mo3.bind (fun m31 => Mo3.ok (by omega) (by omega))) (by omega) (by omega)))) (by omega) (by omega)))) (by omega) (by omega)))) (by omega) (by omega)))) (by omega) (by omega)))) (by omega) (by omega)))) (by omega) (by omega)))) (by omega) (by omega)))) (by omega) (by omega)))) (by omega) (by omega)))) (by omega) (by omega)))) (by omega) (by omega)))) (by omega) (by omega)))) (by omega) (by omega)))))
  refine fk_newI 0 (by decide) (cs2 := (n1 + 1) - n1) (sl2 := (k1 + (Int32.toNatClampNeg 900)) - k1) X q252 dX2_init_8 hv (by omega) (by omega) (by omega) (by omega) ?_
  refine fk_putFR' X fd_1_1 q1527 dX2_init_10 (fit_A _) hf (fun m2 hf => ?_)
  refine fk_aload_n X 0 dX2_init_13 rfl ?_
  refine fk_iconst (v := (-1)) X dX2_init_14 rfl ?_
  refine fk_putI' X fd_1_10 q1536 dX2_init_15 (fit_I _) hf (fun m3 hf => ?_)
  refine fk_aload_n X 0 dX2_init_18 rfl ?_
  refine fk_bipush (v := 8) X dX2_init_19 rfl ?_
  obtain ⟨m4, hv, hf⟩ := bI hf
  have hm : ((n1 + 1) + 1) ≤ nF ∧ ((k1 + (Int32.toNatClampNeg 900)) + (Int32.toNatClampNeg 8)) ≤ kF := Mo3.use hf (Mo3.bind (fun m5 => Mo3.bind (fun m6 => Mo3.le (n1 := (((n1 + 1) + 1) + 1)) (k1 := (((k1 + (Int32.toNatClampNeg 900)) + (Int32.toNatClampNeg 8)) + (Int32.toNatClampNeg 95))) (Mo3.bind (fun m7 => Mo3.bind (fun m8 => Mo3.le (n1 := ((((n1 + 1) + 1) + 1) + 1)) (k1 := ((((k1 + (Int32.toNatClampNeg 900)) + (Int32.toNatClampNeg 8)) + (Int32.toNatClampNeg 95)) + (Int32.toNatClampNeg 95))) (Mo3.bind (fun m9 => Mo3.bind (fun m10 => Mo3.le (n1 := (((((n1 + 1) + 1) + 1) + 1) + 1)) (k1 := (((((k1 + (Int32.toNatClampNeg 900)) + (Int32.toNatClampNeg 8)) + (Int32.toNatClampNeg 95)) + (Int32.toNatClampNeg 95)) + (Int32.toNatClampNeg 36))) (Mo3.bind (fun m11 => Mo3.bind (fun m12 => Mo3.le (n1 := ((((((n1 + 1) + 1) + 1) + 1) + 1) + 1)) (k1 := ((((((k1 + (Int32.toNatClampNeg 900)) + (Int32.toNatClampNeg 8)) + (Int32.toNatClampNeg 95)) + (Int32.toNatClampNeg 95)) + (Int32.toNatClampNeg 36)) + (Int32.toNatClampNeg 36))) (Mo3.bind (fun m13 => Mo3.bind (fun m14 => Mo3.le (n1 := (((((((n1 + 1) + 1) + 1) + 1) + 1) + 1) + 1)) (k1 := (((((((k1 + (Int32.toNatClampNeg 900)) + (Int32.toNatClampNeg 8)) + (Int32.toNatClampNeg 95)) + (Int32.toNatClampNeg 95)) + (Int32.toNatClampNeg 36)) + (Int32.toNatClampNeg 36)) + (Int32.toNatClampNeg 36))) (Mo3.bind (fun m15 => Mo3.bind (fun m16 => Mo3.le (n1 := ((((((((n1 + 1) + 1) + 1) + 1) + 1) + 1) + 1) + 1)) (k1 := ((((((((k1 + (Int32.toNatClampNeg 900)) + (Int32.toNatClampNeg 8)) + (Int32.toNatClampNeg 95)) + (Int32.toNatClampNeg 95)) + (Int32.toNatClampNeg 36)) + (Int32.toNatClampNeg 36)) + (Int32.toNatClampNeg 36)) + (Int32.toNatClampNeg 576))) (Mo3.bind (fun m17 => Mo3.bind (fun m18 => Mo3.le (n1 := (((((((((n1 + 1) + 1) + 1) + 1) + 1) + 1) + 1) + 1) + 1)) (k1 := (((((((((k1 + (Int32.toNatClampNeg 900)) + (Int32.toNatClampNeg 8)) + (Int32.toNatClampNeg 95)) + (Int32.toNatClampNeg 95)) + (Int32.toNatClampNeg 36)) + (Int32.toNatClampNeg 36)) + (Int32.toNatClampNeg 36)) + (Int32.toNatClampNeg 576)) + (Int32.toNatClampNeg 108))) (Mo3.bind (fun m19 => Mo3.bind (fun m20 => Mo3.le (n1 := ((((((((((n1 + 1) + 1) + 1) + 1) + 1) + 1) + 1) + 1) + 1) + 1)) (k1 := ((((((((((k1 + (Int32.toNatClampNeg 900)) + (Int32.toNatClampNeg 8)) + (Int32.toNatClampNeg 95)) + (Int32.toNatClampNeg 95)) + (Int32.toNatClampNeg 36)) + (Int32.toNatClampNeg 36)) + (Int32.toNatClampNeg 36)) + (Int32.toNatClampNeg 576)) + (Int32.toNatClampNeg 108)) + (Int32.toNatClampNeg 2600))) (Mo3.bind (fun m21 => Mo3.bind (fun m22 => Mo3.le (n1 := (((((((((((n1 + 1) + 1) + 1) + 1) + 1) + 1) + 1) + 1) + 1) + 1) + 1)) (k1 := (((((((((((k1 + (Int32.toNatClampNeg 900)) + (Int32.toNatClampNeg 8)) + (Int32.toNatClampNeg 95)) + (Int32.toNatClampNeg 95)) + (Int32.toNatClampNeg 36)) + (Int32.toNatClampNeg 36)) + (Int32.toNatClampNeg 36)) + (Int32.toNatClampNeg 576)) + (Int32.toNatClampNeg 108)) + (Int32.toNatClampNeg 2600)) + (Int32.toNatClampNeg 900))) (Mo3.bind (fun m23 => Mo3.bind (fun m24 => Mo3.le (n1 := ((((((((((((n1 + 1) + 1) + 1) + 1) + 1) + 1) + 1) + 1) + 1) + 1) + 1) + 1)) (k1 := ((((((((((((k1 + (Int32.toNatClampNeg 900)) + (Int32.toNatClampNeg 8)) + (Int32.toNatClampNeg 95)) + (Int32.toNatClampNeg 95)) + (Int32.toNatClampNeg 36)) + (Int32.toNatClampNeg 36)) + (Int32.toNatClampNeg 36)) + (Int32.toNatClampNeg 576)) + (Int32.toNatClampNeg 108)) + (Int32.toNatClampNeg 2600)) + (Int32.toNatClampNeg 900)) + (Int32.toNatClampNeg 4))) (Mo3.bind (fun m25 => Mo3.bind (fun m26 => Mo3.le (n1 := (((((((((((((n1 + 1) + 1) + 1) + 1) + 1) + 1) + 1) + 1) + 1) + 1) + 1) + 1) + 1)) (k1 := (((((((((((((k1 + (Int32.toNatClampNeg 900)) + (Int32.toNatClampNeg 8)) + (Int32.toNatClampNeg 95)) + (Int32.toNatClampNeg 95)) + (Int32.toNatClampNeg 36)) + (Int32.toNatClampNeg 36)) + (Int32.toNatClampNeg 36)) + (Int32.toNatClampNeg 576)) + (Int32.toNatClampNeg 108)) + (Int32.toNatClampNeg 2600)) + (Int32.toNatClampNeg 900)) + (Int32.toNatClampNeg 4)) + (Int32.toNatClampNeg 5))) (Mo3.bind (fun m27 => Mo3.bind (fun m28 => Mo3.le (n1 := ((((((((((((((n1 + 1) + 1) + 1) + 1) + 1) + 1) + 1) + 1) + 1) + 1) + 1) + 1) + 1) + 1)) (k1 := ((((((((((((((k1 + (Int32.toNatClampNeg 900)) + (Int32.toNatClampNeg 8)) + (Int32.toNatClampNeg 95)) + (Int32.toNatClampNeg 95)) + (Int32.toNatClampNeg 36)) + (Int32.toNatClampNeg 36)) + (Int32.toNatClampNeg 36)) + (Int32.toNatClampNeg 576)) + (Int32.toNatClampNeg 108)) + (Int32.toNatClampNeg 2600)) + (Int32.toNatClampNeg 900)) + (Int32.toNatClampNeg 4)) + (Int32.toNatClampNeg 5)) + (Int32.toNatClampNeg 5))) (Mo3.bind (fun m29 => Mo3.bind (fun m30 => Mo3.le (n1 := (((((((((((((((n1 + 1) + 1) + 1) + 1) + 1) + 1) + 1) + 1) + 1) + 1) + 1) + 1) + 1) + 1) + 1)) (k1 := (((((((((((((((k1 + (Int32.toNatClampNeg 900)) + (Int32.toNatClampNeg 8)) + (Int32.toNatClampNeg 95)) + (Int32.toNatClampNeg 95)) + (Int32.toNatClampNeg 36)) + (Int32.toNatClampNeg 36)) + (Int32.toNatClampNeg 36)) + (Int32.toNatClampNeg 576)) + (Int32.toNatClampNeg 108)) + (Int32.toNatClampNeg 2600)) + (Int32.toNatClampNeg 900)) + (Int32.toNatClampNeg 4)) + (Int32.toNatClampNeg 5)) + (Int32.toNatClampNeg 5)) + (Int32.toNatClampNeg 5))) (Mo3.bind (fun m31 => Mo3.ok (by omega) (by omega))) (by omega) (by omega)))) (by omega) (by omega)))) (by omega) (by omega)))) (by omega) (by omega)))) (by omega) (by omega)))) (by omega) (by omega)))) (by omega) (by omega)))) (by omega) (by omega)))) (by omega) (by omega)))) (by omega) (by omega)))) (by omega) (by omega)))) (by omega) (by omega)))) (by omega) (by omega))))
  refine fk_newI 0 (by decide) (cs2 := ((n1 + 1) + 1) - n1) (sl2 := ((k1 + (Int32.toNatClampNeg 900)) + (Int32.toNatClampNeg 8)) - k1) X q252 dX2_init_21 hv (by omega) (by omega) (by omega) (by omega) ?_
  refine fk_putFR' X fd_1_12 q1538 dX2_init_23 (fit_A _) hf (fun m5 hf => ?_)
  refine fk_aload_n X 0 dX2_init_26 rfl ?_
  refine fk_bipush (v := 95) X dX2_init_27 rfl ?_
  obtain ⟨m6, hv, hf⟩ := bI hf
  have hm : (((n1 + 1) + 1) + 1) ≤ nF ∧ (((k1 + (Int32.toNatClampNeg 900)) + (Int32.toNatClampNeg 8)) + (Int32.toNatClampNeg 95)) ≤ kF := Mo3.use hf (Mo3.bind (fun m7 => Mo3.bind (fun m8 => Mo3.le (n1 := ((((n1 + 1) + 1) + 1) + 1)) (k1 := ((((k1 + (Int32.toNatClampNeg 900)) + (Int32.toNatClampNeg 8)) + (Int32.toNatClampNeg 95)) + (Int32.toNatClampNeg 95))) (Mo3.bind (fun m9 => Mo3.bind (fun m10 => Mo3.le (n1 := (((((n1 + 1) + 1) + 1) + 1) + 1)) (k1 := (((((k1 + (Int32.toNatClampNeg 900)) + (Int32.toNatClampNeg 8)) + (Int32.toNatClampNeg 95)) + (Int32.toNatClampNeg 95)) + (Int32.toNatClampNeg 36))) (Mo3.bind (fun m11 => Mo3.bind (fun m12 => Mo3.le (n1 := ((((((n1 + 1) + 1) + 1) + 1) + 1) + 1)) (k1 := ((((((k1 + (Int32.toNatClampNeg 900)) + (Int32.toNatClampNeg 8)) + (Int32.toNatClampNeg 95)) + (Int32.toNatClampNeg 95)) + (Int32.toNatClampNeg 36)) + (Int32.toNatClampNeg 36))) (Mo3.bind (fun m13 => Mo3.bind (fun m14 => Mo3.le (n1 := (((((((n1 + 1) + 1) + 1) + 1) + 1) + 1) + 1)) (k1 := (((((((k1 + (Int32.toNatClampNeg 900)) + (Int32.toNatClampNeg 8)) + (Int32.toNatClampNeg 95)) + (Int32.toNatClampNeg 95)) + (Int32.toNatClampNeg 36)) + (Int32.toNatClampNeg 36)) + (Int32.toNatClampNeg 36))) (Mo3.bind (fun m15 => Mo3.bind (fun m16 => Mo3.le (n1 := ((((((((n1 + 1) + 1) + 1) + 1) + 1) + 1) + 1) + 1)) (k1 := ((((((((k1 + (Int32.toNatClampNeg 900)) + (Int32.toNatClampNeg 8)) + (Int32.toNatClampNeg 95)) + (Int32.toNatClampNeg 95)) + (Int32.toNatClampNeg 36)) + (Int32.toNatClampNeg 36)) + (Int32.toNatClampNeg 36)) + (Int32.toNatClampNeg 576))) (Mo3.bind (fun m17 => Mo3.bind (fun m18 => Mo3.le (n1 := (((((((((n1 + 1) + 1) + 1) + 1) + 1) + 1) + 1) + 1) + 1)) (k1 := (((((((((k1 + (Int32.toNatClampNeg 900)) + (Int32.toNatClampNeg 8)) + (Int32.toNatClampNeg 95)) + (Int32.toNatClampNeg 95)) + (Int32.toNatClampNeg 36)) + (Int32.toNatClampNeg 36)) + (Int32.toNatClampNeg 36)) + (Int32.toNatClampNeg 576)) + (Int32.toNatClampNeg 108))) (Mo3.bind (fun m19 => Mo3.bind (fun m20 => Mo3.le (n1 := ((((((((((n1 + 1) + 1) + 1) + 1) + 1) + 1) + 1) + 1) + 1) + 1)) (k1 := ((((((((((k1 + (Int32.toNatClampNeg 900)) + (Int32.toNatClampNeg 8)) + (Int32.toNatClampNeg 95)) + (Int32.toNatClampNeg 95)) + (Int32.toNatClampNeg 36)) + (Int32.toNatClampNeg 36)) + (Int32.toNatClampNeg 36)) + (Int32.toNatClampNeg 576)) + (Int32.toNatClampNeg 108)) + (Int32.toNatClampNeg 2600))) (Mo3.bind (fun m21 => Mo3.bind (fun m22 => Mo3.le (n1 := (((((((((((n1 + 1) + 1) + 1) + 1) + 1) + 1) + 1) + 1) + 1) + 1) + 1)) (k1 := (((((((((((k1 + (Int32.toNatClampNeg 900)) + (Int32.toNatClampNeg 8)) + (Int32.toNatClampNeg 95)) + (Int32.toNatClampNeg 95)) + (Int32.toNatClampNeg 36)) + (Int32.toNatClampNeg 36)) + (Int32.toNatClampNeg 36)) + (Int32.toNatClampNeg 576)) + (Int32.toNatClampNeg 108)) + (Int32.toNatClampNeg 2600)) + (Int32.toNatClampNeg 900))) (Mo3.bind (fun m23 => Mo3.bind (fun m24 => Mo3.le (n1 := ((((((((((((n1 + 1) + 1) + 1) + 1) + 1) + 1) + 1) + 1) + 1) + 1) + 1) + 1)) (k1 := ((((((((((((k1 + (Int32.toNatClampNeg 900)) + (Int32.toNatClampNeg 8)) + (Int32.toNatClampNeg 95)) + (Int32.toNatClampNeg 95)) + (Int32.toNatClampNeg 36)) + (Int32.toNatClampNeg 36)) + (Int32.toNatClampNeg 36)) + (Int32.toNatClampNeg 576)) + (Int32.toNatClampNeg 108)) + (Int32.toNatClampNeg 2600)) + (Int32.toNatClampNeg 900)) + (Int32.toNatClampNeg 4))) (Mo3.bind (fun m25 => Mo3.bind (fun m26 => Mo3.le (n1 := (((((((((((((n1 + 1) + 1) + 1) + 1) + 1) + 1) + 1) + 1) + 1) + 1) + 1) + 1) + 1)) (k1 := (((((((((((((k1 + (Int32.toNatClampNeg 900)) + (Int32.toNatClampNeg 8)) + (Int32.toNatClampNeg 95)) + (Int32.toNatClampNeg 95)) + (Int32.toNatClampNeg 36)) + (Int32.toNatClampNeg 36)) + (Int32.toNatClampNeg 36)) + (Int32.toNatClampNeg 576)) + (Int32.toNatClampNeg 108)) + (Int32.toNatClampNeg 2600)) + (Int32.toNatClampNeg 900)) + (Int32.toNatClampNeg 4)) + (Int32.toNatClampNeg 5))) (Mo3.bind (fun m27 => Mo3.bind (fun m28 => Mo3.le (n1 := ((((((((((((((n1 + 1) + 1) + 1) + 1) + 1) + 1) + 1) + 1) + 1) + 1) + 1) + 1) + 1) + 1)) (k1 := ((((((((((((((k1 + (Int32.toNatClampNeg 900)) + (Int32.toNatClampNeg 8)) + (Int32.toNatClampNeg 95)) + (Int32.toNatClampNeg 95)) + (Int32.toNatClampNeg 36)) + (Int32.toNatClampNeg 36)) + (Int32.toNatClampNeg 36)) + (Int32.toNatClampNeg 576)) + (Int32.toNatClampNeg 108)) + (Int32.toNatClampNeg 2600)) + (Int32.toNatClampNeg 900)) + (Int32.toNatClampNeg 4)) + (Int32.toNatClampNeg 5)) + (Int32.toNatClampNeg 5))) (Mo3.bind (fun m29 => Mo3.bind (fun m30 => Mo3.le (n1 := (((((((((((((((n1 + 1) + 1) + 1) + 1) + 1) + 1) + 1) + 1) + 1) + 1) + 1) + 1) + 1) + 1) + 1)) (k1 := (((((((((((((((k1 + (Int32.toNatClampNeg 900)) + (Int32.toNatClampNeg 8)) + (Int32.toNatClampNeg 95)) + (Int32.toNatClampNeg 95)) + (Int32.toNatClampNeg 36)) + (Int32.toNatClampNeg 36)) + (Int32.toNatClampNeg 36)) + (Int32.toNatClampNeg 576)) + (Int32.toNatClampNeg 108)) + (Int32.toNatClampNeg 2600)) + (Int32.toNatClampNeg 900)) + (Int32.toNatClampNeg 4)) + (Int32.toNatClampNeg 5)) + (Int32.toNatClampNeg 5)) + (Int32.toNatClampNeg 5))) (Mo3.bind (fun m31 => Mo3.ok (by omega) (by omega))) (by omega) (by omega)))) (by omega) (by omega)))) (by omega) (by omega)))) (by omega) (by omega)))) (by omega) (by omega)))) (by omega) (by omega)))) (by omega) (by omega)))) (by omega) (by omega)))) (by omega) (by omega)))) (by omega) (by omega)))) (by omega) (by omega)))) (by omega) (by omega))))
  refine fk_newI 0 (by decide) (cs2 := (((n1 + 1) + 1) + 1) - n1) (sl2 := (((k1 + (Int32.toNatClampNeg 900)) + (Int32.toNatClampNeg 8)) + (Int32.toNatClampNeg 95)) - k1) X q252 dX2_init_29 hv (by omega) (by omega) (by omega) (by omega) ?_
  refine fk_putFR' X fd_1_15 q1541 dX2_init_31 (fit_A _) hf (fun m7 hf => ?_)
  refine fk_aload_n X 0 dX2_init_34 rfl ?_
  refine fk_bipush (v := 95) X dX2_init_35 rfl ?_
  obtain ⟨m8, hv, hf⟩ := bI hf
  have hm : ((((n1 + 1) + 1) + 1) + 1) ≤ nF ∧ ((((k1 + (Int32.toNatClampNeg 900)) + (Int32.toNatClampNeg 8)) + (Int32.toNatClampNeg 95)) + (Int32.toNatClampNeg 95)) ≤ kF := Mo3.use hf (Mo3.bind (fun m9 => Mo3.bind (fun m10 => Mo3.le (n1 := (((((n1 + 1) + 1) + 1) + 1) + 1)) (k1 := (((((k1 + (Int32.toNatClampNeg 900)) + (Int32.toNatClampNeg 8)) + (Int32.toNatClampNeg 95)) + (Int32.toNatClampNeg 95)) + (Int32.toNatClampNeg 36))) (Mo3.bind (fun m11 => Mo3.bind (fun m12 => Mo3.le (n1 := ((((((n1 + 1) + 1) + 1) + 1) + 1) + 1)) (k1 := ((((((k1 + (Int32.toNatClampNeg 900)) + (Int32.toNatClampNeg 8)) + (Int32.toNatClampNeg 95)) + (Int32.toNatClampNeg 95)) + (Int32.toNatClampNeg 36)) + (Int32.toNatClampNeg 36))) (Mo3.bind (fun m13 => Mo3.bind (fun m14 => Mo3.le (n1 := (((((((n1 + 1) + 1) + 1) + 1) + 1) + 1) + 1)) (k1 := (((((((k1 + (Int32.toNatClampNeg 900)) + (Int32.toNatClampNeg 8)) + (Int32.toNatClampNeg 95)) + (Int32.toNatClampNeg 95)) + (Int32.toNatClampNeg 36)) + (Int32.toNatClampNeg 36)) + (Int32.toNatClampNeg 36))) (Mo3.bind (fun m15 => Mo3.bind (fun m16 => Mo3.le (n1 := ((((((((n1 + 1) + 1) + 1) + 1) + 1) + 1) + 1) + 1)) (k1 := ((((((((k1 + (Int32.toNatClampNeg 900)) + (Int32.toNatClampNeg 8)) + (Int32.toNatClampNeg 95)) + (Int32.toNatClampNeg 95)) + (Int32.toNatClampNeg 36)) + (Int32.toNatClampNeg 36)) + (Int32.toNatClampNeg 36)) + (Int32.toNatClampNeg 576))) (Mo3.bind (fun m17 => Mo3.bind (fun m18 => Mo3.le (n1 := (((((((((n1 + 1) + 1) + 1) + 1) + 1) + 1) + 1) + 1) + 1)) (k1 := (((((((((k1 + (Int32.toNatClampNeg 900)) + (Int32.toNatClampNeg 8)) + (Int32.toNatClampNeg 95)) + (Int32.toNatClampNeg 95)) + (Int32.toNatClampNeg 36)) + (Int32.toNatClampNeg 36)) + (Int32.toNatClampNeg 36)) + (Int32.toNatClampNeg 576)) + (Int32.toNatClampNeg 108))) (Mo3.bind (fun m19 => Mo3.bind (fun m20 => Mo3.le (n1 := ((((((((((n1 + 1) + 1) + 1) + 1) + 1) + 1) + 1) + 1) + 1) + 1)) (k1 := ((((((((((k1 + (Int32.toNatClampNeg 900)) + (Int32.toNatClampNeg 8)) + (Int32.toNatClampNeg 95)) + (Int32.toNatClampNeg 95)) + (Int32.toNatClampNeg 36)) + (Int32.toNatClampNeg 36)) + (Int32.toNatClampNeg 36)) + (Int32.toNatClampNeg 576)) + (Int32.toNatClampNeg 108)) + (Int32.toNatClampNeg 2600))) (Mo3.bind (fun m21 => Mo3.bind (fun m22 => Mo3.le (n1 := (((((((((((n1 + 1) + 1) + 1) + 1) + 1) + 1) + 1) + 1) + 1) + 1) + 1)) (k1 := (((((((((((k1 + (Int32.toNatClampNeg 900)) + (Int32.toNatClampNeg 8)) + (Int32.toNatClampNeg 95)) + (Int32.toNatClampNeg 95)) + (Int32.toNatClampNeg 36)) + (Int32.toNatClampNeg 36)) + (Int32.toNatClampNeg 36)) + (Int32.toNatClampNeg 576)) + (Int32.toNatClampNeg 108)) + (Int32.toNatClampNeg 2600)) + (Int32.toNatClampNeg 900))) (Mo3.bind (fun m23 => Mo3.bind (fun m24 => Mo3.le (n1 := ((((((((((((n1 + 1) + 1) + 1) + 1) + 1) + 1) + 1) + 1) + 1) + 1) + 1) + 1)) (k1 := ((((((((((((k1 + (Int32.toNatClampNeg 900)) + (Int32.toNatClampNeg 8)) + (Int32.toNatClampNeg 95)) + (Int32.toNatClampNeg 95)) + (Int32.toNatClampNeg 36)) + (Int32.toNatClampNeg 36)) + (Int32.toNatClampNeg 36)) + (Int32.toNatClampNeg 576)) + (Int32.toNatClampNeg 108)) + (Int32.toNatClampNeg 2600)) + (Int32.toNatClampNeg 900)) + (Int32.toNatClampNeg 4))) (Mo3.bind (fun m25 => Mo3.bind (fun m26 => Mo3.le (n1 := (((((((((((((n1 + 1) + 1) + 1) + 1) + 1) + 1) + 1) + 1) + 1) + 1) + 1) + 1) + 1)) (k1 := (((((((((((((k1 + (Int32.toNatClampNeg 900)) + (Int32.toNatClampNeg 8)) + (Int32.toNatClampNeg 95)) + (Int32.toNatClampNeg 95)) + (Int32.toNatClampNeg 36)) + (Int32.toNatClampNeg 36)) + (Int32.toNatClampNeg 36)) + (Int32.toNatClampNeg 576)) + (Int32.toNatClampNeg 108)) + (Int32.toNatClampNeg 2600)) + (Int32.toNatClampNeg 900)) + (Int32.toNatClampNeg 4)) + (Int32.toNatClampNeg 5))) (Mo3.bind (fun m27 => Mo3.bind (fun m28 => Mo3.le (n1 := ((((((((((((((n1 + 1) + 1) + 1) + 1) + 1) + 1) + 1) + 1) + 1) + 1) + 1) + 1) + 1) + 1)) (k1 := ((((((((((((((k1 + (Int32.toNatClampNeg 900)) + (Int32.toNatClampNeg 8)) + (Int32.toNatClampNeg 95)) + (Int32.toNatClampNeg 95)) + (Int32.toNatClampNeg 36)) + (Int32.toNatClampNeg 36)) + (Int32.toNatClampNeg 36)) + (Int32.toNatClampNeg 576)) + (Int32.toNatClampNeg 108)) + (Int32.toNatClampNeg 2600)) + (Int32.toNatClampNeg 900)) + (Int32.toNatClampNeg 4)) + (Int32.toNatClampNeg 5)) + (Int32.toNatClampNeg 5))) (Mo3.bind (fun m29 => Mo3.bind (fun m30 => Mo3.le (n1 := (((((((((((((((n1 + 1) + 1) + 1) + 1) + 1) + 1) + 1) + 1) + 1) + 1) + 1) + 1) + 1) + 1) + 1)) (k1 := (((((((((((((((k1 + (Int32.toNatClampNeg 900)) + (Int32.toNatClampNeg 8)) + (Int32.toNatClampNeg 95)) + (Int32.toNatClampNeg 95)) + (Int32.toNatClampNeg 36)) + (Int32.toNatClampNeg 36)) + (Int32.toNatClampNeg 36)) + (Int32.toNatClampNeg 576)) + (Int32.toNatClampNeg 108)) + (Int32.toNatClampNeg 2600)) + (Int32.toNatClampNeg 900)) + (Int32.toNatClampNeg 4)) + (Int32.toNatClampNeg 5)) + (Int32.toNatClampNeg 5)) + (Int32.toNatClampNeg 5))) (Mo3.bind (fun m31 => Mo3.ok (by omega) (by omega))) (by omega) (by omega)))) (by omega) (by omega)))) (by omega) (by omega)))) (by omega) (by omega)))) (by omega) (by omega)))) (by omega) (by omega)))) (by omega) (by omega)))) (by omega) (by omega)))) (by omega) (by omega)))) (by omega) (by omega)))) (by omega) (by omega))))
  refine fk_newI 0 (by decide) (cs2 := ((((n1 + 1) + 1) + 1) + 1) - n1) (sl2 := ((((k1 + (Int32.toNatClampNeg 900)) + (Int32.toNatClampNeg 8)) + (Int32.toNatClampNeg 95)) + (Int32.toNatClampNeg 95)) - k1) X q252 dX2_init_37 hv (by omega) (by omega) (by omega) (by omega) ?_
  refine fk_putFR' X fd_1_16 q1542 dX2_init_39 (fit_A _) hf (fun m9 hf => ?_)
  refine fk_aload_n X 0 dX2_init_42 rfl ?_
  refine fk_bipush (v := 36) X dX2_init_43 rfl ?_
  obtain ⟨m10, hv, hf⟩ := bI hf
  have hm : (((((n1 + 1) + 1) + 1) + 1) + 1) ≤ nF ∧ (((((k1 + (Int32.toNatClampNeg 900)) + (Int32.toNatClampNeg 8)) + (Int32.toNatClampNeg 95)) + (Int32.toNatClampNeg 95)) + (Int32.toNatClampNeg 36)) ≤ kF := Mo3.use hf (Mo3.bind (fun m11 => Mo3.bind (fun m12 => Mo3.le (n1 := ((((((n1 + 1) + 1) + 1) + 1) + 1) + 1)) (k1 := ((((((k1 + (Int32.toNatClampNeg 900)) + (Int32.toNatClampNeg 8)) + (Int32.toNatClampNeg 95)) + (Int32.toNatClampNeg 95)) + (Int32.toNatClampNeg 36)) + (Int32.toNatClampNeg 36))) (Mo3.bind (fun m13 => Mo3.bind (fun m14 => Mo3.le (n1 := (((((((n1 + 1) + 1) + 1) + 1) + 1) + 1) + 1)) (k1 := (((((((k1 + (Int32.toNatClampNeg 900)) + (Int32.toNatClampNeg 8)) + (Int32.toNatClampNeg 95)) + (Int32.toNatClampNeg 95)) + (Int32.toNatClampNeg 36)) + (Int32.toNatClampNeg 36)) + (Int32.toNatClampNeg 36))) (Mo3.bind (fun m15 => Mo3.bind (fun m16 => Mo3.le (n1 := ((((((((n1 + 1) + 1) + 1) + 1) + 1) + 1) + 1) + 1)) (k1 := ((((((((k1 + (Int32.toNatClampNeg 900)) + (Int32.toNatClampNeg 8)) + (Int32.toNatClampNeg 95)) + (Int32.toNatClampNeg 95)) + (Int32.toNatClampNeg 36)) + (Int32.toNatClampNeg 36)) + (Int32.toNatClampNeg 36)) + (Int32.toNatClampNeg 576))) (Mo3.bind (fun m17 => Mo3.bind (fun m18 => Mo3.le (n1 := (((((((((n1 + 1) + 1) + 1) + 1) + 1) + 1) + 1) + 1) + 1)) (k1 := (((((((((k1 + (Int32.toNatClampNeg 900)) + (Int32.toNatClampNeg 8)) + (Int32.toNatClampNeg 95)) + (Int32.toNatClampNeg 95)) + (Int32.toNatClampNeg 36)) + (Int32.toNatClampNeg 36)) + (Int32.toNatClampNeg 36)) + (Int32.toNatClampNeg 576)) + (Int32.toNatClampNeg 108))) (Mo3.bind (fun m19 => Mo3.bind (fun m20 => Mo3.le (n1 := ((((((((((n1 + 1) + 1) + 1) + 1) + 1) + 1) + 1) + 1) + 1) + 1)) (k1 := ((((((((((k1 + (Int32.toNatClampNeg 900)) + (Int32.toNatClampNeg 8)) + (Int32.toNatClampNeg 95)) + (Int32.toNatClampNeg 95)) + (Int32.toNatClampNeg 36)) + (Int32.toNatClampNeg 36)) + (Int32.toNatClampNeg 36)) + (Int32.toNatClampNeg 576)) + (Int32.toNatClampNeg 108)) + (Int32.toNatClampNeg 2600))) (Mo3.bind (fun m21 => Mo3.bind (fun m22 => Mo3.le (n1 := (((((((((((n1 + 1) + 1) + 1) + 1) + 1) + 1) + 1) + 1) + 1) + 1) + 1)) (k1 := (((((((((((k1 + (Int32.toNatClampNeg 900)) + (Int32.toNatClampNeg 8)) + (Int32.toNatClampNeg 95)) + (Int32.toNatClampNeg 95)) + (Int32.toNatClampNeg 36)) + (Int32.toNatClampNeg 36)) + (Int32.toNatClampNeg 36)) + (Int32.toNatClampNeg 576)) + (Int32.toNatClampNeg 108)) + (Int32.toNatClampNeg 2600)) + (Int32.toNatClampNeg 900))) (Mo3.bind (fun m23 => Mo3.bind (fun m24 => Mo3.le (n1 := ((((((((((((n1 + 1) + 1) + 1) + 1) + 1) + 1) + 1) + 1) + 1) + 1) + 1) + 1)) (k1 := ((((((((((((k1 + (Int32.toNatClampNeg 900)) + (Int32.toNatClampNeg 8)) + (Int32.toNatClampNeg 95)) + (Int32.toNatClampNeg 95)) + (Int32.toNatClampNeg 36)) + (Int32.toNatClampNeg 36)) + (Int32.toNatClampNeg 36)) + (Int32.toNatClampNeg 576)) + (Int32.toNatClampNeg 108)) + (Int32.toNatClampNeg 2600)) + (Int32.toNatClampNeg 900)) + (Int32.toNatClampNeg 4))) (Mo3.bind (fun m25 => Mo3.bind (fun m26 => Mo3.le (n1 := (((((((((((((n1 + 1) + 1) + 1) + 1) + 1) + 1) + 1) + 1) + 1) + 1) + 1) + 1) + 1)) (k1 := (((((((((((((k1 + (Int32.toNatClampNeg 900)) + (Int32.toNatClampNeg 8)) + (Int32.toNatClampNeg 95)) + (Int32.toNatClampNeg 95)) + (Int32.toNatClampNeg 36)) + (Int32.toNatClampNeg 36)) + (Int32.toNatClampNeg 36)) + (Int32.toNatClampNeg 576)) + (Int32.toNatClampNeg 108)) + (Int32.toNatClampNeg 2600)) + (Int32.toNatClampNeg 900)) + (Int32.toNatClampNeg 4)) + (Int32.toNatClampNeg 5))) (Mo3.bind (fun m27 => Mo3.bind (fun m28 => Mo3.le (n1 := ((((((((((((((n1 + 1) + 1) + 1) + 1) + 1) + 1) + 1) + 1) + 1) + 1) + 1) + 1) + 1) + 1)) (k1 := ((((((((((((((k1 + (Int32.toNatClampNeg 900)) + (Int32.toNatClampNeg 8)) + (Int32.toNatClampNeg 95)) + (Int32.toNatClampNeg 95)) + (Int32.toNatClampNeg 36)) + (Int32.toNatClampNeg 36)) + (Int32.toNatClampNeg 36)) + (Int32.toNatClampNeg 576)) + (Int32.toNatClampNeg 108)) + (Int32.toNatClampNeg 2600)) + (Int32.toNatClampNeg 900)) + (Int32.toNatClampNeg 4)) + (Int32.toNatClampNeg 5)) + (Int32.toNatClampNeg 5))) (Mo3.bind (fun m29 => Mo3.bind (fun m30 => Mo3.le (n1 := (((((((((((((((n1 + 1) + 1) + 1) + 1) + 1) + 1) + 1) + 1) + 1) + 1) + 1) + 1) + 1) + 1) + 1)) (k1 := (((((((((((((((k1 + (Int32.toNatClampNeg 900)) + (Int32.toNatClampNeg 8)) + (Int32.toNatClampNeg 95)) + (Int32.toNatClampNeg 95)) + (Int32.toNatClampNeg 36)) + (Int32.toNatClampNeg 36)) + (Int32.toNatClampNeg 36)) + (Int32.toNatClampNeg 576)) + (Int32.toNatClampNeg 108)) + (Int32.toNatClampNeg 2600)) + (Int32.toNatClampNeg 900)) + (Int32.toNatClampNeg 4)) + (Int32.toNatClampNeg 5)) + (Int32.toNatClampNeg 5)) + (Int32.toNatClampNeg 5))) (Mo3.bind (fun m31 => Mo3.ok (by omega) (by omega))) (by omega) (by omega)))) (by omega) (by omega)))) (by omega) (by omega)))) (by omega) (by omega)))) (by omega) (by omega)))) (by omega) (by omega)))) (by omega) (by omega)))) (by omega) (by omega)))) (by omega) (by omega)))) (by omega) (by omega))))
  refine fk_newI 0 (by decide) (cs2 := (((((n1 + 1) + 1) + 1) + 1) + 1) - n1) (sl2 := (((((k1 + (Int32.toNatClampNeg 900)) + (Int32.toNatClampNeg 8)) + (Int32.toNatClampNeg 95)) + (Int32.toNatClampNeg 95)) + (Int32.toNatClampNeg 36)) - k1) X q252 dX2_init_45 hv (by omega) (by omega) (by omega) (by omega) ?_
  refine fk_putFR' X fd_1_17 q1543 dX2_init_47 (fit_A _) hf (fun m11 hf => ?_)
  refine fk_aload_n X 0 dX2_init_50 rfl ?_
  refine fk_bipush (v := 36) X dX2_init_51 rfl ?_
  obtain ⟨m12, hv, hf⟩ := bI hf
  have hm : ((((((n1 + 1) + 1) + 1) + 1) + 1) + 1) ≤ nF ∧ ((((((k1 + (Int32.toNatClampNeg 900)) + (Int32.toNatClampNeg 8)) + (Int32.toNatClampNeg 95)) + (Int32.toNatClampNeg 95)) + (Int32.toNatClampNeg 36)) + (Int32.toNatClampNeg 36)) ≤ kF := Mo3.use hf (Mo3.bind (fun m13 => Mo3.bind (fun m14 => Mo3.le (n1 := (((((((n1 + 1) + 1) + 1) + 1) + 1) + 1) + 1)) (k1 := (((((((k1 + (Int32.toNatClampNeg 900)) + (Int32.toNatClampNeg 8)) + (Int32.toNatClampNeg 95)) + (Int32.toNatClampNeg 95)) + (Int32.toNatClampNeg 36)) + (Int32.toNatClampNeg 36)) + (Int32.toNatClampNeg 36))) (Mo3.bind (fun m15 => Mo3.bind (fun m16 => Mo3.le (n1 := ((((((((n1 + 1) + 1) + 1) + 1) + 1) + 1) + 1) + 1)) (k1 := ((((((((k1 + (Int32.toNatClampNeg 900)) + (Int32.toNatClampNeg 8)) + (Int32.toNatClampNeg 95)) + (Int32.toNatClampNeg 95)) + (Int32.toNatClampNeg 36)) + (Int32.toNatClampNeg 36)) + (Int32.toNatClampNeg 36)) + (Int32.toNatClampNeg 576))) (Mo3.bind (fun m17 => Mo3.bind (fun m18 => Mo3.le (n1 := (((((((((n1 + 1) + 1) + 1) + 1) + 1) + 1) + 1) + 1) + 1)) (k1 := (((((((((k1 + (Int32.toNatClampNeg 900)) + (Int32.toNatClampNeg 8)) + (Int32.toNatClampNeg 95)) + (Int32.toNatClampNeg 95)) + (Int32.toNatClampNeg 36)) + (Int32.toNatClampNeg 36)) + (Int32.toNatClampNeg 36)) + (Int32.toNatClampNeg 576)) + (Int32.toNatClampNeg 108))) (Mo3.bind (fun m19 => Mo3.bind (fun m20 => Mo3.le (n1 := ((((((((((n1 + 1) + 1) + 1) + 1) + 1) + 1) + 1) + 1) + 1) + 1)) (k1 := ((((((((((k1 + (Int32.toNatClampNeg 900)) + (Int32.toNatClampNeg 8)) + (Int32.toNatClampNeg 95)) + (Int32.toNatClampNeg 95)) + (Int32.toNatClampNeg 36)) + (Int32.toNatClampNeg 36)) + (Int32.toNatClampNeg 36)) + (Int32.toNatClampNeg 576)) + (Int32.toNatClampNeg 108)) + (Int32.toNatClampNeg 2600))) (Mo3.bind (fun m21 => Mo3.bind (fun m22 => Mo3.le (n1 := (((((((((((n1 + 1) + 1) + 1) + 1) + 1) + 1) + 1) + 1) + 1) + 1) + 1)) (k1 := (((((((((((k1 + (Int32.toNatClampNeg 900)) + (Int32.toNatClampNeg 8)) + (Int32.toNatClampNeg 95)) + (Int32.toNatClampNeg 95)) + (Int32.toNatClampNeg 36)) + (Int32.toNatClampNeg 36)) + (Int32.toNatClampNeg 36)) + (Int32.toNatClampNeg 576)) + (Int32.toNatClampNeg 108)) + (Int32.toNatClampNeg 2600)) + (Int32.toNatClampNeg 900))) (Mo3.bind (fun m23 => Mo3.bind (fun m24 => Mo3.le (n1 := ((((((((((((n1 + 1) + 1) + 1) + 1) + 1) + 1) + 1) + 1) + 1) + 1) + 1) + 1)) (k1 := ((((((((((((k1 + (Int32.toNatClampNeg 900)) + (Int32.toNatClampNeg 8)) + (Int32.toNatClampNeg 95)) + (Int32.toNatClampNeg 95)) + (Int32.toNatClampNeg 36)) + (Int32.toNatClampNeg 36)) + (Int32.toNatClampNeg 36)) + (Int32.toNatClampNeg 576)) + (Int32.toNatClampNeg 108)) + (Int32.toNatClampNeg 2600)) + (Int32.toNatClampNeg 900)) + (Int32.toNatClampNeg 4))) (Mo3.bind (fun m25 => Mo3.bind (fun m26 => Mo3.le (n1 := (((((((((((((n1 + 1) + 1) + 1) + 1) + 1) + 1) + 1) + 1) + 1) + 1) + 1) + 1) + 1)) (k1 := (((((((((((((k1 + (Int32.toNatClampNeg 900)) + (Int32.toNatClampNeg 8)) + (Int32.toNatClampNeg 95)) + (Int32.toNatClampNeg 95)) + (Int32.toNatClampNeg 36)) + (Int32.toNatClampNeg 36)) + (Int32.toNatClampNeg 36)) + (Int32.toNatClampNeg 576)) + (Int32.toNatClampNeg 108)) + (Int32.toNatClampNeg 2600)) + (Int32.toNatClampNeg 900)) + (Int32.toNatClampNeg 4)) + (Int32.toNatClampNeg 5))) (Mo3.bind (fun m27 => Mo3.bind (fun m28 => Mo3.le (n1 := ((((((((((((((n1 + 1) + 1) + 1) + 1) + 1) + 1) + 1) + 1) + 1) + 1) + 1) + 1) + 1) + 1)) (k1 := ((((((((((((((k1 + (Int32.toNatClampNeg 900)) + (Int32.toNatClampNeg 8)) + (Int32.toNatClampNeg 95)) + (Int32.toNatClampNeg 95)) + (Int32.toNatClampNeg 36)) + (Int32.toNatClampNeg 36)) + (Int32.toNatClampNeg 36)) + (Int32.toNatClampNeg 576)) + (Int32.toNatClampNeg 108)) + (Int32.toNatClampNeg 2600)) + (Int32.toNatClampNeg 900)) + (Int32.toNatClampNeg 4)) + (Int32.toNatClampNeg 5)) + (Int32.toNatClampNeg 5))) (Mo3.bind (fun m29 => Mo3.bind (fun m30 => Mo3.le (n1 := (((((((((((((((n1 + 1) + 1) + 1) + 1) + 1) + 1) + 1) + 1) + 1) + 1) + 1) + 1) + 1) + 1) + 1)) (k1 := (((((((((((((((k1 + (Int32.toNatClampNeg 900)) + (Int32.toNatClampNeg 8)) + (Int32.toNatClampNeg 95)) + (Int32.toNatClampNeg 95)) + (Int32.toNatClampNeg 36)) + (Int32.toNatClampNeg 36)) + (Int32.toNatClampNeg 36)) + (Int32.toNatClampNeg 576)) + (Int32.toNatClampNeg 108)) + (Int32.toNatClampNeg 2600)) + (Int32.toNatClampNeg 900)) + (Int32.toNatClampNeg 4)) + (Int32.toNatClampNeg 5)) + (Int32.toNatClampNeg 5)) + (Int32.toNatClampNeg 5))) (Mo3.bind (fun m31 => Mo3.ok (by omega) (by omega))) (by omega) (by omega)))) (by omega) (by omega)))) (by omega) (by omega)))) (by omega) (by omega)))) (by omega) (by omega)))) (by omega) (by omega)))) (by omega) (by omega)))) (by omega) (by omega)))) (by omega) (by omega))))
  refine fk_newI 0 (by decide) (cs2 := ((((((n1 + 1) + 1) + 1) + 1) + 1) + 1) - n1) (sl2 := ((((((k1 + (Int32.toNatClampNeg 900)) + (Int32.toNatClampNeg 8)) + (Int32.toNatClampNeg 95)) + (Int32.toNatClampNeg 95)) + (Int32.toNatClampNeg 36)) + (Int32.toNatClampNeg 36)) - k1) X q252 dX2_init_53 hv (by omega) (by omega) (by omega) (by omega) ?_
  refine fk_putFR' X fd_1_18 q1544 dX2_init_55 (fit_A _) hf (fun m13 hf => ?_)
  refine fk_aload_n X 0 dX2_init_58 rfl ?_
  refine fk_bipush (v := 36) X dX2_init_59 rfl ?_
  obtain ⟨m14, hv, hf⟩ := bI hf
  have hm : (((((((n1 + 1) + 1) + 1) + 1) + 1) + 1) + 1) ≤ nF ∧ (((((((k1 + (Int32.toNatClampNeg 900)) + (Int32.toNatClampNeg 8)) + (Int32.toNatClampNeg 95)) + (Int32.toNatClampNeg 95)) + (Int32.toNatClampNeg 36)) + (Int32.toNatClampNeg 36)) + (Int32.toNatClampNeg 36)) ≤ kF := Mo3.use hf (Mo3.bind (fun m15 => Mo3.bind (fun m16 => Mo3.le (n1 := ((((((((n1 + 1) + 1) + 1) + 1) + 1) + 1) + 1) + 1)) (k1 := ((((((((k1 + (Int32.toNatClampNeg 900)) + (Int32.toNatClampNeg 8)) + (Int32.toNatClampNeg 95)) + (Int32.toNatClampNeg 95)) + (Int32.toNatClampNeg 36)) + (Int32.toNatClampNeg 36)) + (Int32.toNatClampNeg 36)) + (Int32.toNatClampNeg 576))) (Mo3.bind (fun m17 => Mo3.bind (fun m18 => Mo3.le (n1 := (((((((((n1 + 1) + 1) + 1) + 1) + 1) + 1) + 1) + 1) + 1)) (k1 := (((((((((k1 + (Int32.toNatClampNeg 900)) + (Int32.toNatClampNeg 8)) + (Int32.toNatClampNeg 95)) + (Int32.toNatClampNeg 95)) + (Int32.toNatClampNeg 36)) + (Int32.toNatClampNeg 36)) + (Int32.toNatClampNeg 36)) + (Int32.toNatClampNeg 576)) + (Int32.toNatClampNeg 108))) (Mo3.bind (fun m19 => Mo3.bind (fun m20 => Mo3.le (n1 := ((((((((((n1 + 1) + 1) + 1) + 1) + 1) + 1) + 1) + 1) + 1) + 1)) (k1 := ((((((((((k1 + (Int32.toNatClampNeg 900)) + (Int32.toNatClampNeg 8)) + (Int32.toNatClampNeg 95)) + (Int32.toNatClampNeg 95)) + (Int32.toNatClampNeg 36)) + (Int32.toNatClampNeg 36)) + (Int32.toNatClampNeg 36)) + (Int32.toNatClampNeg 576)) + (Int32.toNatClampNeg 108)) + (Int32.toNatClampNeg 2600))) (Mo3.bind (fun m21 => Mo3.bind (fun m22 => Mo3.le (n1 := (((((((((((n1 + 1) + 1) + 1) + 1) + 1) + 1) + 1) + 1) + 1) + 1) + 1)) (k1 := (((((((((((k1 + (Int32.toNatClampNeg 900)) + (Int32.toNatClampNeg 8)) + (Int32.toNatClampNeg 95)) + (Int32.toNatClampNeg 95)) + (Int32.toNatClampNeg 36)) + (Int32.toNatClampNeg 36)) + (Int32.toNatClampNeg 36)) + (Int32.toNatClampNeg 576)) + (Int32.toNatClampNeg 108)) + (Int32.toNatClampNeg 2600)) + (Int32.toNatClampNeg 900))) (Mo3.bind (fun m23 => Mo3.bind (fun m24 => Mo3.le (n1 := ((((((((((((n1 + 1) + 1) + 1) + 1) + 1) + 1) + 1) + 1) + 1) + 1) + 1) + 1)) (k1 := ((((((((((((k1 + (Int32.toNatClampNeg 900)) + (Int32.toNatClampNeg 8)) + (Int32.toNatClampNeg 95)) + (Int32.toNatClampNeg 95)) + (Int32.toNatClampNeg 36)) + (Int32.toNatClampNeg 36)) + (Int32.toNatClampNeg 36)) + (Int32.toNatClampNeg 576)) + (Int32.toNatClampNeg 108)) + (Int32.toNatClampNeg 2600)) + (Int32.toNatClampNeg 900)) + (Int32.toNatClampNeg 4))) (Mo3.bind (fun m25 => Mo3.bind (fun m26 => Mo3.le (n1 := (((((((((((((n1 + 1) + 1) + 1) + 1) + 1) + 1) + 1) + 1) + 1) + 1) + 1) + 1) + 1)) (k1 := (((((((((((((k1 + (Int32.toNatClampNeg 900)) + (Int32.toNatClampNeg 8)) + (Int32.toNatClampNeg 95)) + (Int32.toNatClampNeg 95)) + (Int32.toNatClampNeg 36)) + (Int32.toNatClampNeg 36)) + (Int32.toNatClampNeg 36)) + (Int32.toNatClampNeg 576)) + (Int32.toNatClampNeg 108)) + (Int32.toNatClampNeg 2600)) + (Int32.toNatClampNeg 900)) + (Int32.toNatClampNeg 4)) + (Int32.toNatClampNeg 5))) (Mo3.bind (fun m27 => Mo3.bind (fun m28 => Mo3.le (n1 := ((((((((((((((n1 + 1) + 1) + 1) + 1) + 1) + 1) + 1) + 1) + 1) + 1) + 1) + 1) + 1) + 1)) (k1 := ((((((((((((((k1 + (Int32.toNatClampNeg 900)) + (Int32.toNatClampNeg 8)) + (Int32.toNatClampNeg 95)) + (Int32.toNatClampNeg 95)) + (Int32.toNatClampNeg 36)) + (Int32.toNatClampNeg 36)) + (Int32.toNatClampNeg 36)) + (Int32.toNatClampNeg 576)) + (Int32.toNatClampNeg 108)) + (Int32.toNatClampNeg 2600)) + (Int32.toNatClampNeg 900)) + (Int32.toNatClampNeg 4)) + (Int32.toNatClampNeg 5)) + (Int32.toNatClampNeg 5))) (Mo3.bind (fun m29 => Mo3.bind (fun m30 => Mo3.le (n1 := (((((((((((((((n1 + 1) + 1) + 1) + 1) + 1) + 1) + 1) + 1) + 1) + 1) + 1) + 1) + 1) + 1) + 1)) (k1 := (((((((((((((((k1 + (Int32.toNatClampNeg 900)) + (Int32.toNatClampNeg 8)) + (Int32.toNatClampNeg 95)) + (Int32.toNatClampNeg 95)) + (Int32.toNatClampNeg 36)) + (Int32.toNatClampNeg 36)) + (Int32.toNatClampNeg 36)) + (Int32.toNatClampNeg 576)) + (Int32.toNatClampNeg 108)) + (Int32.toNatClampNeg 2600)) + (Int32.toNatClampNeg 900)) + (Int32.toNatClampNeg 4)) + (Int32.toNatClampNeg 5)) + (Int32.toNatClampNeg 5)) + (Int32.toNatClampNeg 5))) (Mo3.bind (fun m31 => Mo3.ok (by omega) (by omega))) (by omega) (by omega)))) (by omega) (by omega)))) (by omega) (by omega)))) (by omega) (by omega)))) (by omega) (by omega)))) (by omega) (by omega)))) (by omega) (by omega)))) (by omega) (by omega))))
  refine fk_newI 0 (by decide) (cs2 := (((((((n1 + 1) + 1) + 1) + 1) + 1) + 1) + 1) - n1) (sl2 := (((((((k1 + (Int32.toNatClampNeg 900)) + (Int32.toNatClampNeg 8)) + (Int32.toNatClampNeg 95)) + (Int32.toNatClampNeg 95)) + (Int32.toNatClampNeg 36)) + (Int32.toNatClampNeg 36)) + (Int32.toNatClampNeg 36)) - k1) X q252 dX2_init_61 hv (by omega) (by omega) (by omega) (by omega) ?_
  refine fk_putFR' X fd_1_19 q1545 dX2_init_63 (fit_A _) hf (fun m15 hf => ?_)
  refine fk_aload_n X 0 dX2_init_66 rfl ?_
  refine fk_sipush (v := 576) X dX2_init_67 rfl ?_
  obtain ⟨m16, hv, hf⟩ := bI hf
  have hm : ((((((((n1 + 1) + 1) + 1) + 1) + 1) + 1) + 1) + 1) ≤ nF ∧ ((((((((k1 + (Int32.toNatClampNeg 900)) + (Int32.toNatClampNeg 8)) + (Int32.toNatClampNeg 95)) + (Int32.toNatClampNeg 95)) + (Int32.toNatClampNeg 36)) + (Int32.toNatClampNeg 36)) + (Int32.toNatClampNeg 36)) + (Int32.toNatClampNeg 576)) ≤ kF := Mo3.use hf (Mo3.bind (fun m17 => Mo3.bind (fun m18 => Mo3.le (n1 := (((((((((n1 + 1) + 1) + 1) + 1) + 1) + 1) + 1) + 1) + 1)) (k1 := (((((((((k1 + (Int32.toNatClampNeg 900)) + (Int32.toNatClampNeg 8)) + (Int32.toNatClampNeg 95)) + (Int32.toNatClampNeg 95)) + (Int32.toNatClampNeg 36)) + (Int32.toNatClampNeg 36)) + (Int32.toNatClampNeg 36)) + (Int32.toNatClampNeg 576)) + (Int32.toNatClampNeg 108))) (Mo3.bind (fun m19 => Mo3.bind (fun m20 => Mo3.le (n1 := ((((((((((n1 + 1) + 1) + 1) + 1) + 1) + 1) + 1) + 1) + 1) + 1)) (k1 := ((((((((((k1 + (Int32.toNatClampNeg 900)) + (Int32.toNatClampNeg 8)) + (Int32.toNatClampNeg 95)) + (Int32.toNatClampNeg 95)) + (Int32.toNatClampNeg 36)) + (Int32.toNatClampNeg 36)) + (Int32.toNatClampNeg 36)) + (Int32.toNatClampNeg 576)) + (Int32.toNatClampNeg 108)) + (Int32.toNatClampNeg 2600))) (Mo3.bind (fun m21 => Mo3.bind (fun m22 => Mo3.le (n1 := (((((((((((n1 + 1) + 1) + 1) + 1) + 1) + 1) + 1) + 1) + 1) + 1) + 1)) (k1 := (((((((((((k1 + (Int32.toNatClampNeg 900)) + (Int32.toNatClampNeg 8)) + (Int32.toNatClampNeg 95)) + (Int32.toNatClampNeg 95)) + (Int32.toNatClampNeg 36)) + (Int32.toNatClampNeg 36)) + (Int32.toNatClampNeg 36)) + (Int32.toNatClampNeg 576)) + (Int32.toNatClampNeg 108)) + (Int32.toNatClampNeg 2600)) + (Int32.toNatClampNeg 900))) (Mo3.bind (fun m23 => Mo3.bind (fun m24 => Mo3.le (n1 := ((((((((((((n1 + 1) + 1) + 1) + 1) + 1) + 1) + 1) + 1) + 1) + 1) + 1) + 1)) (k1 := ((((((((((((k1 + (Int32.toNatClampNeg 900)) + (Int32.toNatClampNeg 8)) + (Int32.toNatClampNeg 95)) + (Int32.toNatClampNeg 95)) + (Int32.toNatClampNeg 36)) + (Int32.toNatClampNeg 36)) + (Int32.toNatClampNeg 36)) + (Int32.toNatClampNeg 576)) + (Int32.toNatClampNeg 108)) + (Int32.toNatClampNeg 2600)) + (Int32.toNatClampNeg 900)) + (Int32.toNatClampNeg 4))) (Mo3.bind (fun m25 => Mo3.bind (fun m26 => Mo3.le (n1 := (((((((((((((n1 + 1) + 1) + 1) + 1) + 1) + 1) + 1) + 1) + 1) + 1) + 1) + 1) + 1)) (k1 := (((((((((((((k1 + (Int32.toNatClampNeg 900)) + (Int32.toNatClampNeg 8)) + (Int32.toNatClampNeg 95)) + (Int32.toNatClampNeg 95)) + (Int32.toNatClampNeg 36)) + (Int32.toNatClampNeg 36)) + (Int32.toNatClampNeg 36)) + (Int32.toNatClampNeg 576)) + (Int32.toNatClampNeg 108)) + (Int32.toNatClampNeg 2600)) + (Int32.toNatClampNeg 900)) + (Int32.toNatClampNeg 4)) + (Int32.toNatClampNeg 5))) (Mo3.bind (fun m27 => Mo3.bind (fun m28 => Mo3.le (n1 := ((((((((((((((n1 + 1) + 1) + 1) + 1) + 1) + 1) + 1) + 1) + 1) + 1) + 1) + 1) + 1) + 1)) (k1 := ((((((((((((((k1 + (Int32.toNatClampNeg 900)) + (Int32.toNatClampNeg 8)) + (Int32.toNatClampNeg 95)) + (Int32.toNatClampNeg 95)) + (Int32.toNatClampNeg 36)) + (Int32.toNatClampNeg 36)) + (Int32.toNatClampNeg 36)) + (Int32.toNatClampNeg 576)) + (Int32.toNatClampNeg 108)) + (Int32.toNatClampNeg 2600)) + (Int32.toNatClampNeg 900)) + (Int32.toNatClampNeg 4)) + (Int32.toNatClampNeg 5)) + (Int32.toNatClampNeg 5))) (Mo3.bind (fun m29 => Mo3.bind (fun m30 => Mo3.le (n1 := (((((((((((((((n1 + 1) + 1) + 1) + 1) + 1) + 1) + 1) + 1) + 1) + 1) + 1) + 1) + 1) + 1) + 1)) (k1 := (((((((((((((((k1 + (Int32.toNatClampNeg 900)) + (Int32.toNatClampNeg 8)) + (Int32.toNatClampNeg 95)) + (Int32.toNatClampNeg 95)) + (Int32.toNatClampNeg 36)) + (Int32.toNatClampNeg 36)) + (Int32.toNatClampNeg 36)) + (Int32.toNatClampNeg 576)) + (Int32.toNatClampNeg 108)) + (Int32.toNatClampNeg 2600)) + (Int32.toNatClampNeg 900)) + (Int32.toNatClampNeg 4)) + (Int32.toNatClampNeg 5)) + (Int32.toNatClampNeg 5)) + (Int32.toNatClampNeg 5))) (Mo3.bind (fun m31 => Mo3.ok (by omega) (by omega))) (by omega) (by omega)))) (by omega) (by omega)))) (by omega) (by omega)))) (by omega) (by omega)))) (by omega) (by omega)))) (by omega) (by omega)))) (by omega) (by omega))))
  refine fk_newI 0 (by decide) (cs2 := ((((((((n1 + 1) + 1) + 1) + 1) + 1) + 1) + 1) + 1) - n1) (sl2 := ((((((((k1 + (Int32.toNatClampNeg 900)) + (Int32.toNatClampNeg 8)) + (Int32.toNatClampNeg 95)) + (Int32.toNatClampNeg 95)) + (Int32.toNatClampNeg 36)) + (Int32.toNatClampNeg 36)) + (Int32.toNatClampNeg 36)) + (Int32.toNatClampNeg 576)) - k1) X q252 dX2_init_70 hv (by omega) (by omega) (by omega) (by omega) ?_
  refine fk_putFR' X fd_1_20 q1546 dX2_init_72 (fit_A _) hf (fun m17 hf => ?_)
  refine fk_aload_n X 0 dX2_init_75 rfl ?_
  refine fk_bipush (v := 108) X dX2_init_76 rfl ?_
  obtain ⟨m18, hv, hf⟩ := bI hf
  have hm : (((((((((n1 + 1) + 1) + 1) + 1) + 1) + 1) + 1) + 1) + 1) ≤ nF ∧ (((((((((k1 + (Int32.toNatClampNeg 900)) + (Int32.toNatClampNeg 8)) + (Int32.toNatClampNeg 95)) + (Int32.toNatClampNeg 95)) + (Int32.toNatClampNeg 36)) + (Int32.toNatClampNeg 36)) + (Int32.toNatClampNeg 36)) + (Int32.toNatClampNeg 576)) + (Int32.toNatClampNeg 108)) ≤ kF := Mo3.use hf (Mo3.bind (fun m19 => Mo3.bind (fun m20 => Mo3.le (n1 := ((((((((((n1 + 1) + 1) + 1) + 1) + 1) + 1) + 1) + 1) + 1) + 1)) (k1 := ((((((((((k1 + (Int32.toNatClampNeg 900)) + (Int32.toNatClampNeg 8)) + (Int32.toNatClampNeg 95)) + (Int32.toNatClampNeg 95)) + (Int32.toNatClampNeg 36)) + (Int32.toNatClampNeg 36)) + (Int32.toNatClampNeg 36)) + (Int32.toNatClampNeg 576)) + (Int32.toNatClampNeg 108)) + (Int32.toNatClampNeg 2600))) (Mo3.bind (fun m21 => Mo3.bind (fun m22 => Mo3.le (n1 := (((((((((((n1 + 1) + 1) + 1) + 1) + 1) + 1) + 1) + 1) + 1) + 1) + 1)) (k1 := (((((((((((k1 + (Int32.toNatClampNeg 900)) + (Int32.toNatClampNeg 8)) + (Int32.toNatClampNeg 95)) + (Int32.toNatClampNeg 95)) + (Int32.toNatClampNeg 36)) + (Int32.toNatClampNeg 36)) + (Int32.toNatClampNeg 36)) + (Int32.toNatClampNeg 576)) + (Int32.toNatClampNeg 108)) + (Int32.toNatClampNeg 2600)) + (Int32.toNatClampNeg 900))) (Mo3.bind (fun m23 => Mo3.bind (fun m24 => Mo3.le (n1 := ((((((((((((n1 + 1) + 1) + 1) + 1) + 1) + 1) + 1) + 1) + 1) + 1) + 1) + 1)) (k1 := ((((((((((((k1 + (Int32.toNatClampNeg 900)) + (Int32.toNatClampNeg 8)) + (Int32.toNatClampNeg 95)) + (Int32.toNatClampNeg 95)) + (Int32.toNatClampNeg 36)) + (Int32.toNatClampNeg 36)) + (Int32.toNatClampNeg 36)) + (Int32.toNatClampNeg 576)) + (Int32.toNatClampNeg 108)) + (Int32.toNatClampNeg 2600)) + (Int32.toNatClampNeg 900)) + (Int32.toNatClampNeg 4))) (Mo3.bind (fun m25 => Mo3.bind (fun m26 => Mo3.le (n1 := (((((((((((((n1 + 1) + 1) + 1) + 1) + 1) + 1) + 1) + 1) + 1) + 1) + 1) + 1) + 1)) (k1 := (((((((((((((k1 + (Int32.toNatClampNeg 900)) + (Int32.toNatClampNeg 8)) + (Int32.toNatClampNeg 95)) + (Int32.toNatClampNeg 95)) + (Int32.toNatClampNeg 36)) + (Int32.toNatClampNeg 36)) + (Int32.toNatClampNeg 36)) + (Int32.toNatClampNeg 576)) + (Int32.toNatClampNeg 108)) + (Int32.toNatClampNeg 2600)) + (Int32.toNatClampNeg 900)) + (Int32.toNatClampNeg 4)) + (Int32.toNatClampNeg 5))) (Mo3.bind (fun m27 => Mo3.bind (fun m28 => Mo3.le (n1 := ((((((((((((((n1 + 1) + 1) + 1) + 1) + 1) + 1) + 1) + 1) + 1) + 1) + 1) + 1) + 1) + 1)) (k1 := ((((((((((((((k1 + (Int32.toNatClampNeg 900)) + (Int32.toNatClampNeg 8)) + (Int32.toNatClampNeg 95)) + (Int32.toNatClampNeg 95)) + (Int32.toNatClampNeg 36)) + (Int32.toNatClampNeg 36)) + (Int32.toNatClampNeg 36)) + (Int32.toNatClampNeg 576)) + (Int32.toNatClampNeg 108)) + (Int32.toNatClampNeg 2600)) + (Int32.toNatClampNeg 900)) + (Int32.toNatClampNeg 4)) + (Int32.toNatClampNeg 5)) + (Int32.toNatClampNeg 5))) (Mo3.bind (fun m29 => Mo3.bind (fun m30 => Mo3.le (n1 := (((((((((((((((n1 + 1) + 1) + 1) + 1) + 1) + 1) + 1) + 1) + 1) + 1) + 1) + 1) + 1) + 1) + 1)) (k1 := (((((((((((((((k1 + (Int32.toNatClampNeg 900)) + (Int32.toNatClampNeg 8)) + (Int32.toNatClampNeg 95)) + (Int32.toNatClampNeg 95)) + (Int32.toNatClampNeg 36)) + (Int32.toNatClampNeg 36)) + (Int32.toNatClampNeg 36)) + (Int32.toNatClampNeg 576)) + (Int32.toNatClampNeg 108)) + (Int32.toNatClampNeg 2600)) + (Int32.toNatClampNeg 900)) + (Int32.toNatClampNeg 4)) + (Int32.toNatClampNeg 5)) + (Int32.toNatClampNeg 5)) + (Int32.toNatClampNeg 5))) (Mo3.bind (fun m31 => Mo3.ok (by omega) (by omega))) (by omega) (by omega)))) (by omega) (by omega)))) (by omega) (by omega)))) (by omega) (by omega)))) (by omega) (by omega)))) (by omega) (by omega))))
  refine fk_newI 0 (by decide) (cs2 := (((((((((n1 + 1) + 1) + 1) + 1) + 1) + 1) + 1) + 1) + 1) - n1) (sl2 := (((((((((k1 + (Int32.toNatClampNeg 900)) + (Int32.toNatClampNeg 8)) + (Int32.toNatClampNeg 95)) + (Int32.toNatClampNeg 95)) + (Int32.toNatClampNeg 36)) + (Int32.toNatClampNeg 36)) + (Int32.toNatClampNeg 36)) + (Int32.toNatClampNeg 576)) + (Int32.toNatClampNeg 108)) - k1) X q252 dX2_init_78 hv (by omega) (by omega) (by omega) (by omega) ?_
  refine fk_putFR' X fd_1_21 q1547 dX2_init_80 (fit_A _) hf (fun m19 hf => ?_)
  refine fk_aload_n X 0 dX2_init_83 rfl ?_
  refine fk_sipush (v := 2600) X dX2_init_84 rfl ?_
  obtain ⟨m20, hv, hf⟩ := bI hf
  have hm : ((((((((((n1 + 1) + 1) + 1) + 1) + 1) + 1) + 1) + 1) + 1) + 1) ≤ nF ∧ ((((((((((k1 + (Int32.toNatClampNeg 900)) + (Int32.toNatClampNeg 8)) + (Int32.toNatClampNeg 95)) + (Int32.toNatClampNeg 95)) + (Int32.toNatClampNeg 36)) + (Int32.toNatClampNeg 36)) + (Int32.toNatClampNeg 36)) + (Int32.toNatClampNeg 576)) + (Int32.toNatClampNeg 108)) + (Int32.toNatClampNeg 2600)) ≤ kF := Mo3.use hf (Mo3.bind (fun m21 => Mo3.bind (fun m22 => Mo3.le (n1 := (((((((((((n1 + 1) + 1) + 1) + 1) + 1) + 1) + 1) + 1) + 1) + 1) + 1)) (k1 := (((((((((((k1 + (Int32.toNatClampNeg 900)) + (Int32.toNatClampNeg 8)) + (Int32.toNatClampNeg 95)) + (Int32.toNatClampNeg 95)) + (Int32.toNatClampNeg 36)) + (Int32.toNatClampNeg 36)) + (Int32.toNatClampNeg 36)) + (Int32.toNatClampNeg 576)) + (Int32.toNatClampNeg 108)) + (Int32.toNatClampNeg 2600)) + (Int32.toNatClampNeg 900))) (Mo3.bind (fun m23 => Mo3.bind (fun m24 => Mo3.le (n1 := ((((((((((((n1 + 1) + 1) + 1) + 1) + 1) + 1) + 1) + 1) + 1) + 1) + 1) + 1)) (k1 := ((((((((((((k1 + (Int32.toNatClampNeg 900)) + (Int32.toNatClampNeg 8)) + (Int32.toNatClampNeg 95)) + (Int32.toNatClampNeg 95)) + (Int32.toNatClampNeg 36)) + (Int32.toNatClampNeg 36)) + (Int32.toNatClampNeg 36)) + (Int32.toNatClampNeg 576)) + (Int32.toNatClampNeg 108)) + (Int32.toNatClampNeg 2600)) + (Int32.toNatClampNeg 900)) + (Int32.toNatClampNeg 4))) (Mo3.bind (fun m25 => Mo3.bind (fun m26 => Mo3.le (n1 := (((((((((((((n1 + 1) + 1) + 1) + 1) + 1) + 1) + 1) + 1) + 1) + 1) + 1) + 1) + 1)) (k1 := (((((((((((((k1 + (Int32.toNatClampNeg 900)) + (Int32.toNatClampNeg 8)) + (Int32.toNatClampNeg 95)) + (Int32.toNatClampNeg 95)) + (Int32.toNatClampNeg 36)) + (Int32.toNatClampNeg 36)) + (Int32.toNatClampNeg 36)) + (Int32.toNatClampNeg 576)) + (Int32.toNatClampNeg 108)) + (Int32.toNatClampNeg 2600)) + (Int32.toNatClampNeg 900)) + (Int32.toNatClampNeg 4)) + (Int32.toNatClampNeg 5))) (Mo3.bind (fun m27 => Mo3.bind (fun m28 => Mo3.le (n1 := ((((((((((((((n1 + 1) + 1) + 1) + 1) + 1) + 1) + 1) + 1) + 1) + 1) + 1) + 1) + 1) + 1)) (k1 := ((((((((((((((k1 + (Int32.toNatClampNeg 900)) + (Int32.toNatClampNeg 8)) + (Int32.toNatClampNeg 95)) + (Int32.toNatClampNeg 95)) + (Int32.toNatClampNeg 36)) + (Int32.toNatClampNeg 36)) + (Int32.toNatClampNeg 36)) + (Int32.toNatClampNeg 576)) + (Int32.toNatClampNeg 108)) + (Int32.toNatClampNeg 2600)) + (Int32.toNatClampNeg 900)) + (Int32.toNatClampNeg 4)) + (Int32.toNatClampNeg 5)) + (Int32.toNatClampNeg 5))) (Mo3.bind (fun m29 => Mo3.bind (fun m30 => Mo3.le (n1 := (((((((((((((((n1 + 1) + 1) + 1) + 1) + 1) + 1) + 1) + 1) + 1) + 1) + 1) + 1) + 1) + 1) + 1)) (k1 := (((((((((((((((k1 + (Int32.toNatClampNeg 900)) + (Int32.toNatClampNeg 8)) + (Int32.toNatClampNeg 95)) + (Int32.toNatClampNeg 95)) + (Int32.toNatClampNeg 36)) + (Int32.toNatClampNeg 36)) + (Int32.toNatClampNeg 36)) + (Int32.toNatClampNeg 576)) + (Int32.toNatClampNeg 108)) + (Int32.toNatClampNeg 2600)) + (Int32.toNatClampNeg 900)) + (Int32.toNatClampNeg 4)) + (Int32.toNatClampNeg 5)) + (Int32.toNatClampNeg 5)) + (Int32.toNatClampNeg 5))) (Mo3.bind (fun m31 => Mo3.ok (by omega) (by omega))) (by omega) (by omega)))) (by omega) (by omega)))) (by omega) (by omega)))) (by omega) (by omega)))) (by omega) (by omega))))
  refine fk_newI 0 (by decide) (cs2 := ((((((((((n1 + 1) + 1) + 1) + 1) + 1) + 1) + 1) + 1) + 1) + 1) - n1) (sl2 := ((((((((((k1 + (Int32.toNatClampNeg 900)) + (Int32.toNatClampNeg 8)) + (Int32.toNatClampNeg 95)) + (Int32.toNatClampNeg 95)) + (Int32.toNatClampNeg 36)) + (Int32.toNatClampNeg 36)) + (Int32.toNatClampNeg 36)) + (Int32.toNatClampNeg 576)) + (Int32.toNatClampNeg 108)) + (Int32.toNatClampNeg 2600)) - k1) X q252 dX2_init_87 hv (by omega) (by omega) (by omega) (by omega) ?_
  refine fk_putFR' X fd_1_24 q1550 dX2_init_89 (fit_A _) hf (fun m21 hf => ?_)
  refine fk_aload_n X 0 dX2_init_92 rfl ?_
  refine fk_sipush (v := 900) X dX2_init_93 rfl ?_
  obtain ⟨m22, hv, hf⟩ := bI hf
  have hm : (((((((((((n1 + 1) + 1) + 1) + 1) + 1) + 1) + 1) + 1) + 1) + 1) + 1) ≤ nF ∧ (((((((((((k1 + (Int32.toNatClampNeg 900)) + (Int32.toNatClampNeg 8)) + (Int32.toNatClampNeg 95)) + (Int32.toNatClampNeg 95)) + (Int32.toNatClampNeg 36)) + (Int32.toNatClampNeg 36)) + (Int32.toNatClampNeg 36)) + (Int32.toNatClampNeg 576)) + (Int32.toNatClampNeg 108)) + (Int32.toNatClampNeg 2600)) + (Int32.toNatClampNeg 900)) ≤ kF := Mo3.use hf (Mo3.bind (fun m23 => Mo3.bind (fun m24 => Mo3.le (n1 := ((((((((((((n1 + 1) + 1) + 1) + 1) + 1) + 1) + 1) + 1) + 1) + 1) + 1) + 1)) (k1 := ((((((((((((k1 + (Int32.toNatClampNeg 900)) + (Int32.toNatClampNeg 8)) + (Int32.toNatClampNeg 95)) + (Int32.toNatClampNeg 95)) + (Int32.toNatClampNeg 36)) + (Int32.toNatClampNeg 36)) + (Int32.toNatClampNeg 36)) + (Int32.toNatClampNeg 576)) + (Int32.toNatClampNeg 108)) + (Int32.toNatClampNeg 2600)) + (Int32.toNatClampNeg 900)) + (Int32.toNatClampNeg 4))) (Mo3.bind (fun m25 => Mo3.bind (fun m26 => Mo3.le (n1 := (((((((((((((n1 + 1) + 1) + 1) + 1) + 1) + 1) + 1) + 1) + 1) + 1) + 1) + 1) + 1)) (k1 := (((((((((((((k1 + (Int32.toNatClampNeg 900)) + (Int32.toNatClampNeg 8)) + (Int32.toNatClampNeg 95)) + (Int32.toNatClampNeg 95)) + (Int32.toNatClampNeg 36)) + (Int32.toNatClampNeg 36)) + (Int32.toNatClampNeg 36)) + (Int32.toNatClampNeg 576)) + (Int32.toNatClampNeg 108)) + (Int32.toNatClampNeg 2600)) + (Int32.toNatClampNeg 900)) + (Int32.toNatClampNeg 4)) + (Int32.toNatClampNeg 5))) (Mo3.bind (fun m27 => Mo3.bind (fun m28 => Mo3.le (n1 := ((((((((((((((n1 + 1) + 1) + 1) + 1) + 1) + 1) + 1) + 1) + 1) + 1) + 1) + 1) + 1) + 1)) (k1 := ((((((((((((((k1 + (Int32.toNatClampNeg 900)) + (Int32.toNatClampNeg 8)) + (Int32.toNatClampNeg 95)) + (Int32.toNatClampNeg 95)) + (Int32.toNatClampNeg 36)) + (Int32.toNatClampNeg 36)) + (Int32.toNatClampNeg 36)) + (Int32.toNatClampNeg 576)) + (Int32.toNatClampNeg 108)) + (Int32.toNatClampNeg 2600)) + (Int32.toNatClampNeg 900)) + (Int32.toNatClampNeg 4)) + (Int32.toNatClampNeg 5)) + (Int32.toNatClampNeg 5))) (Mo3.bind (fun m29 => Mo3.bind (fun m30 => Mo3.le (n1 := (((((((((((((((n1 + 1) + 1) + 1) + 1) + 1) + 1) + 1) + 1) + 1) + 1) + 1) + 1) + 1) + 1) + 1)) (k1 := (((((((((((((((k1 + (Int32.toNatClampNeg 900)) + (Int32.toNatClampNeg 8)) + (Int32.toNatClampNeg 95)) + (Int32.toNatClampNeg 95)) + (Int32.toNatClampNeg 36)) + (Int32.toNatClampNeg 36)) + (Int32.toNatClampNeg 36)) + (Int32.toNatClampNeg 576)) + (Int32.toNatClampNeg 108)) + (Int32.toNatClampNeg 2600)) + (Int32.toNatClampNeg 900)) + (Int32.toNatClampNeg 4)) + (Int32.toNatClampNeg 5)) + (Int32.toNatClampNeg 5)) + (Int32.toNatClampNeg 5))) (Mo3.bind (fun m31 => Mo3.ok (by omega) (by omega))) (by omega) (by omega)))) (by omega) (by omega)))) (by omega) (by omega)))) (by omega) (by omega))))
  refine fk_newI 0 (by decide) (cs2 := (((((((((((n1 + 1) + 1) + 1) + 1) + 1) + 1) + 1) + 1) + 1) + 1) + 1) - n1) (sl2 := (((((((((((k1 + (Int32.toNatClampNeg 900)) + (Int32.toNatClampNeg 8)) + (Int32.toNatClampNeg 95)) + (Int32.toNatClampNeg 95)) + (Int32.toNatClampNeg 36)) + (Int32.toNatClampNeg 36)) + (Int32.toNatClampNeg 36)) + (Int32.toNatClampNeg 576)) + (Int32.toNatClampNeg 108)) + (Int32.toNatClampNeg 2600)) + (Int32.toNatClampNeg 900)) - k1) X q252 dX2_init_96 hv (by omega) (by omega) (by omega) (by omega) ?_
  refine fk_putFR' X fd_1_25 q1551 dX2_init_98 (fit_A _) hf (fun m23 hf => ?_)
  refine fk_aload_n X 0 dX2_init_101 rfl ?_
  refine fk_iconst (v := 4) X dX2_init_102 rfl ?_
  obtain ⟨m24, hv, hf⟩ := bI hf
  have hm : ((((((((((((n1 + 1) + 1) + 1) + 1) + 1) + 1) + 1) + 1) + 1) + 1) + 1) + 1) ≤ nF ∧ ((((((((((((k1 + (Int32.toNatClampNeg 900)) + (Int32.toNatClampNeg 8)) + (Int32.toNatClampNeg 95)) + (Int32.toNatClampNeg 95)) + (Int32.toNatClampNeg 36)) + (Int32.toNatClampNeg 36)) + (Int32.toNatClampNeg 36)) + (Int32.toNatClampNeg 576)) + (Int32.toNatClampNeg 108)) + (Int32.toNatClampNeg 2600)) + (Int32.toNatClampNeg 900)) + (Int32.toNatClampNeg 4)) ≤ kF := Mo3.use hf (Mo3.bind (fun m25 => Mo3.bind (fun m26 => Mo3.le (n1 := (((((((((((((n1 + 1) + 1) + 1) + 1) + 1) + 1) + 1) + 1) + 1) + 1) + 1) + 1) + 1)) (k1 := (((((((((((((k1 + (Int32.toNatClampNeg 900)) + (Int32.toNatClampNeg 8)) + (Int32.toNatClampNeg 95)) + (Int32.toNatClampNeg 95)) + (Int32.toNatClampNeg 36)) + (Int32.toNatClampNeg 36)) + (Int32.toNatClampNeg 36)) + (Int32.toNatClampNeg 576)) + (Int32.toNatClampNeg 108)) + (Int32.toNatClampNeg 2600)) + (Int32.toNatClampNeg 900)) + (Int32.toNatClampNeg 4)) + (Int32.toNatClampNeg 5))) (Mo3.bind (fun m27 => Mo3.bind (fun m28 => Mo3.le (n1 := ((((((((((((((n1 + 1) + 1) + 1) + 1) + 1) + 1) + 1) + 1) + 1) + 1) + 1) + 1) + 1) + 1)) (k1 := ((((((((((((((k1 + (Int32.toNatClampNeg 900)) + (Int32.toNatClampNeg 8)) + (Int32.toNatClampNeg 95)) + (Int32.toNatClampNeg 95)) + (Int32.toNatClampNeg 36)) + (Int32.toNatClampNeg 36)) + (Int32.toNatClampNeg 36)) + (Int32.toNatClampNeg 576)) + (Int32.toNatClampNeg 108)) + (Int32.toNatClampNeg 2600)) + (Int32.toNatClampNeg 900)) + (Int32.toNatClampNeg 4)) + (Int32.toNatClampNeg 5)) + (Int32.toNatClampNeg 5))) (Mo3.bind (fun m29 => Mo3.bind (fun m30 => Mo3.le (n1 := (((((((((((((((n1 + 1) + 1) + 1) + 1) + 1) + 1) + 1) + 1) + 1) + 1) + 1) + 1) + 1) + 1) + 1)) (k1 := (((((((((((((((k1 + (Int32.toNatClampNeg 900)) + (Int32.toNatClampNeg 8)) + (Int32.toNatClampNeg 95)) + (Int32.toNatClampNeg 95)) + (Int32.toNatClampNeg 36)) + (Int32.toNatClampNeg 36)) + (Int32.toNatClampNeg 36)) + (Int32.toNatClampNeg 576)) + (Int32.toNatClampNeg 108)) + (Int32.toNatClampNeg 2600)) + (Int32.toNatClampNeg 900)) + (Int32.toNatClampNeg 4)) + (Int32.toNatClampNeg 5)) + (Int32.toNatClampNeg 5)) + (Int32.toNatClampNeg 5))) (Mo3.bind (fun m31 => Mo3.ok (by omega) (by omega))) (by omega) (by omega)))) (by omega) (by omega)))) (by omega) (by omega))))
  refine fk_newI 0 (by decide) (cs2 := ((((((((((((n1 + 1) + 1) + 1) + 1) + 1) + 1) + 1) + 1) + 1) + 1) + 1) + 1) - n1) (sl2 := ((((((((((((k1 + (Int32.toNatClampNeg 900)) + (Int32.toNatClampNeg 8)) + (Int32.toNatClampNeg 95)) + (Int32.toNatClampNeg 95)) + (Int32.toNatClampNeg 36)) + (Int32.toNatClampNeg 36)) + (Int32.toNatClampNeg 36)) + (Int32.toNatClampNeg 576)) + (Int32.toNatClampNeg 108)) + (Int32.toNatClampNeg 2600)) + (Int32.toNatClampNeg 900)) + (Int32.toNatClampNeg 4)) - k1) X q252 dX2_init_103 hv (by omega) (by omega) (by omega) (by omega) ?_
  refine fk_putFR' X fd_1_30 q1556 dX2_init_105 (fit_A _) hf (fun m25 hf => ?_)
  refine fk_aload_n X 0 dX2_init_108 rfl ?_
  refine fk_iconst (v := 5) X dX2_init_109 rfl ?_
  obtain ⟨m26, hv, hf⟩ := bI hf
  have hm : (((((((((((((n1 + 1) + 1) + 1) + 1) + 1) + 1) + 1) + 1) + 1) + 1) + 1) + 1) + 1) ≤ nF ∧ (((((((((((((k1 + (Int32.toNatClampNeg 900)) + (Int32.toNatClampNeg 8)) + (Int32.toNatClampNeg 95)) + (Int32.toNatClampNeg 95)) + (Int32.toNatClampNeg 36)) + (Int32.toNatClampNeg 36)) + (Int32.toNatClampNeg 36)) + (Int32.toNatClampNeg 576)) + (Int32.toNatClampNeg 108)) + (Int32.toNatClampNeg 2600)) + (Int32.toNatClampNeg 900)) + (Int32.toNatClampNeg 4)) + (Int32.toNatClampNeg 5)) ≤ kF := Mo3.use hf (Mo3.bind (fun m27 => Mo3.bind (fun m28 => Mo3.le (n1 := ((((((((((((((n1 + 1) + 1) + 1) + 1) + 1) + 1) + 1) + 1) + 1) + 1) + 1) + 1) + 1) + 1)) (k1 := ((((((((((((((k1 + (Int32.toNatClampNeg 900)) + (Int32.toNatClampNeg 8)) + (Int32.toNatClampNeg 95)) + (Int32.toNatClampNeg 95)) + (Int32.toNatClampNeg 36)) + (Int32.toNatClampNeg 36)) + (Int32.toNatClampNeg 36)) + (Int32.toNatClampNeg 576)) + (Int32.toNatClampNeg 108)) + (Int32.toNatClampNeg 2600)) + (Int32.toNatClampNeg 900)) + (Int32.toNatClampNeg 4)) + (Int32.toNatClampNeg 5)) + (Int32.toNatClampNeg 5))) (Mo3.bind (fun m29 => Mo3.bind (fun m30 => Mo3.le (n1 := (((((((((((((((n1 + 1) + 1) + 1) + 1) + 1) + 1) + 1) + 1) + 1) + 1) + 1) + 1) + 1) + 1) + 1)) (k1 := (((((((((((((((k1 + (Int32.toNatClampNeg 900)) + (Int32.toNatClampNeg 8)) + (Int32.toNatClampNeg 95)) + (Int32.toNatClampNeg 95)) + (Int32.toNatClampNeg 36)) + (Int32.toNatClampNeg 36)) + (Int32.toNatClampNeg 36)) + (Int32.toNatClampNeg 576)) + (Int32.toNatClampNeg 108)) + (Int32.toNatClampNeg 2600)) + (Int32.toNatClampNeg 900)) + (Int32.toNatClampNeg 4)) + (Int32.toNatClampNeg 5)) + (Int32.toNatClampNeg 5)) + (Int32.toNatClampNeg 5))) (Mo3.bind (fun m31 => Mo3.ok (by omega) (by omega))) (by omega) (by omega)))) (by omega) (by omega))))
  refine fk_newI 0 (by decide) (cs2 := (((((((((((((n1 + 1) + 1) + 1) + 1) + 1) + 1) + 1) + 1) + 1) + 1) + 1) + 1) + 1) - n1) (sl2 := (((((((((((((k1 + (Int32.toNatClampNeg 900)) + (Int32.toNatClampNeg 8)) + (Int32.toNatClampNeg 95)) + (Int32.toNatClampNeg 95)) + (Int32.toNatClampNeg 36)) + (Int32.toNatClampNeg 36)) + (Int32.toNatClampNeg 36)) + (Int32.toNatClampNeg 576)) + (Int32.toNatClampNeg 108)) + (Int32.toNatClampNeg 2600)) + (Int32.toNatClampNeg 900)) + (Int32.toNatClampNeg 4)) + (Int32.toNatClampNeg 5)) - k1) X q252 dX2_init_110 hv (by omega) (by omega) (by omega) (by omega) ?_
  refine fk_putFR' X fd_1_34 q1560 dX2_init_112 (fit_A _) hf (fun m27 hf => ?_)
  refine fk_aload_n X 0 dX2_init_115 rfl ?_
  refine fk_iconst (v := 5) X dX2_init_116 rfl ?_
  obtain ⟨m28, hv, hf⟩ := bI hf
  have hm : ((((((((((((((n1 + 1) + 1) + 1) + 1) + 1) + 1) + 1) + 1) + 1) + 1) + 1) + 1) + 1) + 1) ≤ nF ∧ ((((((((((((((k1 + (Int32.toNatClampNeg 900)) + (Int32.toNatClampNeg 8)) + (Int32.toNatClampNeg 95)) + (Int32.toNatClampNeg 95)) + (Int32.toNatClampNeg 36)) + (Int32.toNatClampNeg 36)) + (Int32.toNatClampNeg 36)) + (Int32.toNatClampNeg 576)) + (Int32.toNatClampNeg 108)) + (Int32.toNatClampNeg 2600)) + (Int32.toNatClampNeg 900)) + (Int32.toNatClampNeg 4)) + (Int32.toNatClampNeg 5)) + (Int32.toNatClampNeg 5)) ≤ kF := Mo3.use hf (Mo3.bind (fun m29 => Mo3.bind (fun m30 => Mo3.le (n1 := (((((((((((((((n1 + 1) + 1) + 1) + 1) + 1) + 1) + 1) + 1) + 1) + 1) + 1) + 1) + 1) + 1) + 1)) (k1 := (((((((((((((((k1 + (Int32.toNatClampNeg 900)) + (Int32.toNatClampNeg 8)) + (Int32.toNatClampNeg 95)) + (Int32.toNatClampNeg 95)) + (Int32.toNatClampNeg 36)) + (Int32.toNatClampNeg 36)) + (Int32.toNatClampNeg 36)) + (Int32.toNatClampNeg 576)) + (Int32.toNatClampNeg 108)) + (Int32.toNatClampNeg 2600)) + (Int32.toNatClampNeg 900)) + (Int32.toNatClampNeg 4)) + (Int32.toNatClampNeg 5)) + (Int32.toNatClampNeg 5)) + (Int32.toNatClampNeg 5))) (Mo3.bind (fun m31 => Mo3.ok (by omega) (by omega))) (by omega) (by omega))))
  refine fk_newI 0 (by decide) (cs2 := ((((((((((((((n1 + 1) + 1) + 1) + 1) + 1) + 1) + 1) + 1) + 1) + 1) + 1) + 1) + 1) + 1) - n1) (sl2 := ((((((((((((((k1 + (Int32.toNatClampNeg 900)) + (Int32.toNatClampNeg 8)) + (Int32.toNatClampNeg 95)) + (Int32.toNatClampNeg 95)) + (Int32.toNatClampNeg 36)) + (Int32.toNatClampNeg 36)) + (Int32.toNatClampNeg 36)) + (Int32.toNatClampNeg 576)) + (Int32.toNatClampNeg 108)) + (Int32.toNatClampNeg 2600)) + (Int32.toNatClampNeg 900)) + (Int32.toNatClampNeg 4)) + (Int32.toNatClampNeg 5)) + (Int32.toNatClampNeg 5)) - k1) X q252 dX2_init_117 hv (by omega) (by omega) (by omega) (by omega) ?_
  refine fk_putFR' X fd_1_35 q1561 dX2_init_119 (fit_A _) hf (fun m29 hf => ?_)
  refine fk_aload_n X 0 dX2_init_122 rfl ?_
  refine fk_iconst (v := 5) X dX2_init_123 rfl ?_
  obtain ⟨m30, hv, hf⟩ := bI hf
  have hm : (((((((((((((((n1 + 1) + 1) + 1) + 1) + 1) + 1) + 1) + 1) + 1) + 1) + 1) + 1) + 1) + 1) + 1) ≤ nF ∧ (((((((((((((((k1 + (Int32.toNatClampNeg 900)) + (Int32.toNatClampNeg 8)) + (Int32.toNatClampNeg 95)) + (Int32.toNatClampNeg 95)) + (Int32.toNatClampNeg 36)) + (Int32.toNatClampNeg 36)) + (Int32.toNatClampNeg 36)) + (Int32.toNatClampNeg 576)) + (Int32.toNatClampNeg 108)) + (Int32.toNatClampNeg 2600)) + (Int32.toNatClampNeg 900)) + (Int32.toNatClampNeg 4)) + (Int32.toNatClampNeg 5)) + (Int32.toNatClampNeg 5)) + (Int32.toNatClampNeg 5)) ≤ kF := Mo3.use hf (Mo3.bind (fun m31 => Mo3.ok (by omega) (by omega)))
  refine fk_newI 0 (by decide) (cs2 := (((((((((((((((n1 + 1) + 1) + 1) + 1) + 1) + 1) + 1) + 1) + 1) + 1) + 1) + 1) + 1) + 1) + 1) - n1) (sl2 := (((((((((((((((k1 + (Int32.toNatClampNeg 900)) + (Int32.toNatClampNeg 8)) + (Int32.toNatClampNeg 95)) + (Int32.toNatClampNeg 95)) + (Int32.toNatClampNeg 36)) + (Int32.toNatClampNeg 36)) + (Int32.toNatClampNeg 36)) + (Int32.toNatClampNeg 576)) + (Int32.toNatClampNeg 108)) + (Int32.toNatClampNeg 2600)) + (Int32.toNatClampNeg 900)) + (Int32.toNatClampNeg 4)) + (Int32.toNatClampNeg 5)) + (Int32.toNatClampNeg 5)) + (Int32.toNatClampNeg 5)) - k1) X q252 dX2_init_124 hv (by omega) (by omega) (by omega) (by omega) ?_
  refine fk_putFR' X fd_1_38 q1564 dX2_init_126 (fit_A _) hf (fun m31 hf => ?_)
  cases hf
  exact fk_return X Y dX2_init_129
/-! FigureKneeModel thrown ()I -/
theorem n_X2_thrown : fk_N yX2_thrown 0 := ⟨by decide +kernel, by decide +kernel, by decide +kernel, by decide +kernel⟩
def f_X2_thrown (a0 : Option Nat) (m : fk_M) : Option Int32 :=
  (gI m a0 1 0).bind fun z1 => some z1
set_option maxHeartbeats 4000000 in
theorem c_X2_thrown {l : Launch} {G : fk_G} {b0 : Nat} {n : Nat} {a0 : Option Nat} {m : fk_M} {r : Int32} (hf : f_X2_thrown a0 m = some r) : fk_Ct l G b0 yX2_thrown cX2_thrown 1 (some .int) 1 60 [tR a0] n m (some (tI r)) n m 0 0 := by
  refine fk_enter n_X2_thrown.1 rfl ?_
  intro E X0 Y
  have X : fk_X E l G b0 "FigureKneeModel" "thrown" cX2_thrown 1 1 60 0 0 := X0
  show fk_W E 1 n m 0 0 0 [(0, tR a0)] []
  unfold f_X2_thrown at hf
  refine fk_aload_n X 0 dX2_thrown_0 rfl ?_
  refine fk_getI' X fd_1_0 q1526 dX2_thrown_1 hf (fun z1 hf => ?_)
  cases hf
  exact fk_ireturn X Y dX2_thrown_4 rfl
/-! FigureKneeModel feed (IIIII)I -/
theorem n_X2_feed : fk_N yX2_feed 5 := ⟨by decide +kernel, by decide +kernel, by decide +kernel, by decide +kernel⟩
def f_X2_feed_L23 (x0 : Option Nat) (x1 : Int32) (x2 : Int32) (x3 : Int32) (x4 : Int32) (x5 : Int32) : Nat → Int32 → fk_M → Option (Int32 × fk_M)
  | 0, _, _ => none
  | N + 1, x6, m0 =>
  if 20 ≤ x6 then ((gI m0 x0 1 2).bind fun z1 => some (z1, m0)) else ((gR m0 x0 1 1).bind fun z2 => (gI m0 x0 1 2).bind fun z3 => (sI m0 z2 0 z3 ((i_shr (if 4 ≤ x6 then (if 8 ≤ x6 then (if 12 ≤ x6 then (if 16 ≤ x6 then x5 else x4) else x3) else x2) else x1) (24 - (8 * (i_rem x6 4)))) &&& 255)).bind fun m4 => (gI m4 x0 1 2).bind fun z5 => (pV m4 x0 1 2 (tI (z5 + 1))).bind fun m6 => f_X2_feed_L23 x0 x1 x2 x3 x4 x5 N (x6 + 1) m6)
set_option maxHeartbeats 4000000 in
theorem w_X2_feed_L23 {E : fk_E} {l : Launch} {G : fk_G} {b0 n : Nat} {r : Int32} {mF : fk_M} (X : fk_X E l G b0 "FigureKneeModel" "feed" cX2_feed 8 1 60 0 0) (Y : fk_Y E (some .int) (some (tI r)) n mF 0 0) (x0 : Option Nat) (x1 : Int32) (x2 : Int32) (x3 : Int32) (x4 : Int32) (x5 : Int32) : ∀ (N : Nat) (x6 : Int32) (m0 : fk_M), f_X2_feed_L23 x0 x1 x2 x3 x4 x5 N x6 m0 = some (r, mF) → fk_W E 8 n m0 0 0 23 [(0, tR x0), (1, tI x1), (2, tI x2), (3, tI x3), (4, tI x4), (5, tI x5), (6, tI x6)] [] := by
  intro N
  induction N with
  | zero =>
    intro x6 m0 hf
    have hf : (none : Option (Int32 × fk_M)) = some _ := hf
    cases hf
  | succ N ih =>
    intro x6 m0 hf
    rw [f_X2_feed_L23] at hf
    refine fk_iload X 6 dX2_feed_23 rfl ?_
    refine fk_bipush (v := 20) X dX2_feed_25 rfl ?_
    refine fk_icmp_ge' X 120 dX2_feed_27 rfl hf (fun hf => ?_) (fun hf => ?_)
    · refine fk_aload_n X 0 dX2_feed_120 rfl ?_
      refine fk_getI' X fd_1_2 q1528 dX2_feed_121 hf (fun z1 hf => ?_)
      cases hf
      exact fk_ireturn X Y dX2_feed_124 rfl
    · refine fk_iload X 6 dX2_feed_30 rfl ?_
      refine fk_iconst (v := 4) X dX2_feed_32 rfl ?_
      have J1 : fk_W E 8 n m0 0 0 76 [(0, tR x0), (1, tI x1), (2, tI x2), (3, tI x3), (4, tI x4), (5, tI x5), (6, tI x6)] [tI (if 4 ≤ x6 then (if 8 ≤ x6 then (if 12 ≤ x6 then (if 16 ≤ x6 then x5 else x4) else x3) else x2) else x1)] := by
        refine fk_istore X [(7, tI (if 4 ≤ x6 then (if 8 ≤ x6 then (if 12 ≤ x6 then (if 16 ≤ x6 then x5 else x4) else x3) else x2) else x1)), (0, tR x0), (1, tI x1), (2, tI x2), (3, tI x3), (4, tI x4), (5, tI x5), (6, tI x6)] dX2_feed_76 rfl rfl ?_
        refine fk_aload_n X 1 dX2_feed_78 rfl ?_
        refine fk_getR' X fd_1_1 q1527 dX2_feed_79 hf (fun z2 hf => ?_)
        refine fk_aload_n X 1 dX2_feed_82 rfl ?_
        refine fk_getI' X fd_1_2 q1528 dX2_feed_83 hf (fun z3 hf => ?_)
        refine fk_iload X 0 dX2_feed_86 rfl ?_
        refine fk_bipush (v := 24) X dX2_feed_88 rfl ?_
        refine fk_bipush (v := 8) X dX2_feed_90 rfl ?_
        refine fk_iload X 7 dX2_feed_92 rfl ?_
        refine fk_iconst (v := 4) X dX2_feed_94 rfl ?_
        refine fk_irem X dX2_feed_95 (by decide) ?_
        refine fk_imul X dX2_feed_96 ?_
        refine fk_isub X dX2_feed_97 ?_
        refine fk_ishr X dX2_feed_98 ?_
        refine fk_sipush (v := 255) X dX2_feed_99 rfl ?_
        refine fk_iand X dX2_feed_102 ?_
        refine fk_iastore' X dX2_feed_103 hf (fun m4 hf => ?_)
        refine fk_aload_n X 1 dX2_feed_104 rfl ?_
        refine fk_dup X dX2_feed_105 rfl ?_
        refine fk_getI' X fd_1_2 q1528 dX2_feed_106 hf (fun z5 hf => ?_)
        refine fk_iconst (v := 1) X dX2_feed_109 rfl ?_
        refine fk_iadd X dX2_feed_110 ?_
        refine fk_putI' X fd_1_2 q1528 dX2_feed_111 (fit_I _) hf (fun m6 hf => ?_)
        refine fk_iinc X 7 [(6, tI (x6 + 1)), (7, tI (if 4 ≤ x6 then (if 8 ≤ x6 then (if 12 ≤ x6 then (if 16 ≤ x6 then x5 else x4) else x3) else x2) else x1)), (0, tR x0), (1, tI x1), (2, tI x2), (3, tI x3), (4, tI x4), (5, tI x5)] dX2_feed_114 rfl rfl rfl rfl ?_
        refine fk_goto X 23 dX2_feed_117 rfl ?_
        exact fk_cut' (ih (x6 + 1) m6  hf) [2, 3, 4, 5, 6, 7, 0] rfl
      refine fk_icmp_ge X 40 dX2_feed_33 rfl (fun hc2 => ?_) (fun hc2 => ?_)
      · refine fk_iload X 6 dX2_feed_40 rfl ?_
        refine fk_bipush (v := 8) X dX2_feed_42 rfl ?_
        have J3 : fk_W E 8 n m0 0 0 76 [(0, tR x0), (1, tI x1), (2, tI x2), (3, tI x3), (4, tI x4), (5, tI x5), (6, tI x6)] [tI (if 8 ≤ x6 then (if 12 ≤ x6 then (if 16 ≤ x6 then x5 else x4) else x3) else x2)] := by
          simp only [if_pos hc2] at J1
          exact fk_cut' J1 [0, 1, 2, 3, 4, 5, 6] rfl
        refine fk_icmp_ge X 51 dX2_feed_44 rfl (fun hc4 => ?_) (fun hc4 => ?_)
        · refine fk_iload X 6 dX2_feed_51 rfl ?_
          refine fk_bipush (v := 12) X dX2_feed_53 rfl ?_
          have J5 : fk_W E 8 n m0 0 0 76 [(0, tR x0), (1, tI x1), (2, tI x2), (3, tI x3), (4, tI x4), (5, tI x5), (6, tI x6)] [tI (if 12 ≤ x6 then (if 16 ≤ x6 then x5 else x4) else x3)] := by
            simp only [if_pos hc4] at J3
            exact fk_cut' J3 [0, 1, 2, 3, 4, 5, 6] rfl
          refine fk_icmp_ge X 62 dX2_feed_55 rfl (fun hc6 => ?_) (fun hc6 => ?_)
          · refine fk_iload X 6 dX2_feed_62 rfl ?_
            refine fk_bipush (v := 16) X dX2_feed_64 rfl ?_
            have J7 : fk_W E 8 n m0 0 0 76 [(0, tR x0), (1, tI x1), (2, tI x2), (3, tI x3), (4, tI x4), (5, tI x5), (6, tI x6)] [tI (if 16 ≤ x6 then x5 else x4)] := by
              simp only [if_pos hc6] at J5
              exact fk_cut' J5 [0, 1, 2, 3, 4, 5, 6] rfl
            refine fk_icmp_ge X 74 dX2_feed_66 rfl (fun hc8 => ?_) (fun hc8 => ?_)
            · refine fk_iload X 5 dX2_feed_74 rfl ?_
              simp only [if_pos hc8] at J7
              exact fk_cut' J7 [0, 1, 2, 3, 4, 5, 6] rfl
            · refine fk_iload X 4 dX2_feed_69 rfl ?_
              refine fk_goto X 76 dX2_feed_71 rfl ?_
              simp only [if_neg hc8] at J7
              exact fk_cut' J7 [0, 1, 2, 3, 4, 5, 6] rfl
          · refine fk_iload_n X 3 dX2_feed_58 rfl ?_
            refine fk_goto X 76 dX2_feed_59 rfl ?_
            simp only [if_neg hc6] at J5
            exact fk_cut' J5 [0, 1, 2, 3, 4, 5, 6] rfl
        · refine fk_iload_n X 2 dX2_feed_47 rfl ?_
          refine fk_goto X 76 dX2_feed_48 rfl ?_
          simp only [if_neg hc4] at J3
          exact fk_cut' J3 [0, 1, 2, 3, 4, 5, 6] rfl
      · refine fk_iload_n X 1 dX2_feed_36 rfl ?_
        refine fk_goto X 76 dX2_feed_37 rfl ?_
        simp only [if_neg hc2] at J1
        exact fk_cut' J1 [0, 1, 2, 3, 4, 5, 6] rfl
def f_X2_feed (a0 : Option Nat) (a1 : Int32) (a2 : Int32) (a3 : Int32) (a4 : Int32) (a5 : Int32) (m0 : fk_M) : Option (Int32 × fk_M) :=
  (pV m0 a0 1 0 (tI 0)).bind fun m1 => (gI m1 a0 1 2).bind fun z2 => if (z2 + 20) ≤ 900 then (f_X2_feed_L23 a0 a1 a2 a3 a4 a5 fk_fuel 0 m1) else (some ((-1), m1))
set_option maxHeartbeats 4000000 in
theorem c_X2_feed {l : Launch} {G : fk_G} {b0 : Nat} {n : Nat} {a0 : Option Nat} {a1 : Int32} {a2 : Int32} {a3 : Int32} {a4 : Int32} {a5 : Int32} {m0 : fk_M} {r : Int32} {mF : fk_M} (hf : f_X2_feed a0 a1 a2 a3 a4 a5 m0 = some (r, mF)) : fk_Ct l G b0 yX2_feed cX2_feed 8 (some .int) 1 60 [tR a0, tI a1, tI a2, tI a3, tI a4, tI a5] n m0 (some (tI r)) n mF 0 0 := by
  refine fk_enter n_X2_feed.1 rfl ?_
  intro E X0 Y
  have X : fk_X E l G b0 "FigureKneeModel" "feed" cX2_feed 8 1 60 0 0 := X0
  show fk_W E 8 n m0 0 0 0 [(0, tR a0), (1, tI a1), (2, tI a2), (3, tI a3), (4, tI a4), (5, tI a5)] []
  unfold f_X2_feed at hf
  refine fk_aload_n X 0 dX2_feed_0 rfl ?_
  refine fk_iconst (v := 0) X dX2_feed_1 rfl ?_
  refine fk_putI' X fd_1_0 q1526 dX2_feed_2 (fit_I _) hf (fun m1 hf => ?_)
  refine fk_aload_n X 0 dX2_feed_5 rfl ?_
  refine fk_getI' X fd_1_2 q1528 dX2_feed_6 hf (fun z2 hf => ?_)
  refine fk_bipush (v := 20) X dX2_feed_9 rfl ?_
  refine fk_iadd X dX2_feed_11 ?_
  refine fk_sipush (v := 900) X dX2_feed_12 rfl ?_
  refine fk_icmp_le' X 20 dX2_feed_15 rfl hf (fun hf => ?_) (fun hf => ?_)
  · refine fk_iconst (v := 0) X dX2_feed_20 rfl ?_
    refine fk_istore X [(6, tI 0), (0, tR a0), (1, tI a1), (2, tI a2), (3, tI a3), (4, tI a4), (5, tI a5)] dX2_feed_21 rfl rfl ?_
    exact fk_cut' (w_X2_feed_L23 X Y a0 a1 a2 a3 a4 a5 fk_fuel 0 m1 hf) [1, 2, 3, 4, 5, 6, 0] rfl
  · refine fk_iconst (v := (-1)) X dX2_feed_18 rfl ?_
    cases hf
    exact fk_ireturn X Y dX2_feed_19 rfl
/-! FigureKneeModel good ()V -/
theorem n_X2_good : fk_N yX2_good 0 := ⟨by decide +kernel, by decide +kernel, by decide +kernel, by decide +kernel⟩
def f_X2_good (a0 : Option Nat) (m0 : fk_M) : Option fk_M :=
  (pV m0 a0 1 0 (tI 0)).bind fun m1 => (pV m1 a0 1 11 (tI 0)).bind fun m2 => some m2
set_option maxHeartbeats 4000000 in
theorem c_X2_good {l : Launch} {G : fk_G} {b0 : Nat} {n : Nat} {a0 : Option Nat} {m0 : fk_M} {mF : fk_M} (hf : f_X2_good a0 m0 = some mF) : fk_Ct l G b0 yX2_good cX2_good 1 none 1 60 [tR a0] n m0 none n mF 0 0 := by
  refine fk_enter n_X2_good.1 rfl ?_
  intro E X0 Y
  have X : fk_X E l G b0 "FigureKneeModel" "good" cX2_good 1 1 60 0 0 := X0
  show fk_W E 1 n m0 0 0 0 [(0, tR a0)] []
  unfold f_X2_good at hf
  refine fk_aload_n X 0 dX2_good_0 rfl ?_
  refine fk_iconst (v := 0) X dX2_good_1 rfl ?_
  refine fk_putI' X fd_1_0 q1526 dX2_good_2 (fit_I _) hf (fun m1 hf => ?_)
  refine fk_aload_n X 0 dX2_good_5 rfl ?_
  refine fk_iconst (v := 0) X dX2_good_6 rfl ?_
  refine fk_putI' X fd_1_11 q1537 dX2_good_7 (fit_I _) hf (fun m2 hf => ?_)
  cases hf
  exact fk_return X Y dX2_good_10
/-! FigureKneeModel in (III)Z -/
theorem n_X2_in : fk_N yX2_in 3 := ⟨by decide +kernel, by decide +kernel, by decide +kernel, by decide +kernel⟩
def f_X2_in (a0 : Int32) (a1 : Int32) (a2 : Int32) (m : fk_M) : Option Int32 :=
  some (if a0 < a1 then (0 : Int32) else (if a2 < a0 then (0 : Int32) else 1))
set_option maxHeartbeats 4000000 in
theorem c_X2_in {l : Launch} {G : fk_G} {b0 : Nat} {n : Nat} {a0 : Int32} {a1 : Int32} {a2 : Int32} {m : fk_M} {r : Int32} (hf : f_X2_in a0 a1 a2 m = some r) : fk_Ct l G b0 yX2_in cX2_in 3 (some .boolean) 1 60 [tI a0, tI a1, tI a2] n m (some (tI r)) n m 0 0 := by
  refine fk_enter n_X2_in.1 rfl ?_
  intro E X0 Y
  have X : fk_X E l G b0 "FigureKneeModel" "in" cX2_in 3 1 60 0 0 := X0
  show fk_W E 3 n m 0 0 0 [(0, tI a0), (1, tI a1), (2, tI a2)] []
  unfold f_X2_in at hf
  refine fk_iload_n X 0 dX2_in_0 rfl ?_
  refine fk_iload_n X 1 dX2_in_1 rfl ?_
  have J1 : fk_W E 3 n m 0 0 15 [] [tI (if a0 < a1 then (0 : Int32) else (if a2 < a0 then (0 : Int32) else 1))] := by
    cases hf
    exact fk_ireturn X Y dX2_in_15 (by (repeat' split) <;> decide +kernel)
  refine fk_icmp_lt X 14 dX2_in_2 rfl (fun hc2 => ?_) (fun hc2 => ?_)
  · refine fk_iconst (v := 0) X dX2_in_14 rfl ?_
    simp only [if_pos hc2] at J1
    exact fk_cut' J1 [] rfl
  · refine fk_iload_n X 0 dX2_in_5 rfl ?_
    refine fk_iload_n X 2 dX2_in_6 rfl ?_
    have J3 : fk_W E 3 n m 0 0 15 [] [tI (if a2 < a0 then (0 : Int32) else 1)] := by
      simp only [if_neg hc2] at J1
      exact fk_cut' J1 [] rfl
    refine fk_icmp_gt X 14 dX2_in_7 rfl (fun hc4 => ?_) (fun hc4 => ?_)
    · refine fk_iconst (v := 0) X dX2_in_14 rfl ?_
      simp only [if_pos hc4] at J3
      exact fk_cut' J3 [] rfl
    · refine fk_iconst (v := 1) X dX2_in_10 rfl ?_
      refine fk_goto X 15 dX2_in_11 rfl ?_
      simp only [if_neg hc4] at J3
      exact fk_cut' J3 [] rfl
/-! FigureKneeModel no (I)I -/
theorem n_X2_no : fk_N yX2_no 1 := ⟨by decide +kernel, by decide +kernel, by decide +kernel, by decide +kernel⟩
def f_X2_no (a0 : Option Nat) (a1 : Int32) (m0 : fk_M) : Option (Int32 × fk_M) :=
  (pV m0 a0 1 11 (tI a1)).bind fun m1 => some ((-1), m1)
set_option maxHeartbeats 4000000 in
theorem c_X2_no {l : Launch} {G : fk_G} {b0 : Nat} {n : Nat} {a0 : Option Nat} {a1 : Int32} {m0 : fk_M} {r : Int32} {mF : fk_M} (hf : f_X2_no a0 a1 m0 = some (r, mF)) : fk_Ct l G b0 yX2_no cX2_no 2 (some .int) 1 60 [tR a0, tI a1] n m0 (some (tI r)) n mF 0 0 := by
  refine fk_enter n_X2_no.1 rfl ?_
  intro E X0 Y
  have X : fk_X E l G b0 "FigureKneeModel" "no" cX2_no 2 1 60 0 0 := X0
  show fk_W E 2 n m0 0 0 0 [(0, tR a0), (1, tI a1)] []
  unfold f_X2_no at hf
  refine fk_aload_n X 0 dX2_no_0 rfl ?_
  refine fk_iload_n X 1 dX2_no_1 rfl ?_
  refine fk_putI' X fd_1_11 q1537 dX2_no_2 (fit_I _) hf (fun m1 hf => ?_)
  refine fk_iconst (v := (-1)) X dX2_no_5 rfl ?_
  cases hf
  exact fk_ireturn X Y dX2_no_6 rfl
/-! FigureKneeModel see (I)I -/
theorem n_X2_see : fk_N yX2_see 1 := ⟨by decide +kernel, by decide +kernel, by decide +kernel, by decide +kernel⟩
def f_X2_see (a0 : Option Nat) (a1 : Int32) (m : fk_M) : Option Int32 :=
  (gI m a0 1 3).bind fun z1 => if z1 ≤ a1 then (some (-1)) else ((gR m a0 1 1).bind fun z2 => (aI m z2 0 a1).bind fun z3 => some z3)
set_option maxHeartbeats 4000000 in
theorem c_X2_see {l : Launch} {G : fk_G} {b0 : Nat} {n : Nat} {a0 : Option Nat} {a1 : Int32} {m : fk_M} {r : Int32} (hf : f_X2_see a0 a1 m = some r) : fk_Ct l G b0 yX2_see cX2_see 2 (some .int) 1 60 [tR a0, tI a1] n m (some (tI r)) n m 0 0 := by
  refine fk_enter n_X2_see.1 rfl ?_
  intro E X0 Y
  have X : fk_X E l G b0 "FigureKneeModel" "see" cX2_see 2 1 60 0 0 := X0
  show fk_W E 2 n m 0 0 0 [(0, tR a0), (1, tI a1)] []
  unfold f_X2_see at hf
  refine fk_iload_n X 1 dX2_see_0 rfl ?_
  refine fk_aload_n X 0 dX2_see_1 rfl ?_
  refine fk_getI' X fd_1_3 q1529 dX2_see_2 hf (fun z1 hf => ?_)
  refine fk_icmp_ge' X 17 dX2_see_5 rfl hf (fun hf => ?_) (fun hf => ?_)
  · refine fk_iconst (v := (-1)) X dX2_see_17 rfl ?_
    cases hf
    exact fk_ireturn X Y dX2_see_18 rfl
  · refine fk_aload_n X 0 dX2_see_8 rfl ?_
    refine fk_getR' X fd_1_1 q1527 dX2_see_9 hf (fun z2 hf => ?_)
    refine fk_iload_n X 1 dX2_see_12 rfl ?_
    refine fk_iaload' X dX2_see_13 hf (fun z3 hf => ?_)
    refine fk_goto X 18 dX2_see_14 rfl ?_
    cases hf
    exact fk_ireturn X Y dX2_see_18 rfl
/-! FigureKneeModel isSmall (I)Z -/
theorem n_X2_isSmall : fk_N yX2_isSmall 1 := ⟨by decide +kernel, by decide +kernel, by decide +kernel, by decide +kernel⟩
def f_X2_isSmall (a0 : Int32) (m : fk_M) : Option Int32 :=
  some (if a0 < 97 then (0 : Int32) else (if 122 < a0 then (0 : Int32) else 1))
set_option maxHeartbeats 4000000 in
theorem c_X2_isSmall {l : Launch} {G : fk_G} {b0 : Nat} {n : Nat} {a0 : Int32} {m : fk_M} {r : Int32} (hf : f_X2_isSmall a0 m = some r) : fk_Ct l G b0 yX2_isSmall cX2_isSmall 1 (some .boolean) 1 60 [tI a0] n m (some (tI r)) n m 0 0 := by
  refine fk_enter n_X2_isSmall.1 rfl ?_
  intro E X0 Y
  have X : fk_X E l G b0 "FigureKneeModel" "isSmall" cX2_isSmall 1 1 60 0 0 := X0
  show fk_W E 1 n m 0 0 0 [(0, tI a0)] []
  unfold f_X2_isSmall at hf
  refine fk_iload_n X 0 dX2_isSmall_0 rfl ?_
  refine fk_bipush (v := 97) X dX2_isSmall_1 rfl ?_
  have J1 : fk_W E 1 n m 0 0 17 [] [tI (if a0 < 97 then (0 : Int32) else (if 122 < a0 then (0 : Int32) else 1))] := by
    cases hf
    exact fk_ireturn X Y dX2_isSmall_17 (by (repeat' split) <;> decide +kernel)
  refine fk_icmp_lt X 16 dX2_isSmall_3 rfl (fun hc2 => ?_) (fun hc2 => ?_)
  · refine fk_iconst (v := 0) X dX2_isSmall_16 rfl ?_
    simp only [if_pos hc2] at J1
    exact fk_cut' J1 [] rfl
  · refine fk_iload_n X 0 dX2_isSmall_6 rfl ?_
    refine fk_bipush (v := 122) X dX2_isSmall_7 rfl ?_
    have J3 : fk_W E 1 n m 0 0 17 [] [tI (if 122 < a0 then (0 : Int32) else 1)] := by
      simp only [if_neg hc2] at J1
      exact fk_cut' J1 [] rfl
    refine fk_icmp_gt X 16 dX2_isSmall_9 rfl (fun hc4 => ?_) (fun hc4 => ?_)
    · refine fk_iconst (v := 0) X dX2_isSmall_16 rfl ?_
      simp only [if_pos hc4] at J3
      exact fk_cut' J3 [] rfl
    · refine fk_iconst (v := 1) X dX2_isSmall_12 rfl ?_
      refine fk_goto X 17 dX2_isSmall_13 rfl ?_
      simp only [if_neg hc4] at J3
      exact fk_cut' J3 [] rfl
/-! FigureKneeModel isDigit (I)Z -/
theorem n_X2_isDigit : fk_N yX2_isDigit 1 := ⟨by decide +kernel, by decide +kernel, by decide +kernel, by decide +kernel⟩
def f_X2_isDigit (a0 : Int32) (m : fk_M) : Option Int32 :=
  some (if a0 < 48 then (0 : Int32) else (if 57 < a0 then (0 : Int32) else 1))
set_option maxHeartbeats 4000000 in
theorem c_X2_isDigit {l : Launch} {G : fk_G} {b0 : Nat} {n : Nat} {a0 : Int32} {m : fk_M} {r : Int32} (hf : f_X2_isDigit a0 m = some r) : fk_Ct l G b0 yX2_isDigit cX2_isDigit 1 (some .boolean) 1 60 [tI a0] n m (some (tI r)) n m 0 0 := by
  refine fk_enter n_X2_isDigit.1 rfl ?_
  intro E X0 Y
  have X : fk_X E l G b0 "FigureKneeModel" "isDigit" cX2_isDigit 1 1 60 0 0 := X0
  show fk_W E 1 n m 0 0 0 [(0, tI a0)] []
  unfold f_X2_isDigit at hf
  refine fk_iload_n X 0 dX2_isDigit_0 rfl ?_
  refine fk_bipush (v := 48) X dX2_isDigit_1 rfl ?_
  have J1 : fk_W E 1 n m 0 0 17 [] [tI (if a0 < 48 then (0 : Int32) else (if 57 < a0 then (0 : Int32) else 1))] := by
    cases hf
    exact fk_ireturn X Y dX2_isDigit_17 (by (repeat' split) <;> decide +kernel)
  refine fk_icmp_lt X 16 dX2_isDigit_3 rfl (fun hc2 => ?_) (fun hc2 => ?_)
  · refine fk_iconst (v := 0) X dX2_isDigit_16 rfl ?_
    simp only [if_pos hc2] at J1
    exact fk_cut' J1 [] rfl
  · refine fk_iload_n X 0 dX2_isDigit_6 rfl ?_
    refine fk_bipush (v := 57) X dX2_isDigit_7 rfl ?_
    have J3 : fk_W E 1 n m 0 0 17 [] [tI (if 57 < a0 then (0 : Int32) else 1)] := by
      simp only [if_neg hc2] at J1
      exact fk_cut' J1 [] rfl
    refine fk_icmp_gt X 16 dX2_isDigit_9 rfl (fun hc4 => ?_) (fun hc4 => ?_)
    · refine fk_iconst (v := 0) X dX2_isDigit_16 rfl ?_
      simp only [if_pos hc4] at J3
      exact fk_cut' J3 [] rfl
    · refine fk_iconst (v := 1) X dX2_isDigit_12 rfl ?_
      refine fk_goto X 17 dX2_isDigit_13 rfl ?_
      simp only [if_neg hc4] at J3
      exact fk_cut' J3 [] rfl
/-! FigureKneeModel next ()V -/
theorem n_X2_next : fk_N yX2_next 0 := ⟨by decide +kernel, by decide +kernel, by decide +kernel, by decide +kernel⟩
def f_X2_next_J188 (R152 : Int32 → Int32 → fk_M → Option fk_M) (x0 : Option Nat) (x1 : Int32) (x3 : Int32) (m0 : fk_M) : Option fk_M :=
  R152 (x1 + 1) (x3 + 1) m0
set_option maxHeartbeats 4000000 in
theorem w_X2_next_J188 {E : fk_E} {l : Launch} {G : fk_G} {b0 n : Nat} {mF : fk_M} (X : fk_X E l G b0 "FigureKneeModel" "next" cX2_next 4 2 81 0 0) (Y : fk_Y E none none n mF 0 0) (x0 : Option Nat) (x1 : Int32) (x3 : Int32)  (m0 : fk_M) {R152 : Int32 → Int32 → fk_M → Option fk_M} (hR152 : ∀ (v1 : Int32) (v3 : Int32) (m9 : fk_M), R152 v1 v3 m9 = some mF → fk_W E 4 n m9 0 0 152 [(0, tR x0), (1, tI v1), (3, tI v3)] []) (hf : f_X2_next_J188 R152 x0 x1 x3 m0 = some mF) : fk_W E 4 n m0 0 0 188 [(0, tR x0), (1, tI x1), (3, tI x3)] [] := by
  unfold f_X2_next_J188 at hf
  refine fk_iinc X 2 [(3, tI (x3 + 1)), (0, tR x0), (1, tI x1)] dX2_next_188 rfl rfl rfl rfl ?_
  refine fk_iinc X 2 [(1, tI (x1 + 1)), (3, tI (x3 + 1)), (0, tR x0)] dX2_next_191 rfl rfl rfl rfl ?_
  refine fk_goto X 152 dX2_next_194 rfl ?_
  exact fk_cut' (hR152 (x1 + 1) (x3 + 1) m0  hf) [2, 0, 1] rfl
def f_X2_next_L152 (x0 : Option Nat) : Nat → Int32 → Int32 → fk_M → Option fk_M
  | 0, _, _, _ => none
  | N + 1, x1, x3, m0 =>
  (isO m0 x0 1).bind fun u1 => (f_X2_see x0 x1 m0).bind fun z2 => (f_X2_isDigit z2 m0).bind fun z3 => if z3 = 0 then ((pV m0 x0 1 5 (tI x1)).bind fun m4 => (pV m4 x0 1 6 (tI (if x3 ≤ 3 then (3 : Int32) else 1))).bind fun m5 => some m5) else (if 3 ≤ x3 then (f_X2_next_J188 (f_X2_next_L152 x0 N) x0 x1 x3 m0) else ((gI m0 x0 1 7).bind fun z6 => (isO m0 x0 1).bind fun u7 => (f_X2_see x0 x1 m0).bind fun z8 => (pV m0 x0 1 7 (tI (((10 * z6) + z8) - 48))).bind fun m9 => f_X2_next_J188 (f_X2_next_L152 x0 N) x0 x1 x3 m9))
set_option maxHeartbeats 4000000 in
theorem w_X2_next_L152 {E : fk_E} {l : Launch} {G : fk_G} {b0 n : Nat} {mF : fk_M} (X : fk_X E l G b0 "FigureKneeModel" "next" cX2_next 4 2 81 0 0) (Y : fk_Y E none none n mF 0 0) (x0 : Option Nat) : ∀ (N : Nat) (x1 : Int32) (x3 : Int32) (m0 : fk_M), f_X2_next_L152 x0 N x1 x3 m0 = some mF → fk_W E 4 n m0 0 0 152 [(0, tR x0), (1, tI x1), (3, tI x3)] [] := by
  intro N
  induction N with
  | zero =>
    intro x1 x3 m0 hf
    have hf : (none : Option fk_M) = some _ := hf
    cases hf
  | succ N ih =>
    intro x1 x3 m0 hf
    rw [f_X2_next_L152] at hf
    refine fk_aload_n X 0 dX2_next_152 rfl ?_
    refine fk_iload_n X 1 dX2_next_153 rfl ?_
    obtain ⟨u1, hq, hf⟩ := bI hf
    obtain ⟨z2, hv, hf⟩ := bI hf
    refine fk_callV0I (ci := 1) (rest := []) X hq rfl (c_X2_see hv) n_X2_see q1680 q1682 qs66 q126 q1683 rfl dX2_next_154 rfl rfl rfl rfl rfl (Nat.le_refl _) (Nat.le_refl _) ?_
    obtain ⟨z3, hv, hf⟩ := bI hf
    refine fk_callS0I (rest := []) X (c_X2_isDigit hv) n_X2_isDigit q1687 q1688 q126 q1689 dX2_next_157 rfl rfl rfl rfl rfl (Nat.le_refl _) (Nat.le_refl _) ?_
    refine fk_if_eq' X 197 dX2_next_160 rfl hf (fun hf => ?_) (fun hf => ?_)
    · refine fk_aload_n X 0 dX2_next_197 rfl ?_
      refine fk_iload_n X 1 dX2_next_198 rfl ?_
      refine fk_putI' X fd_1_5 q1531 dX2_next_199 (fit_I _) hf (fun m4 hf => ?_)
      refine fk_aload_n X 0 dX2_next_202 rfl ?_
      refine fk_iload_n X 2 dX2_next_203 rfl ?_
      refine fk_iconst (v := 3) X dX2_next_204 rfl ?_
      have J1 : fk_W E 4 n m4 0 0 213 [] [tI (if x3 ≤ 3 then (3 : Int32) else 1), tR x0] := by
        refine fk_putI' X fd_1_6 q1532 dX2_next_213 (fit_I _) hf (fun m5 hf => ?_)
        refine fk_goto X 241 dX2_next_216 rfl ?_
        cases hf
        exact fk_return X Y dX2_next_241
      refine fk_icmp_le X 212 dX2_next_205 rfl (fun hc2 => ?_) (fun hc2 => ?_)
      · refine fk_iconst (v := 3) X dX2_next_212 rfl ?_
        simp only [if_pos hc2] at J1
        exact fk_cut' J1 [] rfl
      · refine fk_iconst (v := 1) X dX2_next_208 rfl ?_
        refine fk_goto X 213 dX2_next_209 rfl ?_
        simp only [if_neg hc2] at J1
        exact fk_cut' J1 [] rfl
    · refine fk_iload_n X 2 dX2_next_163 rfl ?_
      refine fk_iconst (v := 3) X dX2_next_164 rfl ?_
      refine fk_icmp_ge' X 188 dX2_next_165 rfl hf (fun hf => ?_) (fun hf => ?_)
      · exact fk_cut' (w_X2_next_J188 X Y x0 x1 x3 m0 ih hf) [0, 1, 2] rfl
      · refine fk_aload_n X 0 dX2_next_168 rfl ?_
        refine fk_bipush (v := 10) X dX2_next_169 rfl ?_
        refine fk_aload_n X 0 dX2_next_171 rfl ?_
        refine fk_getI' X fd_1_7 q1533 dX2_next_172 hf (fun z6 hf => ?_)
        refine fk_imul X dX2_next_175 ?_
        refine fk_aload_n X 0 dX2_next_176 rfl ?_
        refine fk_iload_n X 1 dX2_next_177 rfl ?_
        obtain ⟨u7, hq, hf⟩ := bI hf
        obtain ⟨z8, hv, hf⟩ := bI hf
        refine fk_callV0I (ci := 1) (rest := [tI (10 * z6), tR x0]) X hq rfl (c_X2_see hv) n_X2_see q1680 q1682 qs66 q126 q1683 rfl dX2_next_178 rfl rfl rfl rfl rfl (Nat.le_refl _) (Nat.le_refl _) ?_
        refine fk_iadd X dX2_next_181 ?_
        refine fk_bipush (v := 48) X dX2_next_182 rfl ?_
        refine fk_isub X dX2_next_184 ?_
        refine fk_putI' X fd_1_7 q1533 dX2_next_185 (fit_I _) hf (fun m9 hf => ?_)
        exact fk_cut' (w_X2_next_J188 X Y x0 x1 x3 m9 ih hf) [0, 1, 2] rfl
def f_X2_next_J101 (R67 : Int32 → fk_M → Option fk_M) (x0 : Option Nat) (x1 : Int32) (m0 : fk_M) : Option fk_M :=
  (gI m0 x0 1 8).bind fun z1 => (pV m0 x0 1 8 (tI (z1 + 1))).bind fun m2 => R67 (x1 + 1) m2
set_option maxHeartbeats 4000000 in
theorem w_X2_next_J101 {E : fk_E} {l : Launch} {G : fk_G} {b0 n : Nat} {mF : fk_M} (X : fk_X E l G b0 "FigureKneeModel" "next" cX2_next 4 2 81 0 0) (Y : fk_Y E none none n mF 0 0) (x0 : Option Nat) (x1 : Int32)  (m0 : fk_M) {R67 : Int32 → fk_M → Option fk_M} (hR67 : ∀ (v1 : Int32) (m9 : fk_M), R67 v1 m9 = some mF → fk_W E 4 n m9 0 0 67 [(0, tR x0), (1, tI v1)] []) (hf : f_X2_next_J101 R67 x0 x1 m0 = some mF) : fk_W E 4 n m0 0 0 101 [(0, tR x0), (1, tI x1)] [] := by
  unfold f_X2_next_J101 at hf
  refine fk_aload_n X 0 dX2_next_101 rfl ?_
  refine fk_dup X dX2_next_102 rfl ?_
  refine fk_getI' X fd_1_8 q1534 dX2_next_103 hf (fun z1 hf => ?_)
  refine fk_iconst (v := 1) X dX2_next_106 rfl ?_
  refine fk_iadd X dX2_next_107 ?_
  refine fk_putI' X fd_1_8 q1534 dX2_next_108 (fit_I _) hf (fun m2 hf => ?_)
  refine fk_iinc X 1 [(1, tI (x1 + 1)), (0, tR x0)] dX2_next_111 rfl rfl rfl rfl ?_
  refine fk_goto X 67 dX2_next_114 rfl ?_
  exact fk_cut' (hR67 (x1 + 1) m2  hf) [1, 0] rfl
def f_X2_next_L67 (x0 : Option Nat) : Nat → Int32 → fk_M → Option fk_M
  | 0, _, _ => none
  | N + 1, x1, m0 =>
  (isO m0 x0 1).bind fun u1 => (f_X2_see x0 x1 m0).bind fun z2 => (f_X2_isSmall z2 m0).bind fun z3 => if z3 = 0 then ((pV m0 x0 1 5 (tI x1)).bind fun m4 => (gI m4 x0 1 8).bind fun z5 => (pV m4 x0 1 6 (tI (if z5 ≤ 8 then (2 : Int32) else 1))).bind fun m6 => some m6) else ((gI m0 x0 1 8).bind fun z7 => if 8 ≤ z7 then (f_X2_next_J101 (f_X2_next_L67 x0 N) x0 x1 m0) else ((gR m0 x0 1 12).bind fun z8 => (gI m0 x0 1 8).bind fun z9 => (isO m0 x0 1).bind fun u10 => (f_X2_see x0 x1 m0).bind fun z11 => (sI m0 z8 0 z9 z11).bind fun m12 => f_X2_next_J101 (f_X2_next_L67 x0 N) x0 x1 m12))
set_option maxHeartbeats 4000000 in
theorem w_X2_next_L67 {E : fk_E} {l : Launch} {G : fk_G} {b0 n : Nat} {mF : fk_M} (X : fk_X E l G b0 "FigureKneeModel" "next" cX2_next 4 2 81 0 0) (Y : fk_Y E none none n mF 0 0) (x0 : Option Nat) : ∀ (N : Nat) (x1 : Int32) (m0 : fk_M), f_X2_next_L67 x0 N x1 m0 = some mF → fk_W E 4 n m0 0 0 67 [(0, tR x0), (1, tI x1)] [] := by
  intro N
  induction N with
  | zero =>
    intro x1 m0 hf
    have hf : (none : Option fk_M) = some _ := hf
    cases hf
  | succ N ih =>
    intro x1 m0 hf
    rw [f_X2_next_L67] at hf
    refine fk_aload_n X 0 dX2_next_67 rfl ?_
    refine fk_iload_n X 1 dX2_next_68 rfl ?_
    obtain ⟨u1, hq, hf⟩ := bI hf
    obtain ⟨z2, hv, hf⟩ := bI hf
    refine fk_callV0I (ci := 1) (rest := []) X hq rfl (c_X2_see hv) n_X2_see q1680 q1682 qs66 q126 q1683 rfl dX2_next_69 rfl rfl rfl rfl rfl (Nat.le_refl _) (Nat.le_refl _) ?_
    obtain ⟨z3, hv, hf⟩ := bI hf
    refine fk_callS0I (rest := []) X (c_X2_isSmall hv) n_X2_isSmall q1684 q1685 q126 q1686 dX2_next_72 rfl rfl rfl rfl rfl (Nat.le_refl _) (Nat.le_refl _) ?_
    refine fk_if_eq' X 117 dX2_next_75 rfl hf (fun hf => ?_) (fun hf => ?_)
    · refine fk_aload_n X 0 dX2_next_117 rfl ?_
      refine fk_iload_n X 1 dX2_next_118 rfl ?_
      refine fk_putI' X fd_1_5 q1531 dX2_next_119 (fit_I _) hf (fun m4 hf => ?_)
      refine fk_aload_n X 0 dX2_next_122 rfl ?_
      refine fk_aload_n X 0 dX2_next_123 rfl ?_
      refine fk_getI' X fd_1_8 q1534 dX2_next_124 hf (fun z5 hf => ?_)
      refine fk_bipush (v := 8) X dX2_next_127 rfl ?_
      have J1 : fk_W E 4 n m4 0 0 137 [] [tI (if z5 ≤ 8 then (2 : Int32) else 1), tR x0] := by
        refine fk_putI' X fd_1_6 q1532 dX2_next_137 (fit_I _) hf (fun m6 hf => ?_)
        refine fk_goto X 241 dX2_next_140 rfl ?_
        cases hf
        exact fk_return X Y dX2_next_241
      refine fk_icmp_le X 136 dX2_next_129 rfl (fun hc2 => ?_) (fun hc2 => ?_)
      · refine fk_iconst (v := 2) X dX2_next_136 rfl ?_
        simp only [if_pos hc2] at J1
        exact fk_cut' J1 [] rfl
      · refine fk_iconst (v := 1) X dX2_next_132 rfl ?_
        refine fk_goto X 137 dX2_next_133 rfl ?_
        simp only [if_neg hc2] at J1
        exact fk_cut' J1 [] rfl
    · refine fk_aload_n X 0 dX2_next_78 rfl ?_
      refine fk_getI' X fd_1_8 q1534 dX2_next_79 hf (fun z7 hf => ?_)
      refine fk_bipush (v := 8) X dX2_next_82 rfl ?_
      refine fk_icmp_ge' X 101 dX2_next_84 rfl hf (fun hf => ?_) (fun hf => ?_)
      · exact fk_cut' (w_X2_next_J101 X Y x0 x1 m0 ih hf) [0, 1] rfl
      · refine fk_aload_n X 0 dX2_next_87 rfl ?_
        refine fk_getR' X fd_1_12 q1538 dX2_next_88 hf (fun z8 hf => ?_)
        refine fk_aload_n X 0 dX2_next_91 rfl ?_
        refine fk_getI' X fd_1_8 q1534 dX2_next_92 hf (fun z9 hf => ?_)
        refine fk_aload_n X 0 dX2_next_95 rfl ?_
        refine fk_iload_n X 1 dX2_next_96 rfl ?_
        obtain ⟨u10, hq, hf⟩ := bI hf
        obtain ⟨z11, hv, hf⟩ := bI hf
        refine fk_callV0I (ci := 1) (rest := [tI z9, tR z8]) X hq rfl (c_X2_see hv) n_X2_see q1680 q1682 qs66 q126 q1683 rfl dX2_next_97 rfl rfl rfl rfl rfl (Nat.le_refl _) (Nat.le_refl _) ?_
        refine fk_iastore' X dX2_next_100 hf (fun m12 hf => ?_)
        exact fk_cut' (w_X2_next_J101 X Y x0 x1 m12 ih hf) [0, 1] rfl
def f_X2_next_L5 (x0 : Option Nat) (m0 : fk_M) : Nat → Int32 → Option fk_M
  | 0, _ => none
  | N + 1, x1 =>
  (isO m0 x0 1).bind fun u1 => (f_X2_see x0 x1 m0).bind fun z2 => if z2 = 32 then (f_X2_next_L5 x0 m0 N (x1 + 1)) else ((pV m0 x0 1 4 (tI x1)).bind fun m3 => (isO m3 x0 1).bind fun u4 => (f_X2_see x0 x1 m3).bind fun z5 => (pV m3 x0 1 8 (tI 0)).bind fun m6 => (pV m6 x0 1 7 (tI 0)).bind fun m7 => if z5 = (-1) then ((pV m7 x0 1 6 (tI 0)).bind fun m8 => (pV m8 x0 1 5 (tI x1)).bind fun m9 => some m9) else ((f_X2_isSmall z5 m7).bind fun z10 => if z10 = 0 then ((f_X2_isDigit z5 m7).bind fun z11 => if z11 = 0 then ((pV m7 x0 1 5 (tI (x1 + 1))).bind fun m12 => (pV m12 x0 1 6 (tI (if z5 = 59 then z5 else 1))).bind fun m13 => some m13) else (f_X2_next_L152 x0 fk_fuel x1 0 m7)) else (f_X2_next_L67 x0 fk_fuel x1 m7)))
set_option maxHeartbeats 4000000 in
theorem w_X2_next_L5 {E : fk_E} {l : Launch} {G : fk_G} {b0 n : Nat} {mF : fk_M} (X : fk_X E l G b0 "FigureKneeModel" "next" cX2_next 4 2 81 0 0) (Y : fk_Y E none none n mF 0 0) (x0 : Option Nat) (m0 : fk_M) : ∀ (N : Nat) (x1 : Int32), f_X2_next_L5 x0 m0 N x1 = some mF → fk_W E 4 n m0 0 0 5 [(0, tR x0), (1, tI x1)] [] := by
  intro N
  induction N with
  | zero =>
    intro x1 hf
    have hf : (none : Option fk_M) = some _ := hf
    cases hf
  | succ N ih =>
    intro x1 hf
    rw [f_X2_next_L5] at hf
    refine fk_aload_n X 0 dX2_next_5 rfl ?_
    refine fk_iload_n X 1 dX2_next_6 rfl ?_
    obtain ⟨u1, hq, hf⟩ := bI hf
    obtain ⟨z2, hv, hf⟩ := bI hf
    refine fk_callV0I (ci := 1) (rest := []) X hq rfl (c_X2_see hv) n_X2_see q1680 q1682 qs66 q126 q1683 rfl dX2_next_7 rfl rfl rfl rfl rfl (Nat.le_refl _) (Nat.le_refl _) ?_
    refine fk_bipush (v := 32) X dX2_next_10 rfl ?_
    refine fk_icmp_ne' X 21 dX2_next_12 rfl hf (fun hf => ?_) (fun hf => ?_)
    · refine fk_aload_n X 0 dX2_next_21 rfl ?_
      refine fk_iload_n X 1 dX2_next_22 rfl ?_
      refine fk_putI' X fd_1_4 q1530 dX2_next_23 (fit_I _) hf (fun m3 hf => ?_)
      refine fk_aload_n X 0 dX2_next_26 rfl ?_
      refine fk_iload_n X 1 dX2_next_27 rfl ?_
      obtain ⟨u4, hq, hf⟩ := bI hf
      obtain ⟨z5, hv, hf⟩ := bI hf
      refine fk_callV0I (ci := 1) (rest := []) X hq rfl (c_X2_see hv) n_X2_see q1680 q1682 qs66 q126 q1683 rfl dX2_next_28 rfl rfl rfl rfl rfl (Nat.le_refl _) (Nat.le_refl _) ?_
      refine fk_istore_n X [(2, tI z5), (0, tR x0), (1, tI x1)] dX2_next_31 rfl rfl ?_
      refine fk_aload_n X 1 dX2_next_32 rfl ?_
      refine fk_iconst (v := 0) X dX2_next_33 rfl ?_
      refine fk_putI' X fd_1_8 q1534 dX2_next_34 (fit_I _) hf (fun m6 hf => ?_)
      refine fk_aload_n X 1 dX2_next_37 rfl ?_
      refine fk_iconst (v := 0) X dX2_next_38 rfl ?_
      refine fk_putI' X fd_1_7 q1533 dX2_next_39 (fit_I _) hf (fun m7 hf => ?_)
      refine fk_iload_n X 0 dX2_next_42 rfl ?_
      refine fk_iconst (v := (-1)) X dX2_next_43 rfl ?_
      refine fk_icmp_ne' X 60 dX2_next_44 rfl hf (fun hf => ?_) (fun hf => ?_)
      · refine fk_iload_n X 0 dX2_next_60 rfl ?_
        obtain ⟨z10, hv, hf⟩ := bI hf
        refine fk_callS0I (rest := []) X (c_X2_isSmall hv) n_X2_isSmall q1684 q1685 q126 q1686 dX2_next_61 rfl rfl rfl rfl rfl (Nat.le_refl _) (Nat.le_refl _) ?_
        refine fk_if_eq' X 143 dX2_next_64 rfl hf (fun hf => ?_) (fun hf => ?_)
        · refine fk_iload_n X 0 dX2_next_143 rfl ?_
          obtain ⟨z11, hv, hf⟩ := bI hf
          refine fk_callS0I (rest := []) X (c_X2_isDigit hv) n_X2_isDigit q1687 q1688 q126 q1689 dX2_next_144 rfl rfl rfl rfl rfl (Nat.le_refl _) (Nat.le_refl _) ?_
          refine fk_if_eq' X 219 dX2_next_147 rfl hf (fun hf => ?_) (fun hf => ?_)
          · refine fk_aload_n X 1 dX2_next_219 rfl ?_
            refine fk_iload_n X 2 dX2_next_220 rfl ?_
            refine fk_iconst (v := 1) X dX2_next_221 rfl ?_
            refine fk_iadd X dX2_next_222 ?_
            refine fk_putI' X fd_1_5 q1531 dX2_next_223 (fit_I _) hf (fun m12 hf => ?_)
            refine fk_aload_n X 1 dX2_next_226 rfl ?_
            refine fk_iload_n X 0 dX2_next_227 rfl ?_
            refine fk_bipush (v := 59) X dX2_next_228 rfl ?_
            have J1 : fk_W E 4 n m12 0 0 238 [] [tI (if z5 = 59 then z5 else 1), tR x0] := by
              refine fk_putI' X fd_1_6 q1532 dX2_next_238 (fit_I _) hf (fun m13 hf => ?_)
              cases hf
              exact fk_return X Y dX2_next_241
            refine fk_icmp_ne X 237 dX2_next_230 rfl (fun hc2 => ?_) (fun hc2 => ?_)
            · refine fk_iconst (v := 1) X dX2_next_237 rfl ?_
              simp only [if_neg hc2] at J1
              exact fk_cut' J1 [] rfl
            · refine fk_iload_n X 0 dX2_next_233 rfl ?_
              refine fk_goto X 238 dX2_next_234 rfl ?_
              simp only [if_pos hc2] at J1
              exact fk_cut' J1 [] rfl
          · refine fk_iconst (v := 0) X dX2_next_150 rfl ?_
            refine fk_istore_n X [(3, tI 0), (2, tI z5), (0, tR x0), (1, tI x1)] dX2_next_151 rfl rfl ?_
            exact fk_cut' (w_X2_next_L152 X Y x0 fk_fuel x1 0 m7 hf) [2, 3, 0] rfl
        · exact fk_cut' (w_X2_next_L67 X Y x0 fk_fuel x1 m7 hf) [1, 2] rfl
      · refine fk_aload_n X 1 dX2_next_47 rfl ?_
        refine fk_iconst (v := 0) X dX2_next_48 rfl ?_
        refine fk_putI' X fd_1_6 q1532 dX2_next_49 (fit_I _) hf (fun m8 hf => ?_)
        refine fk_aload_n X 1 dX2_next_52 rfl ?_
        refine fk_iload_n X 2 dX2_next_53 rfl ?_
        refine fk_putI' X fd_1_5 q1531 dX2_next_54 (fit_I _) hf (fun m9 hf => ?_)
        refine fk_goto X 241 dX2_next_57 rfl ?_
        cases hf
        exact fk_return X Y dX2_next_241
    · refine fk_iinc X 1 [(1, tI (x1 + 1)), (0, tR x0)] dX2_next_15 rfl rfl rfl rfl ?_
      refine fk_goto X 5 dX2_next_18 rfl ?_
      exact fk_cut' (ih (x1 + 1)  hf) [1, 0] rfl
def f_X2_next (a0 : Option Nat) (m0 : fk_M) : Option fk_M :=
  (gI m0 a0 1 5).bind fun z1 => f_X2_next_L5 a0 m0 fk_fuel z1
set_option maxHeartbeats 4000000 in
theorem c_X2_next {l : Launch} {G : fk_G} {b0 : Nat} {n : Nat} {a0 : Option Nat} {m0 : fk_M} {mF : fk_M} (hf : f_X2_next a0 m0 = some mF) : fk_Ct l G b0 yX2_next cX2_next 4 none 2 81 [tR a0] n m0 none n mF 0 0 := by
  refine fk_enter n_X2_next.1 rfl ?_
  intro E X0 Y
  have X : fk_X E l G b0 "FigureKneeModel" "next" cX2_next 4 2 81 0 0 := X0
  show fk_W E 4 n m0 0 0 0 [(0, tR a0)] []
  unfold f_X2_next at hf
  refine fk_aload_n X 0 dX2_next_0 rfl ?_
  refine fk_getI' X fd_1_5 q1531 dX2_next_1 hf (fun z1 hf => ?_)
  refine fk_istore_n X [(1, tI z1), (0, tR a0)] dX2_next_4 rfl rfl ?_
  exact fk_cut' (w_X2_next_L5 X Y a0 m0 fk_fuel z1 hf) [1, 0] rfl
/-! FigureKneeModel isWord (Ljava/lang/String;)Z -/
theorem n_X2_isWord : fk_N yX2_isWord 1 := ⟨by decide +kernel, by decide +kernel, by decide +kernel, by decide +kernel⟩
def f_X2_isWord_J63 (g : Nat → Nat) (R32 : Int32 → Int32 → Option Int32) (x0 : Option Nat) (x1 : Option Nat) (x3 : Int32) (y0 : Int32) (m : fk_M) : Option Int32 :=
  R32 y0 (x3 + 1)
set_option maxHeartbeats 4000000 in
theorem w_X2_isWord_J63 {E : fk_E} {l : Launch} {G : fk_G} {b0 n : Nat} {m : fk_M} {r : Int32} (X : fk_X E l G b0 "FigureKneeModel" "isWord" cX2_isWord 4 5 145 0 0) (Y : fk_Y E (some .boolean) (some (tI r)) n m 0 0) (x0 : Option Nat) (x1 : Option Nat) (x3 : Int32) (y0 : Int32) {R32 : Int32 → Int32 → Option Int32} (hR32 : ∀ (v2 : Int32) (v3 : Int32), R32 v2 v3 = some r → fk_W E 4 n m 0 0 32 [(0, tR x0), (1, tR x1), (2, tI v2), (3, tI v3)] []) (hf : f_X2_isWord_J63 G.2.2 R32 x0 x1 x3 y0 m = some r) : fk_W E 4 n m 0 0 63 [(0, tR x0), (1, tR x1), (3, tI x3)] [tI y0] := by
  unfold f_X2_isWord_J63 at hf
  refine fk_istore_n X [(2, tI y0), (0, tR x0), (1, tR x1), (3, tI x3)] dX2_isWord_63 rfl rfl ?_
  refine fk_iinc X 3 [(3, tI (x3 + 1)), (2, tI y0), (0, tR x0), (1, tR x1)] dX2_isWord_64 rfl rfl rfl rfl ?_
  refine fk_goto X 32 dX2_isWord_67 rfl ?_
  exact fk_cut' (hR32 y0 (x3 + 1)  hf) [2, 3, 1, 0] rfl
def f_X2_isWord_J62 (g : Nat → Nat) (R32 : Int32 → Int32 → Option Int32) (x0 : Option Nat) (x1 : Option Nat) (x3 : Int32) (m : fk_M) : Option Int32 :=
  f_X2_isWord_J63 g R32 x0 x1 x3 0 m
set_option maxHeartbeats 4000000 in
theorem w_X2_isWord_J62 {E : fk_E} {l : Launch} {G : fk_G} {b0 n : Nat} {m : fk_M} {r : Int32} (X : fk_X E l G b0 "FigureKneeModel" "isWord" cX2_isWord 4 5 145 0 0) (Y : fk_Y E (some .boolean) (some (tI r)) n m 0 0) (x0 : Option Nat) (x1 : Option Nat) (x3 : Int32)  {R32 : Int32 → Int32 → Option Int32} (hR32 : ∀ (v2 : Int32) (v3 : Int32), R32 v2 v3 = some r → fk_W E 4 n m 0 0 32 [(0, tR x0), (1, tR x1), (2, tI v2), (3, tI v3)] []) (hf : f_X2_isWord_J62 G.2.2 R32 x0 x1 x3 m = some r) : fk_W E 4 n m 0 0 62 [(0, tR x0), (1, tR x1), (3, tI x3)] [] := by
  unfold f_X2_isWord_J62 at hf
  refine fk_iconst (v := 0) X dX2_isWord_62 rfl ?_
  exact fk_cut' (w_X2_isWord_J63 X Y x0 x1 x3 0 hR32 hf) [0, 1, 2] rfl
def f_X2_isWord_L32 (g : Nat → Nat) (x0 : Option Nat) (x1 : Option Nat) (m : fk_M) : Nat → Int32 → Int32 → Option Int32
  | 0, _, _ => none
  | N + 1, x2, x3 =>
  (gI m x0 1 8).bind fun z1 => if z1 ≤ x3 then (if x2 = 0 ∨ x2 = 1 then (some x2) else none) else (if x2 = 0 then (f_X2_isWord_J62 g (f_X2_isWord_L32 g x0 x1 m N) x0 x1 x3 m) else ((gR m x0 1 12).bind fun z2 => (aI m z2 0 x3).bind fun z3 => (isO m x1 16).bind fun u4 => (f_J5_charAt g x1 x3 m).bind fun z5 => f_X2_isWord_L32 g x0 x1 m N (if z3 = z5 then (1 : Int32) else 0) (x3 + 1)))
set_option maxHeartbeats 4000000 in
theorem w_X2_isWord_L32 {E : fk_E} {l : Launch} {G : fk_G} {b0 n : Nat} {m : fk_M} {r : Int32} (X : fk_X E l G b0 "FigureKneeModel" "isWord" cX2_isWord 4 5 145 0 0) (Y : fk_Y E (some .boolean) (some (tI r)) n m 0 0) (x0 : Option Nat) (x1 : Option Nat) : ∀ (N : Nat) (x2 : Int32) (x3 : Int32), f_X2_isWord_L32 G.2.2 x0 x1 m N x2 x3 = some r → fk_W E 4 n m 0 0 32 [(0, tR x0), (1, tR x1), (2, tI x2), (3, tI x3)] [] := by
  intro N
  induction N with
  | zero =>
    intro x2 x3 hf
    have hf : (none : Option Int32) = some _ := hf
    cases hf
  | succ N ih =>
    intro x2 x3 hf
    rw [f_X2_isWord_L32] at hf
    refine fk_iload_n X 3 dX2_isWord_32 rfl ?_
    refine fk_aload_n X 0 dX2_isWord_33 rfl ?_
    refine fk_getI' X fd_1_8 q1534 dX2_isWord_34 hf (fun z1 hf => ?_)
    refine fk_icmp_ge' X 70 dX2_isWord_37 rfl hf (fun hf => ?_) (fun hf => ?_)
    · refine fk_iload_n X 2 dX2_isWord_70 rfl ?_
      by_cases hz : x2 = 0 ∨ x2 = 1
      · rw [if_pos hz] at hf
        cases hf
        exact fk_ireturn X Y dX2_isWord_71 (fit_Z hz).1
      · rw [if_neg hz] at hf
        cases hf
    · refine fk_iload_n X 2 dX2_isWord_40 rfl ?_
      refine fk_if_eq' X 62 dX2_isWord_41 rfl hf (fun hf => ?_) (fun hf => ?_)
      · exact fk_cut' (w_X2_isWord_J62 X Y x0 x1 x3 ih hf) [0, 1, 3] rfl
      · refine fk_aload_n X 0 dX2_isWord_44 rfl ?_
        refine fk_getR' X fd_1_12 q1538 dX2_isWord_45 hf (fun z2 hf => ?_)
        refine fk_iload_n X 3 dX2_isWord_48 rfl ?_
        refine fk_iaload' X dX2_isWord_49 hf (fun z3 hf => ?_)
        refine fk_aload_n X 1 dX2_isWord_50 rfl ?_
        refine fk_iload_n X 3 dX2_isWord_51 rfl ?_
        obtain ⟨u4, hq, hf⟩ := bI hf
        obtain ⟨z5, hv, hf⟩ := bI hf
        refine fk_callV0I (ci := 16) (rest := [tI z3]) X hq rfl (c_J5_charAt hv) n_J5_charAt q1707 q1708 q1709 q133 q1710 rfl dX2_isWord_52 rfl rfl rfl rfl rfl (Nat.le_refl _) (Nat.le_refl _) ?_
        have J1 : fk_W E 4 n m 0 0 63 [(0, tR x0), (1, tR x1), (3, tI x3)] [tI (if z3 = z5 then (1 : Int32) else 0)] := by
          refine fk_istore_n X [(2, tI (if z3 = z5 then (1 : Int32) else 0)), (0, tR x0), (1, tR x1), (3, tI x3)] dX2_isWord_63 rfl rfl ?_
          refine fk_iinc X 3 [(3, tI (x3 + 1)), (2, tI (if z3 = z5 then (1 : Int32) else 0)), (0, tR x0), (1, tR x1)] dX2_isWord_64 rfl rfl rfl rfl ?_
          refine fk_goto X 32 dX2_isWord_67 rfl ?_
          exact fk_cut' (ih (if z3 = z5 then (1 : Int32) else 0) (x3 + 1)  hf) [2, 3, 1, 0] rfl
        refine fk_icmp_ne X 62 dX2_isWord_55 rfl (fun hc2 => ?_) (fun hc2 => ?_)
        · refine fk_iconst (v := 0) X dX2_isWord_62 rfl ?_
          simp only [if_neg hc2] at J1
          exact fk_cut' J1 [0, 1, 3] rfl
        · refine fk_iconst (v := 1) X dX2_isWord_58 rfl ?_
          refine fk_goto X 63 dX2_isWord_59 rfl ?_
          simp only [if_pos hc2] at J1
          exact fk_cut' J1 [0, 1, 3] rfl
def f_X2_isWord (g : Nat → Nat) (a0 : Option Nat) (a1 : Option Nat) (m : fk_M) : Option Int32 :=
  (gI m a0 1 13).bind fun z1 => if z1 = 0 then ((gI m a0 1 6).bind fun z2 => if z2 = 2 then ((gI m a0 1 8).bind fun z3 => (isO m a1 16).bind fun u4 => (f_J5_length a1 m).bind fun z5 => if z3 = z5 then (f_X2_isWord_L32 g a0 a1 m fk_fuel 1 0) else (some 0)) else (some 0)) else (some 0)
set_option maxHeartbeats 4000000 in
theorem c_X2_isWord {l : Launch} {G : fk_G} {b0 : Nat} {n : Nat} {a0 : Option Nat} {a1 : Option Nat} {m : fk_M} {r : Int32} (hf : f_X2_isWord G.2.2 a0 a1 m = some r) : fk_Ct l G b0 yX2_isWord cX2_isWord 4 (some .boolean) 5 145 [tR a0, tR a1] n m (some (tI r)) n m 0 0 := by
  refine fk_enter n_X2_isWord.1 rfl ?_
  intro E X0 Y
  have X : fk_X E l G b0 "FigureKneeModel" "isWord" cX2_isWord 4 5 145 0 0 := X0
  show fk_W E 4 n m 0 0 0 [(0, tR a0), (1, tR a1)] []
  unfold f_X2_isWord at hf
  refine fk_aload_n X 0 dX2_isWord_0 rfl ?_
  refine fk_getI' X fd_1_13 q1539 dX2_isWord_1 hf (fun z1 hf => ?_)
  refine fk_if_ne' X 26 dX2_isWord_4 rfl hf (fun hf => ?_) (fun hf => ?_)
  · refine fk_iconst (v := 0) X dX2_isWord_26 rfl ?_
    cases hf
    exact fk_ireturn X Y dX2_isWord_27 (by decide +kernel)
  · refine fk_aload_n X 0 dX2_isWord_7 rfl ?_
    refine fk_getI' X fd_1_6 q1532 dX2_isWord_8 hf (fun z2 hf => ?_)
    refine fk_iconst (v := 2) X dX2_isWord_11 rfl ?_
    refine fk_icmp_ne' X 26 dX2_isWord_12 rfl hf (fun hf => ?_) (fun hf => ?_)
    · refine fk_iconst (v := 0) X dX2_isWord_26 rfl ?_
      cases hf
      exact fk_ireturn X Y dX2_isWord_27 (by decide +kernel)
    · refine fk_aload_n X 0 dX2_isWord_15 rfl ?_
      refine fk_getI' X fd_1_8 q1534 dX2_isWord_16 hf (fun z3 hf => ?_)
      refine fk_aload_n X 1 dX2_isWord_19 rfl ?_
      obtain ⟨u4, hq, hf⟩ := bI hf
      obtain ⟨z5, hv, hf⟩ := bI hf
      refine fk_callV0I (ci := 16) (rest := [tI z3]) X hq rfl (c_J5_length hv) n_J5_length q1699 q1700 q1701 q133 q1702 rfl dX2_isWord_20 rfl rfl rfl rfl rfl (Nat.le_refl _) (Nat.le_refl _) ?_
      refine fk_icmp_eq' X 28 dX2_isWord_23 rfl hf (fun hf => ?_) (fun hf => ?_)
      · refine fk_iconst (v := 1) X dX2_isWord_28 rfl ?_
        refine fk_istore_n X [(2, tI 1), (0, tR a0), (1, tR a1)] dX2_isWord_29 rfl rfl ?_
        refine fk_iconst (v := 0) X dX2_isWord_30 rfl ?_
        refine fk_istore_n X [(3, tI 0), (2, tI 1), (0, tR a0), (1, tR a1)] dX2_isWord_31 rfl rfl ?_
        exact fk_cut' (w_X2_isWord_L32 X Y a0 a1 fk_fuel 1 0 hf) [2, 3, 1, 0] rfl
      · refine fk_iconst (v := 0) X dX2_isWord_26 rfl ?_
        cases hf
        exact fk_ireturn X Y dX2_isWord_27 (by decide +kernel)
/-! FigureKneeModel wrong (II)V -/
theorem n_X2_wrong : fk_N yX2_wrong 2 := ⟨by decide +kernel, by decide +kernel, by decide +kernel, by decide +kernel⟩
def f_X2_wrong (a0 : Option Nat) (a1 : Int32) (a2 : Int32) (m0 : fk_M) : Option fk_M :=
  (gI m0 a0 1 13).bind fun z1 => if z1 = 0 then ((pZ m0 a0 1 13 1).bind fun m2 => (pV m2 a0 1 9 (tI a1)).bind fun m3 => (pV m3 a0 1 10 (tI a2)).bind fun m4 => some m4) else (some m0)
set_option maxHeartbeats 4000000 in
theorem c_X2_wrong {l : Launch} {G : fk_G} {b0 : Nat} {n : Nat} {a0 : Option Nat} {a1 : Int32} {a2 : Int32} {m0 : fk_M} {mF : fk_M} (hf : f_X2_wrong a0 a1 a2 m0 = some mF) : fk_Ct l G b0 yX2_wrong cX2_wrong 3 none 1 60 [tR a0, tI a1, tI a2] n m0 none n mF 0 0 := by
  refine fk_enter n_X2_wrong.1 rfl ?_
  intro E X0 Y
  have X : fk_X E l G b0 "FigureKneeModel" "wrong" cX2_wrong 3 1 60 0 0 := X0
  show fk_W E 3 n m0 0 0 0 [(0, tR a0), (1, tI a1), (2, tI a2)] []
  unfold f_X2_wrong at hf
  refine fk_aload_n X 0 dX2_wrong_0 rfl ?_
  refine fk_getI' X fd_1_13 q1539 dX2_wrong_1 hf (fun z1 hf => ?_)
  refine fk_if_eq' X 8 dX2_wrong_4 rfl hf (fun hf => ?_) (fun hf => ?_)
  · refine fk_aload_n X 0 dX2_wrong_8 rfl ?_
    refine fk_iconst (v := 1) X dX2_wrong_9 rfl ?_
    refine fk_putZ' X fd_1_13 q1539 dX2_wrong_10 hf (fun m2 hf => ?_)
    refine fk_aload_n X 0 dX2_wrong_13 rfl ?_
    refine fk_iload_n X 1 dX2_wrong_14 rfl ?_
    refine fk_putI' X fd_1_9 q1535 dX2_wrong_15 (fit_I _) hf (fun m3 hf => ?_)
    refine fk_aload_n X 0 dX2_wrong_18 rfl ?_
    refine fk_iload_n X 2 dX2_wrong_19 rfl ?_
    refine fk_putI' X fd_1_10 q1536 dX2_wrong_20 (fit_I _) hf (fun m4 hf => ?_)
    cases hf
    exact fk_return X Y dX2_wrong_23
  · cases hf
    exact fk_return X Y dX2_wrong_7
/-! FigureKneeModel takesWord (Ljava/lang/String;)Z -/
theorem n_X2_takesWord : fk_N yX2_takesWord 1 := ⟨by decide +kernel, by decide +kernel, by decide +kernel, by decide +kernel⟩
def f_X2_takesWord (g : Nat → Nat) (a0 : Option Nat) (a1 : Option Nat) (m0 : fk_M) : Option (Int32 × fk_M) :=
  (isO m0 a0 1).bind fun u1 => (f_X2_isWord g a0 a1 m0).bind fun z2 => if z2 = 0 then (some (0, m0)) else ((isO m0 a0 1).bind fun u3 => (f_X2_next a0 m0).bind fun m4 => some (1, m4))
set_option maxHeartbeats 4000000 in
theorem c_X2_takesWord {l : Launch} {G : fk_G} {b0 : Nat} {n : Nat} {a0 : Option Nat} {a1 : Option Nat} {m0 : fk_M} {r : Int32} {mF : fk_M} (hf : f_X2_takesWord G.2.2 a0 a1 m0 = some (r, mF)) : fk_Ct l G b0 yX2_takesWord cX2_takesWord 2 (some .boolean) 6 168 [tR a0, tR a1] n m0 (some (tI r)) n mF 0 0 := by
  refine fk_enter n_X2_takesWord.1 rfl ?_
  intro E X0 Y
  have X : fk_X E l G b0 "FigureKneeModel" "takesWord" cX2_takesWord 2 6 168 0 0 := X0
  show fk_W E 2 n m0 0 0 0 [(0, tR a0), (1, tR a1)] []
  unfold f_X2_takesWord at hf
  refine fk_aload_n X 0 dX2_takesWord_0 rfl ?_
  refine fk_aload_n X 1 dX2_takesWord_1 rfl ?_
  obtain ⟨u1, hq, hf⟩ := bI hf
  obtain ⟨z2, hv, hf⟩ := bI hf
  refine fk_callV0I (ci := 1) (rest := []) X hq rfl (c_X2_isWord hv) n_X2_isWord q1695 q1697 qs68 q126 q1698 rfl dX2_takesWord_2 rfl rfl rfl rfl rfl (Nat.le_refl _) (Nat.le_refl _) ?_
  refine fk_if_ne' X 10 dX2_takesWord_5 rfl hf (fun hf => ?_) (fun hf => ?_)
  · refine fk_aload_n X 0 dX2_takesWord_10 rfl ?_
    obtain ⟨u3, hq, hf⟩ := bI hf
    obtain ⟨m4, hv, hf⟩ := bI hf
    refine fk_callV0V (ci := 1) (rest := []) X hq rfl (c_X2_next hv) n_X2_next q1676 q1678 qs65 q126 q1679 rfl dX2_takesWord_11 rfl rfl rfl rfl rfl (Nat.le_refl _) (Nat.le_refl _) ?_
    refine fk_iconst (v := 1) X dX2_takesWord_14 rfl ?_
    cases hf
    exact fk_ireturn X Y dX2_takesWord_15 (by decide +kernel)
  · refine fk_iconst (v := 0) X dX2_takesWord_8 rfl ?_
    cases hf
    exact fk_ireturn X Y dX2_takesWord_9 (by decide +kernel)
/-! FigureKneeModel must (Ljava/lang/String;)V -/
theorem n_X2_must : fk_N yX2_must 1 := ⟨by decide +kernel, by decide +kernel, by decide +kernel, by decide +kernel⟩
def f_X2_must (g : Nat → Nat) (a0 : Option Nat) (a1 : Option Nat) (m0 : fk_M) : Option fk_M :=
  (gI m0 a0 1 13).bind fun z1 => if z1 = 0 then ((isO m0 a0 1).bind fun u2 => bn2 (f_X2_takesWord g a0 a1 m0) fun z3 m4 => if z3 = 0 then ((gI m4 a0 1 4).bind fun z5 => (isO m4 a0 1).bind fun u6 => (f_X2_wrong a0 1 z5 m4).bind fun m7 => some m7) else (some m4)) else (some m0)
set_option maxHeartbeats 4000000 in
theorem c_X2_must {l : Launch} {G : fk_G} {b0 : Nat} {n : Nat} {a0 : Option Nat} {a1 : Option Nat} {m0 : fk_M} {mF : fk_M} (hf : f_X2_must G.2.2 a0 a1 m0 = some mF) : fk_Ct l G b0 yX2_must cX2_must 2 none 7 189 [tR a0, tR a1] n m0 none n mF 0 0 := by
  refine fk_enter n_X2_must.1 rfl ?_
  intro E X0 Y
  have X : fk_X E l G b0 "FigureKneeModel" "must" cX2_must 2 7 189 0 0 := X0
  show fk_W E 2 n m0 0 0 0 [(0, tR a0), (1, tR a1)] []
  unfold f_X2_must at hf
  refine fk_aload_n X 0 dX2_must_0 rfl ?_
  refine fk_getI' X fd_1_13 q1539 dX2_must_1 hf (fun z1 hf => ?_)
  refine fk_if_ne' X 24 dX2_must_4 rfl hf (fun hf => ?_) (fun hf => ?_)
  · cases hf
    exact fk_return X Y dX2_must_24
  · refine fk_aload_n X 0 dX2_must_7 rfl ?_
    refine fk_aload_n X 1 dX2_must_8 rfl ?_
    obtain ⟨u2, hq, hf⟩ := bI hf
    obtain ⟨z3, m4, hv, hf⟩ := bn2_eq hf
    refine fk_callV0I (ci := 1) (rest := []) X hq rfl (c_X2_takesWord hv) n_X2_takesWord q1735 q1737 qs73 q126 q1738 rfl dX2_must_9 rfl rfl rfl rfl rfl (Nat.le_refl _) (Nat.le_refl _) ?_
    refine fk_if_ne' X 24 dX2_must_12 rfl hf (fun hf => ?_) (fun hf => ?_)
    · cases hf
      exact fk_return X Y dX2_must_24
    · refine fk_aload_n X 0 dX2_must_15 rfl ?_
      refine fk_iconst (v := 1) X dX2_must_16 rfl ?_
      refine fk_aload_n X 0 dX2_must_17 rfl ?_
      refine fk_getI' X fd_1_4 q1530 dX2_must_18 hf (fun z5 hf => ?_)
      obtain ⟨u6, hq, hf⟩ := bI hf
      obtain ⟨m7, hv, hf⟩ := bI hf
      refine fk_callV0V (ci := 1) (rest := []) X hq rfl (c_X2_wrong hv) n_X2_wrong q1722 q1724 qs70 q126 q1725 rfl dX2_must_21 rfl rfl rfl rfl rfl (Nat.le_refl _) (Nat.le_refl _) ?_
      cases hf
      exact fk_return X Y dX2_must_24
/-! FigureKneeModel numberHere (II)I -/
theorem n_X2_numberHere : fk_N yX2_numberHere 2 := ⟨by decide +kernel, by decide +kernel, by decide +kernel, by decide +kernel⟩
def f_X2_numberHere_J50 (x0 : Option Nat) (x1 : Int32) (m0 : fk_M) : Option (Int32 × fk_M) :=
  (gI m0 x0 1 13).bind fun z1 => if z1 = 0 then ((gI m0 x0 1 7).bind fun z2 => some (z2, m0)) else (some (x1, m0))
set_option maxHeartbeats 4000000 in
theorem w_X2_numberHere_J50 {E : fk_E} {l : Launch} {G : fk_G} {b0 n : Nat} {r : Int32} {mF : fk_M} (X : fk_X E l G b0 "FigureKneeModel" "numberHere" cX2_numberHere 3 2 82 0 0) (Y : fk_Y E (some .int) (some (tI r)) n mF 0 0) (x0 : Option Nat) (x1 : Int32)  (m0 : fk_M) (hf : f_X2_numberHere_J50 x0 x1 m0 = some (r, mF)) : fk_W E 3 n m0 0 0 50 [(0, tR x0), (1, tI x1)] [] := by
  unfold f_X2_numberHere_J50 at hf
  refine fk_aload_n X 0 dX2_numberHere_50 rfl ?_
  refine fk_getI' X fd_1_13 q1539 dX2_numberHere_51 hf (fun z1 hf => ?_)
  refine fk_if_eq' X 61 dX2_numberHere_54 rfl hf (fun hf => ?_) (fun hf => ?_)
  · refine fk_aload_n X 0 dX2_numberHere_61 rfl ?_
    refine fk_getI' X fd_1_7 q1533 dX2_numberHere_62 hf (fun z2 hf => ?_)
    cases hf
    exact fk_ireturn X Y dX2_numberHere_65 rfl
  · refine fk_iload_n X 1 dX2_numberHere_57 rfl ?_
    refine fk_goto X 65 dX2_numberHere_58 rfl ?_
    cases hf
    exact fk_ireturn X Y dX2_numberHere_65 rfl
def f_X2_numberHere (a0 : Option Nat) (a1 : Int32) (a2 : Int32) (m0 : fk_M) : Option (Int32 × fk_M) :=
  (gI m0 a0 1 13).bind fun z1 => if z1 = 0 then ((gI m0 a0 1 6).bind fun z2 => if z2 = 3 then ((gI m0 a0 1 7).bind fun z3 => (f_X2_in z3 a1 a2 m0).bind fun z4 => if z4 = 0 then ((gI m0 a0 1 4).bind fun z5 => (isO m0 a0 1).bind fun u6 => (f_X2_wrong a0 4 z5 m0).bind fun m7 => f_X2_numberHere_J50 a0 a1 m7) else (f_X2_numberHere_J50 a0 a1 m0)) else ((gI m0 a0 1 4).bind fun z8 => (isO m0 a0 1).bind fun u9 => (f_X2_wrong a0 1 z8 m0).bind fun m10 => f_X2_numberHere_J50 a0 a1 m10)) else (some (a1, m0))
set_option maxHeartbeats 4000000 in
theorem c_X2_numberHere {l : Launch} {G : fk_G} {b0 : Nat} {n : Nat} {a0 : Option Nat} {a1 : Int32} {a2 : Int32} {m0 : fk_M} {r : Int32} {mF : fk_M} (hf : f_X2_numberHere a0 a1 a2 m0 = some (r, mF)) : fk_Ct l G b0 yX2_numberHere cX2_numberHere 3 (some .int) 2 82 [tR a0, tI a1, tI a2] n m0 (some (tI r)) n mF 0 0 := by
  refine fk_enter n_X2_numberHere.1 rfl ?_
  intro E X0 Y
  have X : fk_X E l G b0 "FigureKneeModel" "numberHere" cX2_numberHere 3 2 82 0 0 := X0
  show fk_W E 3 n m0 0 0 0 [(0, tR a0), (1, tI a1), (2, tI a2)] []
  unfold f_X2_numberHere at hf
  refine fk_aload_n X 0 dX2_numberHere_0 rfl ?_
  refine fk_getI' X fd_1_13 q1539 dX2_numberHere_1 hf (fun z1 hf => ?_)
  refine fk_if_eq' X 9 dX2_numberHere_4 rfl hf (fun hf => ?_) (fun hf => ?_)
  · refine fk_aload_n X 0 dX2_numberHere_9 rfl ?_
    refine fk_getI' X fd_1_6 q1532 dX2_numberHere_10 hf (fun z2 hf => ?_)
    refine fk_iconst (v := 3) X dX2_numberHere_13 rfl ?_
    refine fk_icmp_eq' X 29 dX2_numberHere_14 rfl hf (fun hf => ?_) (fun hf => ?_)
    · refine fk_aload_n X 0 dX2_numberHere_29 rfl ?_
      refine fk_getI' X fd_1_7 q1533 dX2_numberHere_30 hf (fun z3 hf => ?_)
      refine fk_iload_n X 1 dX2_numberHere_33 rfl ?_
      refine fk_iload_n X 2 dX2_numberHere_34 rfl ?_
      obtain ⟨z4, hv, hf⟩ := bI hf
      refine fk_callS0I (rest := []) X (c_X2_in hv) n_X2_in q1669 q1670 q126 q1671 dX2_numberHere_35 rfl rfl rfl rfl rfl (Nat.le_refl _) (Nat.le_refl _) ?_
      refine fk_if_ne' X 50 dX2_numberHere_38 rfl hf (fun hf => ?_) (fun hf => ?_)
      · exact fk_cut' (w_X2_numberHere_J50 X Y a0 a1 m0 hf) [0, 1] rfl
      · refine fk_aload_n X 0 dX2_numberHere_41 rfl ?_
        refine fk_iconst (v := 4) X dX2_numberHere_42 rfl ?_
        refine fk_aload_n X 0 dX2_numberHere_43 rfl ?_
        refine fk_getI' X fd_1_4 q1530 dX2_numberHere_44 hf (fun z5 hf => ?_)
        obtain ⟨u6, hq, hf⟩ := bI hf
        obtain ⟨m7, hv, hf⟩ := bI hf
        refine fk_callV0V (ci := 1) (rest := []) X hq rfl (c_X2_wrong hv) n_X2_wrong q1722 q1724 qs70 q126 q1725 rfl dX2_numberHere_47 rfl rfl rfl rfl rfl (Nat.le_refl _) (Nat.le_refl _) ?_
        exact fk_cut' (w_X2_numberHere_J50 X Y a0 a1 m7 hf) [0, 1] rfl
    · refine fk_aload_n X 0 dX2_numberHere_17 rfl ?_
      refine fk_iconst (v := 1) X dX2_numberHere_18 rfl ?_
      refine fk_aload_n X 0 dX2_numberHere_19 rfl ?_
      refine fk_getI' X fd_1_4 q1530 dX2_numberHere_20 hf (fun z8 hf => ?_)
      obtain ⟨u9, hq, hf⟩ := bI hf
      obtain ⟨m10, hv, hf⟩ := bI hf
      refine fk_callV0V (ci := 1) (rest := []) X hq rfl (c_X2_wrong hv) n_X2_wrong q1722 q1724 qs70 q126 q1725 rfl dX2_numberHere_23 rfl rfl rfl rfl rfl (Nat.le_refl _) (Nat.le_refl _) ?_
      refine fk_goto X 50 dX2_numberHere_26 rfl ?_
      exact fk_cut' (w_X2_numberHere_J50 X Y a0 a1 m10 hf) [0, 1] rfl
  · refine fk_iload_n X 1 dX2_numberHere_7 rfl ?_
    cases hf
    exact fk_ireturn X Y dX2_numberHere_8 rfl
/-! FigureKneeModel pass ()V -/
theorem n_X2_pass : fk_N yX2_pass 0 := ⟨by decide +kernel, by decide +kernel, by decide +kernel, by decide +kernel⟩
def f_X2_pass (a0 : Option Nat) (m0 : fk_M) : Option fk_M :=
  (gI m0 a0 1 13).bind fun z1 => if z1 = 0 then ((isO m0 a0 1).bind fun u2 => (f_X2_next a0 m0).bind fun m3 => some m3) else (some m0)
set_option maxHeartbeats 4000000 in
theorem c_X2_pass {l : Launch} {G : fk_G} {b0 : Nat} {n : Nat} {a0 : Option Nat} {m0 : fk_M} {mF : fk_M} (hf : f_X2_pass a0 m0 = some mF) : fk_Ct l G b0 yX2_pass cX2_pass 1 none 3 104 [tR a0] n m0 none n mF 0 0 := by
  refine fk_enter n_X2_pass.1 rfl ?_
  intro E X0 Y
  have X : fk_X E l G b0 "FigureKneeModel" "pass" cX2_pass 1 3 104 0 0 := X0
  show fk_W E 1 n m0 0 0 0 [(0, tR a0)] []
  unfold f_X2_pass at hf
  refine fk_aload_n X 0 dX2_pass_0 rfl ?_
  refine fk_getI' X fd_1_13 q1539 dX2_pass_1 hf (fun z1 hf => ?_)
  refine fk_if_ne' X 11 dX2_pass_4 rfl hf (fun hf => ?_) (fun hf => ?_)
  · cases hf
    exact fk_return X Y dX2_pass_11
  · refine fk_aload_n X 0 dX2_pass_7 rfl ?_
    obtain ⟨u2, hq, hf⟩ := bI hf
    obtain ⟨m3, hv, hf⟩ := bI hf
    refine fk_callV0V (ci := 1) (rest := []) X hq rfl (c_X2_next hv) n_X2_next q1676 q1678 qs65 q126 q1679 rfl dX2_pass_8 rfl rfl rfl rfl rfl (Nat.le_refl _) (Nat.le_refl _) ?_
    cases hf
    exact fk_return X Y dX2_pass_11
/-! FigureKneeModel number (II)I -/
theorem n_X2_number : fk_N yX2_number 2 := ⟨by decide +kernel, by decide +kernel, by decide +kernel, by decide +kernel⟩
def f_X2_number (a0 : Option Nat) (a1 : Int32) (a2 : Int32) (m0 : fk_M) : Option (Int32 × fk_M) :=
  (isO m0 a0 1).bind fun u1 => bn2 (f_X2_numberHere a0 a1 a2 m0) fun z2 m3 => (isO m3 a0 1).bind fun u4 => (f_X2_pass a0 m3).bind fun m5 => some (z2, m5)
set_option maxHeartbeats 4000000 in
theorem c_X2_number {l : Launch} {G : fk_G} {b0 : Nat} {n : Nat} {a0 : Option Nat} {a1 : Int32} {a2 : Int32} {m0 : fk_M} {r : Int32} {mF : fk_M} (hf : f_X2_number a0 a1 a2 m0 = some (r, mF)) : fk_Ct l G b0 yX2_number cX2_number 4 (some .int) 4 124 [tR a0, tI a1, tI a2] n m0 (some (tI r)) n mF 0 0 := by
  refine fk_enter n_X2_number.1 rfl ?_
  intro E X0 Y
  have X : fk_X E l G b0 "FigureKneeModel" "number" cX2_number 4 4 124 0 0 := X0
  show fk_W E 4 n m0 0 0 0 [(0, tR a0), (1, tI a1), (2, tI a2)] []
  unfold f_X2_number at hf
  refine fk_aload_n X 0 dX2_number_0 rfl ?_
  refine fk_iload_n X 1 dX2_number_1 rfl ?_
  refine fk_iload_n X 2 dX2_number_2 rfl ?_
  obtain ⟨u1, hq, hf⟩ := bI hf
  obtain ⟨z2, m3, hv, hf⟩ := bn2_eq hf
  refine fk_callV0I (ci := 1) (rest := []) X hq rfl (c_X2_numberHere hv) n_X2_numberHere q1743 q1745 qs75 q126 q1746 rfl dX2_number_3 rfl rfl rfl rfl rfl (Nat.le_refl _) (Nat.le_refl _) ?_
  refine fk_istore_n X [(3, tI z2), (0, tR a0), (1, tI a1), (2, tI a2)] dX2_number_6 rfl rfl ?_
  refine fk_aload_n X 1 dX2_number_7 rfl ?_
  obtain ⟨u4, hq, hf⟩ := bI hf
  obtain ⟨m5, hv, hf⟩ := bI hf
  refine fk_callV0V (ci := 1) (rest := []) X hq rfl (c_X2_pass hv) n_X2_pass q1747 q1749 qs76 q126 q1750 rfl dX2_number_8 rfl rfl rfl rfl rfl (Nat.le_refl _) (Nat.le_refl _) ?_
  refine fk_iload_n X 0 dX2_number_11 rfl ?_
  cases hf
  exact fk_ireturn X Y dX2_number_12 rfl
/-! FigureKneeModel after (Ljava/lang/String;II)I -/
theorem n_X2_after : fk_N yX2_after 3 := ⟨by decide +kernel, by decide +kernel, by decide +kernel, by decide +kernel⟩
def f_X2_after (g : Nat → Nat) (a0 : Option Nat) (a1 : Option Nat) (a2 : Int32) (a3 : Int32) (m0 : fk_M) : Option (Int32 × fk_M) :=
  (isO m0 a0 1).bind fun u1 => (f_X2_must g a0 a1 m0).bind fun m2 => (isO m2 a0 1).bind fun u3 => bn2 (f_X2_number a0 a2 a3 m2) fun z4 m5 => some (z4, m5)
set_option maxHeartbeats 4000000 in
theorem c_X2_after {l : Launch} {G : fk_G} {b0 : Nat} {n : Nat} {a0 : Option Nat} {a1 : Option Nat} {a2 : Int32} {a3 : Int32} {m0 : fk_M} {r : Int32} {mF : fk_M} (hf : f_X2_after G.2.2 a0 a1 a2 a3 m0 = some (r, mF)) : fk_Ct l G b0 yX2_after cX2_after 4 (some .int) 8 210 [tR a0, tR a1, tI a2, tI a3] n m0 (some (tI r)) n mF 0 0 := by
  refine fk_enter n_X2_after.1 rfl ?_
  intro E X0 Y
  have X : fk_X E l G b0 "FigureKneeModel" "after" cX2_after 4 8 210 0 0 := X0
  show fk_W E 4 n m0 0 0 0 [(0, tR a0), (1, tR a1), (2, tI a2), (3, tI a3)] []
  unfold f_X2_after at hf
  refine fk_aload_n X 0 dX2_after_0 rfl ?_
  refine fk_aload_n X 1 dX2_after_1 rfl ?_
  obtain ⟨u1, hq, hf⟩ := bI hf
  obtain ⟨m2, hv, hf⟩ := bI hf
  refine fk_callV0V (ci := 1) (rest := []) X hq rfl (c_X2_must hv) n_X2_must q1731 q1733 qs72 q126 q1734 rfl dX2_after_2 rfl rfl rfl rfl rfl (Nat.le_refl _) (Nat.le_refl _) ?_
  refine fk_aload_n X 0 dX2_after_5 rfl ?_
  refine fk_iload_n X 2 dX2_after_6 rfl ?_
  refine fk_iload_n X 3 dX2_after_7 rfl ?_
  obtain ⟨u3, hq, hf⟩ := bI hf
  obtain ⟨z4, m5, hv, hf⟩ := bn2_eq hf
  refine fk_callV0I (ci := 1) (rest := []) X hq rfl (c_X2_number hv) n_X2_number q1739 q1741 qs74 q126 q1742 rfl dX2_after_8 rfl rfl rfl rfl rfl (Nat.le_refl _) (Nat.le_refl _) ?_
  cases hf
  exact fk_ireturn X Y dX2_after_11 rfl
/-! FigureKneeModel pierLine ()V -/
theorem n_X2_pierLine : fk_N yX2_pierLine 0 := ⟨by decide +kernel, by decide +kernel, by decide +kernel, by decide +kernel⟩
def f_X2_pierLine_J19 (g : Nat → Nat) (x0 : Option Nat) (m0 : fk_M) : Option fk_M :=
  (gI m0 x0 1 13).bind fun z1 => if z1 = 0 then ((isO m0 x0 1).bind fun u2 => (f_X2_next x0 m0).bind fun m3 => (gR m3 x0 1 16).bind fun z4 => (isO m3 x0 1).bind fun u5 => bn2 (f_X2_after g x0 (some (g 25)) 2 99 m3) fun z6 m7 => (sI m7 z4 0 0 z6).bind fun m8 => (gR m8 x0 1 16).bind fun z9 => (isO m8 x0 1).bind fun u10 => bn2 (f_X2_after g x0 (some (g 26)) 0 100 m8) fun z11 m12 => (sI m12 z9 0 1 z11).bind fun m13 => (gI m13 x0 1 13).bind fun z14 => if z14 = 0 then ((gR m13 x0 1 16).bind fun z15 => (sI m13 z15 0 7 1).bind fun m16 => some m16) else (some m13)) else (some m0)
set_option maxHeartbeats 4000000 in
theorem w_X2_pierLine_J19 {E : fk_E} {l : Launch} {G : fk_G} {b0 n : Nat} {mF : fk_M} (X : fk_X E l G b0 "FigureKneeModel" "pierLine" cX2_pierLine 1 9 233 0 0) (Y : fk_Y E none none n mF 0 0) (x0 : Option Nat)  (m0 : fk_M) (hf : f_X2_pierLine_J19 G.2.2 x0 m0 = some mF) : fk_W E 1 n m0 0 0 19 [(0, tR x0)] [] := by
  unfold f_X2_pierLine_J19 at hf
  refine fk_aload_n X 0 dX2_pierLine_19 rfl ?_
  refine fk_getI' X fd_1_13 q1539 dX2_pierLine_20 hf (fun z1 hf => ?_)
  refine fk_if_eq' X 27 dX2_pierLine_23 rfl hf (fun hf => ?_) (fun hf => ?_)
  · refine fk_aload_n X 0 dX2_pierLine_27 rfl ?_
    obtain ⟨u2, hq, hf⟩ := bI hf
    obtain ⟨m3, hv, hf⟩ := bI hf
    refine fk_callV0V (ci := 1) (rest := []) X hq rfl (c_X2_next hv) n_X2_next q1676 q1678 qs65 q126 q1679 rfl dX2_pierLine_28 rfl rfl rfl rfl rfl (Nat.le_refl _) (Nat.le_refl _) ?_
    refine fk_aload_n X 0 dX2_pierLine_31 rfl ?_
    refine fk_getR' X fd_1_16 q1542 dX2_pierLine_32 hf (fun z4 hf => ?_)
    refine fk_iconst (v := 0) X dX2_pierLine_35 rfl ?_
    refine fk_aload_n X 0 dX2_pierLine_36 rfl ?_
    refine fk_ldcS (i := 25) X rfl dX2_pierLine_37 ?_
    refine fk_iconst (v := 2) X dX2_pierLine_39 rfl ?_
    refine fk_bipush (v := 99) X dX2_pierLine_40 rfl ?_
    obtain ⟨u5, hq, hf⟩ := bI hf
    obtain ⟨z6, m7, hv, hf⟩ := bn2_eq hf
    refine fk_callV0I (ci := 1) (rest := [tI 0, tR z4]) X hq rfl (c_X2_after hv) n_X2_after q1727 q1729 qs71 q126 q1730 rfl dX2_pierLine_42 rfl rfl rfl rfl rfl (Nat.le_refl _) (Nat.le_refl _) ?_
    refine fk_iastore' X dX2_pierLine_45 hf (fun m8 hf => ?_)
    refine fk_aload_n X 0 dX2_pierLine_46 rfl ?_
    refine fk_getR' X fd_1_16 q1542 dX2_pierLine_47 hf (fun z9 hf => ?_)
    refine fk_iconst (v := 1) X dX2_pierLine_50 rfl ?_
    refine fk_aload_n X 0 dX2_pierLine_51 rfl ?_
    refine fk_ldcS (i := 26) X rfl dX2_pierLine_52 ?_
    refine fk_iconst (v := 0) X dX2_pierLine_54 rfl ?_
    refine fk_bipush (v := 100) X dX2_pierLine_55 rfl ?_
    obtain ⟨u10, hq, hf⟩ := bI hf
    obtain ⟨z11, m12, hv, hf⟩ := bn2_eq hf
    refine fk_callV0I (ci := 1) (rest := [tI 1, tR z9]) X hq rfl (c_X2_after hv) n_X2_after q1727 q1729 qs71 q126 q1730 rfl dX2_pierLine_57 rfl rfl rfl rfl rfl (Nat.le_refl _) (Nat.le_refl _) ?_
    refine fk_iastore' X dX2_pierLine_60 hf (fun m13 hf => ?_)
    refine fk_aload_n X 0 dX2_pierLine_61 rfl ?_
    refine fk_getI' X fd_1_13 q1539 dX2_pierLine_62 hf (fun z14 hf => ?_)
    refine fk_if_ne' X 76 dX2_pierLine_65 rfl hf (fun hf => ?_) (fun hf => ?_)
    · cases hf
      exact fk_return X Y dX2_pierLine_76
    · refine fk_aload_n X 0 dX2_pierLine_68 rfl ?_
      refine fk_getR' X fd_1_16 q1542 dX2_pierLine_69 hf (fun z15 hf => ?_)
      refine fk_bipush (v := 7) X dX2_pierLine_72 rfl ?_
      refine fk_iconst (v := 1) X dX2_pierLine_74 rfl ?_
      refine fk_iastore' X dX2_pierLine_75 hf (fun m16 hf => ?_)
      cases hf
      exact fk_return X Y dX2_pierLine_76
  · cases hf
    exact fk_return X Y dX2_pierLine_26
def f_X2_pierLine (g : Nat → Nat) (a0 : Option Nat) (m0 : fk_M) : Option fk_M :=
  (gR m0 a0 1 16).bind fun z1 => (aI m0 z1 0 7).bind fun z2 => if z2 ≤ 0 then (f_X2_pierLine_J19 g a0 m0) else ((gI m0 a0 1 4).bind fun z3 => (isO m0 a0 1).bind fun u4 => (f_X2_wrong a0 3 z3 m0).bind fun m5 => f_X2_pierLine_J19 g a0 m5)
set_option maxHeartbeats 4000000 in
theorem c_X2_pierLine {l : Launch} {G : fk_G} {b0 : Nat} {n : Nat} {a0 : Option Nat} {m0 : fk_M} {mF : fk_M} (hf : f_X2_pierLine G.2.2 a0 m0 = some mF) : fk_Ct l G b0 yX2_pierLine cX2_pierLine 1 none 9 233 [tR a0] n m0 none n mF 0 0 := by
  refine fk_enter n_X2_pierLine.1 rfl ?_
  intro E X0 Y
  have X : fk_X E l G b0 "FigureKneeModel" "pierLine" cX2_pierLine 1 9 233 0 0 := X0
  show fk_W E 1 n m0 0 0 0 [(0, tR a0)] []
  unfold f_X2_pierLine at hf
  refine fk_aload_n X 0 dX2_pierLine_0 rfl ?_
  refine fk_getR' X fd_1_16 q1542 dX2_pierLine_1 hf (fun z1 hf => ?_)
  refine fk_bipush (v := 7) X dX2_pierLine_4 rfl ?_
  refine fk_iaload' X dX2_pierLine_6 hf (fun z2 hf => ?_)
  refine fk_if_le' X 19 dX2_pierLine_7 rfl hf (fun hf => ?_) (fun hf => ?_)
  · exact fk_cut' (w_X2_pierLine_J19 X Y a0 m0 hf) [0] rfl
  · refine fk_aload_n X 0 dX2_pierLine_10 rfl ?_
    refine fk_iconst (v := 3) X dX2_pierLine_11 rfl ?_
    refine fk_aload_n X 0 dX2_pierLine_12 rfl ?_
    refine fk_getI' X fd_1_4 q1530 dX2_pierLine_13 hf (fun z3 hf => ?_)
    obtain ⟨u4, hq, hf⟩ := bI hf
    obtain ⟨m5, hv, hf⟩ := bI hf
    refine fk_callV0V (ci := 1) (rest := []) X hq rfl (c_X2_wrong hv) n_X2_wrong q1722 q1724 qs70 q126 q1725 rfl dX2_pierLine_16 rfl rfl rfl rfl rfl (Nat.le_refl _) (Nat.le_refl _) ?_
    exact fk_cut' (w_X2_pierLine_J19 X Y a0 m5 hf) [0] rfl
/-! FigureKneeModel begins (Ljava/lang/String;Z)Z -/
theorem n_X2_begins : fk_N yX2_begins 2 := ⟨by decide +kernel, by decide +kernel, by decide +kernel, by decide +kernel⟩
def f_X2_begins_J43 (g : Nat → Nat) (x0 : Option Nat) (m0 : fk_M) : Option (Int32 × fk_M) :=
  (isO m0 x0 1).bind fun u1 => (f_X2_pass x0 m0).bind fun m2 => some (1, m2)
set_option maxHeartbeats 4000000 in
theorem w_X2_begins_J43 {E : fk_E} {l : Launch} {G : fk_G} {b0 n : Nat} {r : Int32} {mF : fk_M} (X : fk_X E l G b0 "FigureKneeModel" "begins" cX2_begins 3 6 168 0 0) (Y : fk_Y E (some .boolean) (some (tI r)) n mF 0 0) (x0 : Option Nat)  (m0 : fk_M) (hf : f_X2_begins_J43 G.2.2 x0 m0 = some (r, mF)) : fk_W E 3 n m0 0 0 43 [(0, tR x0)] [] := by
  unfold f_X2_begins_J43 at hf
  refine fk_aload_n X 0 dX2_begins_43 rfl ?_
  obtain ⟨u1, hq, hf⟩ := bI hf
  obtain ⟨m2, hv, hf⟩ := bI hf
  refine fk_callV0V (ci := 1) (rest := []) X hq rfl (c_X2_pass hv) n_X2_pass q1747 q1749 qs76 q126 q1750 rfl dX2_begins_44 rfl rfl rfl rfl rfl (Nat.le_refl _) (Nat.le_refl _) ?_
  refine fk_iconst (v := 1) X dX2_begins_47 rfl ?_
  cases hf
  exact fk_ireturn X Y dX2_begins_48 (by decide +kernel)
def f_X2_begins_J23 (g : Nat → Nat) (x0 : Option Nat) (m0 : fk_M) : Option (Int32 × fk_M) :=
  (gR m0 x0 1 16).bind fun z1 => (aI m0 z1 0 7).bind fun z2 => if z2 = 0 then ((gI m0 x0 1 4).bind fun z3 => (isO m0 x0 1).bind fun u4 => (f_X2_wrong x0 6 z3 m0).bind fun m5 => f_X2_begins_J43 g x0 m5) else (f_X2_begins_J43 g x0 m0)
set_option maxHeartbeats 4000000 in
theorem w_X2_begins_J23 {E : fk_E} {l : Launch} {G : fk_G} {b0 n : Nat} {r : Int32} {mF : fk_M} (X : fk_X E l G b0 "FigureKneeModel" "begins" cX2_begins 3 6 168 0 0) (Y : fk_Y E (some .boolean) (some (tI r)) n mF 0 0) (x0 : Option Nat)  (m0 : fk_M) (hf : f_X2_begins_J23 G.2.2 x0 m0 = some (r, mF)) : fk_W E 3 n m0 0 0 23 [(0, tR x0)] [] := by
  unfold f_X2_begins_J23 at hf
  refine fk_aload_n X 0 dX2_begins_23 rfl ?_
  refine fk_getR' X fd_1_16 q1542 dX2_begins_24 hf (fun z1 hf => ?_)
  refine fk_bipush (v := 7) X dX2_begins_27 rfl ?_
  refine fk_iaload' X dX2_begins_29 hf (fun z2 hf => ?_)
  refine fk_if_ne' X 43 dX2_begins_30 rfl hf (fun hf => ?_) (fun hf => ?_)
  · exact fk_cut' (w_X2_begins_J43 X Y x0 m0 hf) [0] rfl
  · refine fk_aload_n X 0 dX2_begins_33 rfl ?_
    refine fk_bipush (v := 6) X dX2_begins_34 rfl ?_
    refine fk_aload_n X 0 dX2_begins_36 rfl ?_
    refine fk_getI' X fd_1_4 q1530 dX2_begins_37 hf (fun z3 hf => ?_)
    obtain ⟨u4, hq, hf⟩ := bI hf
    obtain ⟨m5, hv, hf⟩ := bI hf
    refine fk_callV0V (ci := 1) (rest := []) X hq rfl (c_X2_wrong hv) n_X2_wrong q1722 q1724 qs70 q126 q1725 rfl dX2_begins_40 rfl rfl rfl rfl rfl (Nat.le_refl _) (Nat.le_refl _) ?_
    exact fk_cut' (w_X2_begins_J43 X Y x0 m5 hf) [0] rfl
def f_X2_begins (g : Nat → Nat) (a0 : Option Nat) (a1 : Option Nat) (a2 : Int32) (m0 : fk_M) : Option (Int32 × fk_M) :=
  (isO m0 a0 1).bind fun u1 => (f_X2_isWord g a0 a1 m0).bind fun z2 => if z2 = 0 then (some (0, m0)) else (if a2 = 0 then ((gI m0 a0 1 4).bind fun z3 => (isO m0 a0 1).bind fun u4 => (f_X2_wrong a0 5 z3 m0).bind fun m5 => f_X2_begins_J23 g a0 m5) else (f_X2_begins_J23 g a0 m0))
set_option maxHeartbeats 4000000 in
theorem c_X2_begins {l : Launch} {G : fk_G} {b0 : Nat} {n : Nat} {a0 : Option Nat} {a1 : Option Nat} {a2 : Int32} {m0 : fk_M} {r : Int32} {mF : fk_M} (hf : f_X2_begins G.2.2 a0 a1 a2 m0 = some (r, mF)) : fk_Ct l G b0 yX2_begins cX2_begins 3 (some .boolean) 6 168 [tR a0, tR a1, tI a2] n m0 (some (tI r)) n mF 0 0 := by
  refine fk_enter n_X2_begins.1 rfl ?_
  intro E X0 Y
  have X : fk_X E l G b0 "FigureKneeModel" "begins" cX2_begins 3 6 168 0 0 := X0
  show fk_W E 3 n m0 0 0 0 [(0, tR a0), (1, tR a1), (2, tI a2)] []
  unfold f_X2_begins at hf
  refine fk_aload_n X 0 dX2_begins_0 rfl ?_
  refine fk_aload_n X 1 dX2_begins_1 rfl ?_
  obtain ⟨u1, hq, hf⟩ := bI hf
  obtain ⟨z2, hv, hf⟩ := bI hf
  refine fk_callV0I (ci := 1) (rest := []) X hq rfl (c_X2_isWord hv) n_X2_isWord q1695 q1697 qs68 q126 q1698 rfl dX2_begins_2 rfl rfl rfl rfl rfl (Nat.le_refl _) (Nat.le_refl _) ?_
  refine fk_if_ne' X 10 dX2_begins_5 rfl hf (fun hf => ?_) (fun hf => ?_)
  · refine fk_iload_n X 2 dX2_begins_10 rfl ?_
    refine fk_if_ne' X 23 dX2_begins_11 rfl hf (fun hf => ?_) (fun hf => ?_)
    · exact fk_cut' (w_X2_begins_J23 X Y a0 m0 hf) [0] rfl
    · refine fk_aload_n X 0 dX2_begins_14 rfl ?_
      refine fk_iconst (v := 5) X dX2_begins_15 rfl ?_
      refine fk_aload_n X 0 dX2_begins_16 rfl ?_
      refine fk_getI' X fd_1_4 q1530 dX2_begins_17 hf (fun z3 hf => ?_)
      obtain ⟨u4, hq, hf⟩ := bI hf
      obtain ⟨m5, hv, hf⟩ := bI hf
      refine fk_callV0V (ci := 1) (rest := []) X hq rfl (c_X2_wrong hv) n_X2_wrong q1722 q1724 qs70 q126 q1725 rfl dX2_begins_20 rfl rfl rfl rfl rfl (Nat.le_refl _) (Nat.le_refl _) ?_
      exact fk_cut' (w_X2_begins_J23 X Y a0 m5 hf) [0] rfl
  · refine fk_iconst (v := 0) X dX2_begins_8 rfl ?_
    cases hf
    exact fk_ireturn X Y dX2_begins_9 (by decide +kernel)
/-! FigureKneeModel mustName ()V -/
theorem n_X2_mustName : fk_N yX2_mustName 0 := ⟨by decide +kernel, by decide +kernel, by decide +kernel, by decide +kernel⟩
def f_X2_mustName_J62 (g : Nat → Nat) (x0 : Option Nat) (m0 : fk_M) : Option fk_M :=
  (gI m0 x0 1 4).bind fun z1 => (isO m0 x0 1).bind fun u2 => (f_X2_wrong x0 1 z1 m0).bind fun m3 => some m3
set_option maxHeartbeats 4000000 in
theorem w_X2_mustName_J62 {E : fk_E} {l : Launch} {G : fk_G} {b0 n : Nat} {mF : fk_M} (X : fk_X E l G b0 "FigureKneeModel" "mustName" cX2_mustName 1 6 168 0 0) (Y : fk_Y E none none n mF 0 0) (x0 : Option Nat)  (m0 : fk_M) (hf : f_X2_mustName_J62 G.2.2 x0 m0 = some mF) : fk_W E 1 n m0 0 0 62 [(0, tR x0)] [] := by
  unfold f_X2_mustName_J62 at hf
  refine fk_aload_n X 0 dX2_mustName_62 rfl ?_
  refine fk_iconst (v := 1) X dX2_mustName_63 rfl ?_
  refine fk_aload_n X 0 dX2_mustName_64 rfl ?_
  refine fk_getI' X fd_1_4 q1530 dX2_mustName_65 hf (fun z1 hf => ?_)
  obtain ⟨u2, hq, hf⟩ := bI hf
  obtain ⟨m3, hv, hf⟩ := bI hf
  refine fk_callV0V (ci := 1) (rest := []) X hq rfl (c_X2_wrong hv) n_X2_wrong q1722 q1724 qs70 q126 q1725 rfl dX2_mustName_68 rfl rfl rfl rfl rfl (Nat.le_refl _) (Nat.le_refl _) ?_
  cases hf
  exact fk_return X Y dX2_mustName_71
def f_X2_mustName (g : Nat → Nat) (a0 : Option Nat) (m0 : fk_M) : Option fk_M :=
  (gI m0 a0 1 6).bind fun z1 => if z1 = 2 then ((isO m0 a0 1).bind fun u2 => (f_X2_isWord g a0 (some (g 24)) m0).bind fun z3 => if z3 = 0 then ((isO m0 a0 1).bind fun u4 => (f_X2_isWord g a0 (some (g 27)) m0).bind fun z5 => if z5 = 0 then ((isO m0 a0 1).bind fun u6 => (f_X2_isWord g a0 (some (g 28)) m0).bind fun z7 => if z7 = 0 then ((isO m0 a0 1).bind fun u8 => (f_X2_isWord g a0 (some (g 29)) m0).bind fun z9 => if z9 = 0 then ((isO m0 a0 1).bind fun u10 => (f_X2_isWord g a0 (some (g 30)) m0).bind fun z11 => if z11 = 0 then ((isO m0 a0 1).bind fun u12 => (f_X2_isWord g a0 (some (g 31)) m0).bind fun z13 => if z13 = 0 then (some m0) else (f_X2_mustName_J62 g a0 m0)) else (f_X2_mustName_J62 g a0 m0)) else (f_X2_mustName_J62 g a0 m0)) else (f_X2_mustName_J62 g a0 m0)) else (f_X2_mustName_J62 g a0 m0)) else (f_X2_mustName_J62 g a0 m0)) else (f_X2_mustName_J62 g a0 m0)
set_option maxHeartbeats 4000000 in
theorem c_X2_mustName {l : Launch} {G : fk_G} {b0 : Nat} {n : Nat} {a0 : Option Nat} {m0 : fk_M} {mF : fk_M} (hf : f_X2_mustName G.2.2 a0 m0 = some mF) : fk_Ct l G b0 yX2_mustName cX2_mustName 1 none 6 168 [tR a0] n m0 none n mF 0 0 := by
  refine fk_enter n_X2_mustName.1 rfl ?_
  intro E X0 Y
  have X : fk_X E l G b0 "FigureKneeModel" "mustName" cX2_mustName 1 6 168 0 0 := X0
  show fk_W E 1 n m0 0 0 0 [(0, tR a0)] []
  unfold f_X2_mustName at hf
  refine fk_aload_n X 0 dX2_mustName_0 rfl ?_
  refine fk_getI' X fd_1_6 q1532 dX2_mustName_1 hf (fun z1 hf => ?_)
  refine fk_iconst (v := 2) X dX2_mustName_4 rfl ?_
  refine fk_icmp_ne' X 62 dX2_mustName_5 rfl hf (fun hf => ?_) (fun hf => ?_)
  · exact fk_cut' (w_X2_mustName_J62 X Y a0 m0 hf) [0] rfl
  · refine fk_aload_n X 0 dX2_mustName_8 rfl ?_
    refine fk_ldcS (i := 24) X rfl dX2_mustName_9 ?_
    obtain ⟨u2, hq, hf⟩ := bI hf
    obtain ⟨z3, hv, hf⟩ := bI hf
    refine fk_callV0I (ci := 1) (rest := []) X hq rfl (c_X2_isWord hv) n_X2_isWord q1695 q1697 qs68 q126 q1698 rfl dX2_mustName_11 rfl rfl rfl rfl rfl (Nat.le_refl _) (Nat.le_refl _) ?_
    refine fk_if_ne' X 62 dX2_mustName_14 rfl hf (fun hf => ?_) (fun hf => ?_)
    · exact fk_cut' (w_X2_mustName_J62 X Y a0 m0 hf) [0] rfl
    · refine fk_aload_n X 0 dX2_mustName_17 rfl ?_
      refine fk_ldcS (i := 27) X rfl dX2_mustName_18 ?_
      obtain ⟨u4, hq, hf⟩ := bI hf
      obtain ⟨z5, hv, hf⟩ := bI hf
      refine fk_callV0I (ci := 1) (rest := []) X hq rfl (c_X2_isWord hv) n_X2_isWord q1695 q1697 qs68 q126 q1698 rfl dX2_mustName_20 rfl rfl rfl rfl rfl (Nat.le_refl _) (Nat.le_refl _) ?_
      refine fk_if_ne' X 62 dX2_mustName_23 rfl hf (fun hf => ?_) (fun hf => ?_)
      · exact fk_cut' (w_X2_mustName_J62 X Y a0 m0 hf) [0] rfl
      · refine fk_aload_n X 0 dX2_mustName_26 rfl ?_
        refine fk_ldcS (i := 28) X rfl dX2_mustName_27 ?_
        obtain ⟨u6, hq, hf⟩ := bI hf
        obtain ⟨z7, hv, hf⟩ := bI hf
        refine fk_callV0I (ci := 1) (rest := []) X hq rfl (c_X2_isWord hv) n_X2_isWord q1695 q1697 qs68 q126 q1698 rfl dX2_mustName_29 rfl rfl rfl rfl rfl (Nat.le_refl _) (Nat.le_refl _) ?_
        refine fk_if_ne' X 62 dX2_mustName_32 rfl hf (fun hf => ?_) (fun hf => ?_)
        · exact fk_cut' (w_X2_mustName_J62 X Y a0 m0 hf) [0] rfl
        · refine fk_aload_n X 0 dX2_mustName_35 rfl ?_
          refine fk_ldcS (i := 29) X rfl dX2_mustName_36 ?_
          obtain ⟨u8, hq, hf⟩ := bI hf
          obtain ⟨z9, hv, hf⟩ := bI hf
          refine fk_callV0I (ci := 1) (rest := []) X hq rfl (c_X2_isWord hv) n_X2_isWord q1695 q1697 qs68 q126 q1698 rfl dX2_mustName_38 rfl rfl rfl rfl rfl (Nat.le_refl _) (Nat.le_refl _) ?_
          refine fk_if_ne' X 62 dX2_mustName_41 rfl hf (fun hf => ?_) (fun hf => ?_)
          · exact fk_cut' (w_X2_mustName_J62 X Y a0 m0 hf) [0] rfl
          · refine fk_aload_n X 0 dX2_mustName_44 rfl ?_
            refine fk_ldcS (i := 30) X rfl dX2_mustName_45 ?_
            obtain ⟨u10, hq, hf⟩ := bI hf
            obtain ⟨z11, hv, hf⟩ := bI hf
            refine fk_callV0I (ci := 1) (rest := []) X hq rfl (c_X2_isWord hv) n_X2_isWord q1695 q1697 qs68 q126 q1698 rfl dX2_mustName_47 rfl rfl rfl rfl rfl (Nat.le_refl _) (Nat.le_refl _) ?_
            refine fk_if_ne' X 62 dX2_mustName_50 rfl hf (fun hf => ?_) (fun hf => ?_)
            · exact fk_cut' (w_X2_mustName_J62 X Y a0 m0 hf) [0] rfl
            · refine fk_aload_n X 0 dX2_mustName_53 rfl ?_
              refine fk_ldcS (i := 31) X rfl dX2_mustName_54 ?_
              obtain ⟨u12, hq, hf⟩ := bI hf
              obtain ⟨z13, hv, hf⟩ := bI hf
              refine fk_callV0I (ci := 1) (rest := []) X hq rfl (c_X2_isWord hv) n_X2_isWord q1695 q1697 qs68 q126 q1698 rfl dX2_mustName_56 rfl rfl rfl rfl rfl (Nat.le_refl _) (Nat.le_refl _) ?_
              refine fk_if_eq' X 71 dX2_mustName_59 rfl hf (fun hf => ?_) (fun hf => ?_)
              · cases hf
                exact fk_return X Y dX2_mustName_71
              · exact fk_cut' (w_X2_mustName_J62 X Y a0 m0 hf) [0] rfl
/-! FigureKneeModel find ()I -/
theorem n_X2_find : fk_N yX2_find 0 := ⟨by decide +kernel, by decide +kernel, by decide +kernel, by decide +kernel⟩
def f_X2_find_J90 (R2 : Int32 → Option Int32) (x0 : Option Nat) (x1 : Int32) (x2 : Int32) (m : fk_M) : Option Int32 :=
  if x2 = 0 then (R2 (x1 + 1)) else (some x1)
set_option maxHeartbeats 4000000 in
theorem w_X2_find_J90 {E : fk_E} {l : Launch} {G : fk_G} {b0 n : Nat} {m : fk_M} {r : Int32} (X : fk_X E l G b0 "FigureKneeModel" "find" cX2_find 4 1 60 0 0) (Y : fk_Y E (some .int) (some (tI r)) n m 0 0) (x0 : Option Nat) (x1 : Int32) (x2 : Int32)  {R2 : Int32 → Option Int32} (hR2 : ∀ (v1 : Int32), R2 v1 = some r → fk_W E 4 n m 0 0 2 [(0, tR x0), (1, tI v1)] []) (hf : f_X2_find_J90 R2 x0 x1 x2 m = some r) : fk_W E 4 n m 0 0 90 [(0, tR x0), (1, tI x1), (2, tI x2)] [] := by
  unfold f_X2_find_J90 at hf
  refine fk_iload_n X 2 dX2_find_90 rfl ?_
  refine fk_if_eq' X 96 dX2_find_91 rfl hf (fun hf => ?_) (fun hf => ?_)
  · refine fk_iinc X 1 [(1, tI (x1 + 1)), (0, tR x0), (2, tI x2)] dX2_find_96 rfl rfl rfl rfl ?_
    refine fk_goto X 2 dX2_find_99 rfl ?_
    exact fk_cut' (hR2 (x1 + 1)  hf) [1, 0] rfl
  · refine fk_iload_n X 1 dX2_find_94 rfl ?_
    cases hf
    exact fk_ireturn X Y dX2_find_95 rfl
def f_X2_find_L43 (R2 : Int32 → Option Int32) (x0 : Option Nat) (x1 : Int32) (m : fk_M) : Nat → Int32 → Int32 → Option Int32
  | 0, _, _ => none
  | N + 1, x2, x3 =>
  (gI m x0 1 8).bind fun z1 => if z1 ≤ x3 then (f_X2_find_J90 R2 x0 x1 x2 m) else (if x2 = 0 then (f_X2_find_J90 R2 x0 x1 x2 m) else ((gR m x0 1 16).bind fun z2 => (aI m z2 0 ((55 + (8 * x1)) + x3)).bind fun z3 => (gR m x0 1 12).bind fun z4 => (aI m z4 0 x3).bind fun z5 => f_X2_find_L43 R2 x0 x1 m N (if z3 = z5 then (1 : Int32) else 0) (x3 + 1)))
set_option maxHeartbeats 4000000 in
theorem w_X2_find_L43 {E : fk_E} {l : Launch} {G : fk_G} {b0 n : Nat} {m : fk_M} {r : Int32} (X : fk_X E l G b0 "FigureKneeModel" "find" cX2_find 4 1 60 0 0) (Y : fk_Y E (some .int) (some (tI r)) n m 0 0) (x0 : Option Nat) (x1 : Int32) {R2 : Int32 → Option Int32} (hR2 : ∀ (v1 : Int32), R2 v1 = some r → fk_W E 4 n m 0 0 2 [(0, tR x0), (1, tI v1)] []) : ∀ (N : Nat) (x2 : Int32) (x3 : Int32), f_X2_find_L43 R2 x0 x1 m N x2 x3 = some r → fk_W E 4 n m 0 0 43 [(0, tR x0), (1, tI x1), (2, tI x2), (3, tI x3)] [] := by
  intro N
  induction N with
  | zero =>
    intro x2 x3 hf
    have hf : (none : Option Int32) = some _ := hf
    cases hf
  | succ N ih =>
    intro x2 x3 hf
    rw [f_X2_find_L43] at hf
    refine fk_iload_n X 3 dX2_find_43 rfl ?_
    refine fk_aload_n X 0 dX2_find_44 rfl ?_
    refine fk_getI' X fd_1_8 q1534 dX2_find_45 hf (fun z1 hf => ?_)
    refine fk_icmp_ge' X 90 dX2_find_48 rfl hf (fun hf => ?_) (fun hf => ?_)
    · exact fk_cut' (w_X2_find_J90 X Y x0 x1 x2 hR2 hf) [0, 1, 2] rfl
    · refine fk_iload_n X 2 dX2_find_51 rfl ?_
      refine fk_if_eq' X 90 dX2_find_52 rfl hf (fun hf => ?_) (fun hf => ?_)
      · exact fk_cut' (w_X2_find_J90 X Y x0 x1 x2 hR2 hf) [0, 1, 2] rfl
      · refine fk_aload_n X 0 dX2_find_55 rfl ?_
        refine fk_getR' X fd_1_16 q1542 dX2_find_56 hf (fun z2 hf => ?_)
        refine fk_bipush (v := 55) X dX2_find_59 rfl ?_
        refine fk_bipush (v := 8) X dX2_find_61 rfl ?_
        refine fk_iload_n X 1 dX2_find_63 rfl ?_
        refine fk_imul X dX2_find_64 ?_
        refine fk_iadd X dX2_find_65 ?_
        refine fk_iload_n X 3 dX2_find_66 rfl ?_
        refine fk_iadd X dX2_find_67 ?_
        refine fk_iaload' X dX2_find_68 hf (fun z3 hf => ?_)
        refine fk_aload_n X 0 dX2_find_69 rfl ?_
        refine fk_getR' X fd_1_12 q1538 dX2_find_70 hf (fun z4 hf => ?_)
        refine fk_iload_n X 3 dX2_find_73 rfl ?_
        refine fk_iaload' X dX2_find_74 hf (fun z5 hf => ?_)
        have J1 : fk_W E 4 n m 0 0 83 [(0, tR x0), (1, tI x1), (3, tI x3)] [tI (if z3 = z5 then (1 : Int32) else 0)] := by
          refine fk_istore_n X [(2, tI (if z3 = z5 then (1 : Int32) else 0)), (0, tR x0), (1, tI x1), (3, tI x3)] dX2_find_83 rfl rfl ?_
          refine fk_iinc X 3 [(3, tI (x3 + 1)), (2, tI (if z3 = z5 then (1 : Int32) else 0)), (0, tR x0), (1, tI x1)] dX2_find_84 rfl rfl rfl rfl ?_
          refine fk_goto X 43 dX2_find_87 rfl ?_
          exact fk_cut' (ih (if z3 = z5 then (1 : Int32) else 0) (x3 + 1)  hf) [2, 3, 1, 0] rfl
        refine fk_icmp_ne X 82 dX2_find_75 rfl (fun hc2 => ?_) (fun hc2 => ?_)
        · refine fk_iconst (v := 0) X dX2_find_82 rfl ?_
          simp only [if_neg hc2] at J1
          exact fk_cut' J1 [0, 1, 3] rfl
        · refine fk_iconst (v := 1) X dX2_find_78 rfl ?_
          refine fk_goto X 83 dX2_find_79 rfl ?_
          simp only [if_pos hc2] at J1
          exact fk_cut' J1 [0, 1, 3] rfl
def f_X2_find_J40 (R2 : Int32 → Option Int32) (x0 : Option Nat) (x1 : Int32) (y0 : Int32) (m : fk_M) : Option Int32 :=
  f_X2_find_L43 R2 x0 x1 m fk_fuel y0 0
set_option maxHeartbeats 4000000 in
theorem w_X2_find_J40 {E : fk_E} {l : Launch} {G : fk_G} {b0 n : Nat} {m : fk_M} {r : Int32} (X : fk_X E l G b0 "FigureKneeModel" "find" cX2_find 4 1 60 0 0) (Y : fk_Y E (some .int) (some (tI r)) n m 0 0) (x0 : Option Nat) (x1 : Int32) (y0 : Int32) {R2 : Int32 → Option Int32} (hR2 : ∀ (v1 : Int32), R2 v1 = some r → fk_W E 4 n m 0 0 2 [(0, tR x0), (1, tI v1)] []) (hf : f_X2_find_J40 R2 x0 x1 y0 m = some r) : fk_W E 4 n m 0 0 40 [(0, tR x0), (1, tI x1)] [tI y0] := by
  unfold f_X2_find_J40 at hf
  refine fk_istore_n X [(2, tI y0), (0, tR x0), (1, tI x1)] dX2_find_40 rfl rfl ?_
  refine fk_iconst (v := 0) X dX2_find_41 rfl ?_
  refine fk_istore_n X [(3, tI 0), (2, tI y0), (0, tR x0), (1, tI x1)] dX2_find_42 rfl rfl ?_
  exact fk_cut' (w_X2_find_L43 X Y x0 x1 hR2 fk_fuel y0 0 hf) [2, 3, 1, 0] rfl
def f_X2_find_J39 (R2 : Int32 → Option Int32) (x0 : Option Nat) (x1 : Int32) (m : fk_M) : Option Int32 :=
  f_X2_find_J40 R2 x0 x1 0 m
set_option maxHeartbeats 4000000 in
theorem w_X2_find_J39 {E : fk_E} {l : Launch} {G : fk_G} {b0 n : Nat} {m : fk_M} {r : Int32} (X : fk_X E l G b0 "FigureKneeModel" "find" cX2_find 4 1 60 0 0) (Y : fk_Y E (some .int) (some (tI r)) n m 0 0) (x0 : Option Nat) (x1 : Int32)  {R2 : Int32 → Option Int32} (hR2 : ∀ (v1 : Int32), R2 v1 = some r → fk_W E 4 n m 0 0 2 [(0, tR x0), (1, tI v1)] []) (hf : f_X2_find_J39 R2 x0 x1 m = some r) : fk_W E 4 n m 0 0 39 [(0, tR x0), (1, tI x1)] [] := by
  unfold f_X2_find_J39 at hf
  refine fk_iconst (v := 0) X dX2_find_39 rfl ?_
  exact fk_cut' (w_X2_find_J40 X Y x0 x1 0 hR2 hf) [0, 1] rfl
def f_X2_find_L2 (x0 : Option Nat) (m : fk_M) : Nat → Int32 → Option Int32
  | 0, _ => none
  | N + 1, x1 =>
  if 5 ≤ x1 then (some (-1)) else ((gR m x0 1 16).bind fun z1 => (aI m z1 0 (50 + x1)).bind fun z2 => if z2 ≤ 0 then (f_X2_find_J39 (f_X2_find_L2 x0 m N) x0 x1 m) else ((gR m x0 1 16).bind fun z3 => (aI m z3 0 (50 + x1)).bind fun z4 => (gI m x0 1 8).bind fun z5 => f_X2_find_L43 (f_X2_find_L2 x0 m N) x0 x1 m fk_fuel (if z4 = z5 then (1 : Int32) else 0) 0))
set_option maxHeartbeats 4000000 in
theorem w_X2_find_L2 {E : fk_E} {l : Launch} {G : fk_G} {b0 n : Nat} {m : fk_M} {r : Int32} (X : fk_X E l G b0 "FigureKneeModel" "find" cX2_find 4 1 60 0 0) (Y : fk_Y E (some .int) (some (tI r)) n m 0 0) (x0 : Option Nat) : ∀ (N : Nat) (x1 : Int32), f_X2_find_L2 x0 m N x1 = some r → fk_W E 4 n m 0 0 2 [(0, tR x0), (1, tI x1)] [] := by
  intro N
  induction N with
  | zero =>
    intro x1 hf
    have hf : (none : Option Int32) = some _ := hf
    cases hf
  | succ N ih =>
    intro x1 hf
    rw [f_X2_find_L2] at hf
    refine fk_iload_n X 1 dX2_find_2 rfl ?_
    refine fk_iconst (v := 5) X dX2_find_3 rfl ?_
    refine fk_icmp_ge' X 102 dX2_find_4 rfl hf (fun hf => ?_) (fun hf => ?_)
    · refine fk_iconst (v := (-1)) X dX2_find_102 rfl ?_
      cases hf
      exact fk_ireturn X Y dX2_find_103 rfl
    · refine fk_aload_n X 0 dX2_find_7 rfl ?_
      refine fk_getR' X fd_1_16 q1542 dX2_find_8 hf (fun z1 hf => ?_)
      refine fk_bipush (v := 50) X dX2_find_11 rfl ?_
      refine fk_iload_n X 1 dX2_find_13 rfl ?_
      refine fk_iadd X dX2_find_14 ?_
      refine fk_iaload' X dX2_find_15 hf (fun z2 hf => ?_)
      refine fk_if_le' X 39 dX2_find_16 rfl hf (fun hf => ?_) (fun hf => ?_)
      · exact fk_cut' (w_X2_find_J39 X Y x0 x1 ih hf) [0, 1] rfl
      · refine fk_aload_n X 0 dX2_find_19 rfl ?_
        refine fk_getR' X fd_1_16 q1542 dX2_find_20 hf (fun z3 hf => ?_)
        refine fk_bipush (v := 50) X dX2_find_23 rfl ?_
        refine fk_iload_n X 1 dX2_find_25 rfl ?_
        refine fk_iadd X dX2_find_26 ?_
        refine fk_iaload' X dX2_find_27 hf (fun z4 hf => ?_)
        refine fk_aload_n X 0 dX2_find_28 rfl ?_
        refine fk_getI' X fd_1_8 q1534 dX2_find_29 hf (fun z5 hf => ?_)
        have J1 : fk_W E 4 n m 0 0 40 [(0, tR x0), (1, tI x1)] [tI (if z4 = z5 then (1 : Int32) else 0)] := by
          refine fk_istore_n X [(2, tI (if z4 = z5 then (1 : Int32) else 0)), (0, tR x0), (1, tI x1)] dX2_find_40 rfl rfl ?_
          refine fk_iconst (v := 0) X dX2_find_41 rfl ?_
          refine fk_istore_n X [(3, tI 0), (2, tI (if z4 = z5 then (1 : Int32) else 0)), (0, tR x0), (1, tI x1)] dX2_find_42 rfl rfl ?_
          exact fk_cut' (w_X2_find_L43 X Y x0 x1 ih fk_fuel (if z4 = z5 then (1 : Int32) else 0) 0 hf) [2, 3, 1, 0] rfl
        refine fk_icmp_ne X 39 dX2_find_32 rfl (fun hc2 => ?_) (fun hc2 => ?_)
        · refine fk_iconst (v := 0) X dX2_find_39 rfl ?_
          simp only [if_neg hc2] at J1
          exact fk_cut' J1 [0, 1] rfl
        · refine fk_iconst (v := 1) X dX2_find_35 rfl ?_
          refine fk_goto X 40 dX2_find_36 rfl ?_
          simp only [if_pos hc2] at J1
          exact fk_cut' J1 [0, 1] rfl
def f_X2_find (a0 : Option Nat) (m : fk_M) : Option Int32 :=
  f_X2_find_L2 a0 m fk_fuel 0
set_option maxHeartbeats 4000000 in
theorem c_X2_find {l : Launch} {G : fk_G} {b0 : Nat} {n : Nat} {a0 : Option Nat} {m : fk_M} {r : Int32} (hf : f_X2_find a0 m = some r) : fk_Ct l G b0 yX2_find cX2_find 4 (some .int) 1 60 [tR a0] n m (some (tI r)) n m 0 0 := by
  refine fk_enter n_X2_find.1 rfl ?_
  intro E X0 Y
  have X : fk_X E l G b0 "FigureKneeModel" "find" cX2_find 4 1 60 0 0 := X0
  show fk_W E 4 n m 0 0 0 [(0, tR a0)] []
  unfold f_X2_find at hf
  refine fk_iconst (v := 0) X dX2_find_0 rfl ?_
  refine fk_istore_n X [(1, tI 0), (0, tR a0)] dX2_find_1 rfl rfl ?_
  exact fk_cut' (w_X2_find_L2 X Y a0 fk_fuel 0 hf) [1, 0] rfl
/-! FigureKneeModel newName (I)V -/
theorem n_X2_newName : fk_N yX2_newName 1 := ⟨by decide +kernel, by decide +kernel, by decide +kernel, by decide +kernel⟩
def f_X2_newName_L45 (g : Nat → Nat) (x0 : Option Nat) (x1 : Int32) : Nat → Int32 → fk_M → Option fk_M
  | 0, _, _ => none
  | N + 1, x2, m0 =>
  (gI m0 x0 1 8).bind fun z1 => if z1 ≤ x2 then ((gR m0 x0 1 16).bind fun z2 => (gI m0 x0 1 8).bind fun z3 => (sI m0 z2 0 (50 + x1) z3).bind fun m4 => (isO m4 x0 1).bind fun u5 => (f_X2_next x0 m4).bind fun m6 => some m6) else ((gR m0 x0 1 16).bind fun z7 => (gR m0 x0 1 12).bind fun z8 => (aI m0 z8 0 x2).bind fun z9 => (sI m0 z7 0 ((55 + (8 * x1)) + x2) z9).bind fun m10 => f_X2_newName_L45 g x0 x1 N (x2 + 1) m10)
set_option maxHeartbeats 4000000 in
theorem w_X2_newName_L45 {E : fk_E} {l : Launch} {G : fk_G} {b0 n : Nat} {mF : fk_M} (X : fk_X E l G b0 "FigureKneeModel" "newName" cX2_newName 3 7 188 0 0) (Y : fk_Y E none none n mF 0 0) (x0 : Option Nat) (x1 : Int32) : ∀ (N : Nat) (x2 : Int32) (m0 : fk_M), f_X2_newName_L45 G.2.2 x0 x1 N x2 m0 = some mF → fk_W E 3 n m0 0 0 45 [(0, tR x0), (1, tI x1), (2, tI x2)] [] := by
  intro N
  induction N with
  | zero =>
    intro x2 m0 hf
    have hf : (none : Option fk_M) = some _ := hf
    cases hf
  | succ N ih =>
    intro x2 m0 hf
    rw [f_X2_newName_L45] at hf
    refine fk_iload_n X 2 dX2_newName_45 rfl ?_
    refine fk_aload_n X 0 dX2_newName_46 rfl ?_
    refine fk_getI' X fd_1_8 q1534 dX2_newName_47 hf (fun z1 hf => ?_)
    refine fk_icmp_ge' X 79 dX2_newName_50 rfl hf (fun hf => ?_) (fun hf => ?_)
    · refine fk_aload_n X 0 dX2_newName_79 rfl ?_
      refine fk_getR' X fd_1_16 q1542 dX2_newName_80 hf (fun z2 hf => ?_)
      refine fk_bipush (v := 50) X dX2_newName_83 rfl ?_
      refine fk_iload_n X 1 dX2_newName_85 rfl ?_
      refine fk_iadd X dX2_newName_86 ?_
      refine fk_aload_n X 0 dX2_newName_87 rfl ?_
      refine fk_getI' X fd_1_8 q1534 dX2_newName_88 hf (fun z3 hf => ?_)
      refine fk_iastore' X dX2_newName_91 hf (fun m4 hf => ?_)
      refine fk_aload_n X 0 dX2_newName_92 rfl ?_
      obtain ⟨u5, hq, hf⟩ := bI hf
      obtain ⟨m6, hv, hf⟩ := bI hf
      refine fk_callV0V (ci := 1) (rest := []) X hq rfl (c_X2_next hv) n_X2_next q1676 q1678 qs65 q126 q1679 rfl dX2_newName_93 rfl rfl rfl rfl rfl (Nat.le_refl _) (Nat.le_refl _) ?_
      cases hf
      exact fk_return X Y dX2_newName_96
    · refine fk_aload_n X 0 dX2_newName_53 rfl ?_
      refine fk_getR' X fd_1_16 q1542 dX2_newName_54 hf (fun z7 hf => ?_)
      refine fk_bipush (v := 55) X dX2_newName_57 rfl ?_
      refine fk_bipush (v := 8) X dX2_newName_59 rfl ?_
      refine fk_iload_n X 1 dX2_newName_61 rfl ?_
      refine fk_imul X dX2_newName_62 ?_
      refine fk_iadd X dX2_newName_63 ?_
      refine fk_iload_n X 2 dX2_newName_64 rfl ?_
      refine fk_iadd X dX2_newName_65 ?_
      refine fk_aload_n X 0 dX2_newName_66 rfl ?_
      refine fk_getR' X fd_1_12 q1538 dX2_newName_67 hf (fun z8 hf => ?_)
      refine fk_iload_n X 2 dX2_newName_70 rfl ?_
      refine fk_iaload' X dX2_newName_71 hf (fun z9 hf => ?_)
      refine fk_iastore' X dX2_newName_72 hf (fun m10 hf => ?_)
      refine fk_iinc X 2 [(2, tI (x2 + 1)), (0, tR x0), (1, tI x1)] dX2_newName_73 rfl rfl rfl rfl ?_
      refine fk_goto X 45 dX2_newName_76 rfl ?_
      exact fk_cut' (ih (x2 + 1) m10  hf) [1, 2, 0] rfl
def f_X2_newName_J35 (g : Nat → Nat) (x0 : Option Nat) (x1 : Int32) (m0 : fk_M) : Option fk_M :=
  (gI m0 x0 1 13).bind fun z1 => if z1 = 0 then (f_X2_newName_L45 g x0 x1 fk_fuel 0 m0) else (some m0)
set_option maxHeartbeats 4000000 in
theorem w_X2_newName_J35 {E : fk_E} {l : Launch} {G : fk_G} {b0 n : Nat} {mF : fk_M} (X : fk_X E l G b0 "FigureKneeModel" "newName" cX2_newName 3 7 188 0 0) (Y : fk_Y E none none n mF 0 0) (x0 : Option Nat) (x1 : Int32)  (m0 : fk_M) (hf : f_X2_newName_J35 G.2.2 x0 x1 m0 = some mF) : fk_W E 3 n m0 0 0 35 [(0, tR x0), (1, tI x1)] [] := by
  unfold f_X2_newName_J35 at hf
  refine fk_aload_n X 0 dX2_newName_35 rfl ?_
  refine fk_getI' X fd_1_13 q1539 dX2_newName_36 hf (fun z1 hf => ?_)
  refine fk_if_eq' X 43 dX2_newName_39 rfl hf (fun hf => ?_) (fun hf => ?_)
  · refine fk_iconst (v := 0) X dX2_newName_43 rfl ?_
    refine fk_istore_n X [(2, tI 0), (0, tR x0), (1, tI x1)] dX2_newName_44 rfl rfl ?_
    exact fk_cut' (w_X2_newName_L45 X Y x0 x1 fk_fuel 0 m0 hf) [1, 2, 0] rfl
  · cases hf
    exact fk_return X Y dX2_newName_42
def f_X2_newName (g : Nat → Nat) (a0 : Option Nat) (a1 : Int32) (m0 : fk_M) : Option fk_M :=
  (gI m0 a0 1 13).bind fun z1 => if z1 = 0 then ((isO m0 a0 1).bind fun u2 => (f_X2_mustName g a0 m0).bind fun m3 => (gI m3 a0 1 13).bind fun z4 => if z4 = 0 then ((isO m3 a0 1).bind fun u5 => (f_X2_find a0 m3).bind fun z6 => if z6 < 0 then (f_X2_newName_J35 g a0 a1 m3) else ((gI m3 a0 1 4).bind fun z7 => (isO m3 a0 1).bind fun u8 => (f_X2_wrong a0 3 z7 m3).bind fun m9 => f_X2_newName_J35 g a0 a1 m9)) else (f_X2_newName_J35 g a0 a1 m3)) else (some m0)
set_option maxHeartbeats 4000000 in
theorem c_X2_newName {l : Launch} {G : fk_G} {b0 : Nat} {n : Nat} {a0 : Option Nat} {a1 : Int32} {m0 : fk_M} {mF : fk_M} (hf : f_X2_newName G.2.2 a0 a1 m0 = some mF) : fk_Ct l G b0 yX2_newName cX2_newName 3 none 7 188 [tR a0, tI a1] n m0 none n mF 0 0 := by
  refine fk_enter n_X2_newName.1 rfl ?_
  intro E X0 Y
  have X : fk_X E l G b0 "FigureKneeModel" "newName" cX2_newName 3 7 188 0 0 := X0
  show fk_W E 3 n m0 0 0 0 [(0, tR a0), (1, tI a1)] []
  unfold f_X2_newName at hf
  refine fk_aload_n X 0 dX2_newName_0 rfl ?_
  refine fk_getI' X fd_1_13 q1539 dX2_newName_1 hf (fun z1 hf => ?_)
  refine fk_if_eq' X 8 dX2_newName_4 rfl hf (fun hf => ?_) (fun hf => ?_)
  · refine fk_aload_n X 0 dX2_newName_8 rfl ?_
    obtain ⟨u2, hq, hf⟩ := bI hf
    obtain ⟨m3, hv, hf⟩ := bI hf
    refine fk_callV0V (ci := 1) (rest := []) X hq rfl (c_X2_mustName hv) n_X2_mustName q1765 q1767 qs80 q126 q1768 rfl dX2_newName_9 rfl rfl rfl rfl rfl (Nat.le_refl _) (Nat.le_refl _) ?_
    refine fk_aload_n X 0 dX2_newName_12 rfl ?_
    refine fk_getI' X fd_1_13 q1539 dX2_newName_13 hf (fun z4 hf => ?_)
    refine fk_if_ne' X 35 dX2_newName_16 rfl hf (fun hf => ?_) (fun hf => ?_)
    · exact fk_cut' (w_X2_newName_J35 X Y a0 a1 m3 hf) [0, 1] rfl
    · refine fk_aload_n X 0 dX2_newName_19 rfl ?_
      obtain ⟨u5, hq, hf⟩ := bI hf
      obtain ⟨z6, hv, hf⟩ := bI hf
      refine fk_callV0I (ci := 1) (rest := []) X hq rfl (c_X2_find hv) n_X2_find q1773 q1775 qs81 q126 q1776 rfl dX2_newName_20 rfl rfl rfl rfl rfl (Nat.le_refl _) (Nat.le_refl _) ?_
      refine fk_if_lt' X 35 dX2_newName_23 rfl hf (fun hf => ?_) (fun hf => ?_)
      · exact fk_cut' (w_X2_newName_J35 X Y a0 a1 m3 hf) [0, 1] rfl
      · refine fk_aload_n X 0 dX2_newName_26 rfl ?_
        refine fk_iconst (v := 3) X dX2_newName_27 rfl ?_
        refine fk_aload_n X 0 dX2_newName_28 rfl ?_
        refine fk_getI' X fd_1_4 q1530 dX2_newName_29 hf (fun z7 hf => ?_)
        obtain ⟨u8, hq, hf⟩ := bI hf
        obtain ⟨m9, hv, hf⟩ := bI hf
        refine fk_callV0V (ci := 1) (rest := []) X hq rfl (c_X2_wrong hv) n_X2_wrong q1722 q1724 qs70 q126 q1725 rfl dX2_newName_32 rfl rfl rfl rfl rfl (Nat.le_refl _) (Nat.le_refl _) ?_
        exact fk_cut' (w_X2_newName_J35 X Y a0 a1 m9 hf) [0, 1] rfl
  · cases hf
    exact fk_return X Y dX2_newName_7
/-! FigureKneeModel pairLine ()V -/
theorem n_X2_pairLine : fk_N yX2_pairLine 0 := ⟨by decide +kernel, by decide +kernel, by decide +kernel, by decide +kernel⟩
def f_X2_pairLine_J87 (g : Nat → Nat) (x0 : Option Nat) (x1 : Int32) (x2 : Int32) (m0 : fk_M) : Option fk_M :=
  (isO m0 x0 1).bind fun u1 => (f_X2_pass x0 m0).bind fun m2 => (gR m2 x0 1 16).bind fun z3 => (aI m2 z3 0 0).bind fun z4 => (isO m2 x0 1).bind fun u5 => bn2 (f_X2_after g x0 (some (g 36)) 0 z4 m2) fun z6 m7 => (isO m7 x0 1).bind fun u8 => bn2 (f_X2_after g x0 (some (g 37)) 0 20 m7) fun z9 m10 => (gI m10 x0 1 13).bind fun z11 => if z11 = 0 then ((gR m10 x0 1 16).bind fun z12 => (sI m10 z12 0 (8 + x1) x2).bind fun m13 => (gR m13 x0 1 18).bind fun z14 => (sI m13 z14 0 x1 z6).bind fun m15 => (gR m15 x0 1 18).bind fun z16 => (sI m15 z16 0 (5 + x1) z9).bind fun m17 => (gR m17 x0 1 16).bind fun z18 => (aI m17 z18 0 2).bind fun z19 => (sI m17 z18 0 2 (z19 + 1)).bind fun m20 => some m20) else (some m10)
set_option maxHeartbeats 4000000 in
theorem w_X2_pairLine_J87 {E : fk_E} {l : Launch} {G : fk_G} {b0 n : Nat} {mF : fk_M} (X : fk_X E l G b0 "FigureKneeModel" "pairLine" cX2_pairLine 5 9 233 0 0) (Y : fk_Y E none none n mF 0 0) (x0 : Option Nat) (x1 : Int32) (x2 : Int32)  (m0 : fk_M) (hf : f_X2_pairLine_J87 G.2.2 x0 x1 x2 m0 = some mF) : fk_W E 5 n m0 0 0 87 [(0, tR x0), (1, tI x1), (2, tI x2)] [] := by
  unfold f_X2_pairLine_J87 at hf
  refine fk_aload_n X 0 dX2_pairLine_87 rfl ?_
  obtain ⟨u1, hq, hf⟩ := bI hf
  obtain ⟨m2, hv, hf⟩ := bI hf
  refine fk_callV0V (ci := 1) (rest := []) X hq rfl (c_X2_pass hv) n_X2_pass q1747 q1749 qs76 q126 q1750 rfl dX2_pairLine_88 rfl rfl rfl rfl rfl (Nat.le_refl _) (Nat.le_refl _) ?_
  refine fk_aload_n X 0 dX2_pairLine_91 rfl ?_
  refine fk_ldcS (i := 36) X rfl dX2_pairLine_92 ?_
  refine fk_iconst (v := 0) X dX2_pairLine_94 rfl ?_
  refine fk_aload_n X 0 dX2_pairLine_95 rfl ?_
  refine fk_getR' X fd_1_16 q1542 dX2_pairLine_96 hf (fun z3 hf => ?_)
  refine fk_iconst (v := 0) X dX2_pairLine_99 rfl ?_
  refine fk_iaload' X dX2_pairLine_100 hf (fun z4 hf => ?_)
  obtain ⟨u5, hq, hf⟩ := bI hf
  obtain ⟨z6, m7, hv, hf⟩ := bn2_eq hf
  refine fk_callV0I (ci := 1) (rest := []) X hq rfl (c_X2_after hv) n_X2_after q1727 q1729 qs71 q126 q1730 rfl dX2_pairLine_101 rfl rfl rfl rfl rfl (Nat.le_refl _) (Nat.le_refl _) ?_
  refine fk_istore_n X [(3, tI z6), (0, tR x0), (1, tI x1), (2, tI x2)] dX2_pairLine_104 rfl rfl ?_
  refine fk_aload_n X 1 dX2_pairLine_105 rfl ?_
  refine fk_ldcS (i := 37) X rfl dX2_pairLine_106 ?_
  refine fk_iconst (v := 0) X dX2_pairLine_108 rfl ?_
  refine fk_bipush (v := 20) X dX2_pairLine_109 rfl ?_
  obtain ⟨u8, hq, hf⟩ := bI hf
  obtain ⟨z9, m10, hv, hf⟩ := bn2_eq hf
  refine fk_callV0I (ci := 1) (rest := []) X hq rfl (c_X2_after hv) n_X2_after q1727 q1729 qs71 q126 q1730 rfl dX2_pairLine_111 rfl rfl rfl rfl rfl (Nat.le_refl _) (Nat.le_refl _) ?_
  refine fk_istore X [(4, tI z9), (3, tI z6), (0, tR x0), (1, tI x1), (2, tI x2)] dX2_pairLine_114 rfl rfl ?_
  refine fk_aload_n X 2 dX2_pairLine_116 rfl ?_
  refine fk_getI' X fd_1_13 q1539 dX2_pairLine_117 hf (fun z11 hf => ?_)
  refine fk_if_eq' X 124 dX2_pairLine_120 rfl hf (fun hf => ?_) (fun hf => ?_)
  · refine fk_aload_n X 2 dX2_pairLine_124 rfl ?_
    refine fk_getR' X fd_1_16 q1542 dX2_pairLine_125 hf (fun z12 hf => ?_)
    refine fk_bipush (v := 8) X dX2_pairLine_128 rfl ?_
    refine fk_iload_n X 3 dX2_pairLine_130 rfl ?_
    refine fk_iadd X dX2_pairLine_131 ?_
    refine fk_iload_n X 4 dX2_pairLine_132 rfl ?_
    refine fk_iastore' X dX2_pairLine_133 hf (fun m13 hf => ?_)
    refine fk_aload_n X 2 dX2_pairLine_134 rfl ?_
    refine fk_getR' X fd_1_18 q1544 dX2_pairLine_135 hf (fun z14 hf => ?_)
    refine fk_iload_n X 3 dX2_pairLine_138 rfl ?_
    refine fk_iload_n X 1 dX2_pairLine_139 rfl ?_
    refine fk_iastore' X dX2_pairLine_140 hf (fun m15 hf => ?_)
    refine fk_aload_n X 2 dX2_pairLine_141 rfl ?_
    refine fk_getR' X fd_1_18 q1544 dX2_pairLine_142 hf (fun z16 hf => ?_)
    refine fk_iconst (v := 5) X dX2_pairLine_145 rfl ?_
    refine fk_iload_n X 3 dX2_pairLine_146 rfl ?_
    refine fk_iadd X dX2_pairLine_147 ?_
    refine fk_iload X 0 dX2_pairLine_148 rfl ?_
    refine fk_iastore' X dX2_pairLine_150 hf (fun m17 hf => ?_)
    refine fk_aload_n X 2 dX2_pairLine_151 rfl ?_
    refine fk_getR' X fd_1_16 q1542 dX2_pairLine_152 hf (fun z18 hf => ?_)
    refine fk_iconst (v := 2) X dX2_pairLine_155 rfl ?_
    refine fk_dup2 X dX2_pairLine_156 rfl rfl ?_
    refine fk_iaload' X dX2_pairLine_157 hf (fun z19 hf => ?_)
    refine fk_iconst (v := 1) X dX2_pairLine_158 rfl ?_
    refine fk_iadd X dX2_pairLine_159 ?_
    refine fk_iastore' X dX2_pairLine_160 hf (fun m20 hf => ?_)
    cases hf
    exact fk_return X Y dX2_pairLine_161
  · cases hf
    exact fk_return X Y dX2_pairLine_123
def f_X2_pairLine_J73 (g : Nat → Nat) (x0 : Option Nat) (x1 : Int32) (y0 : Int32) (m0 : fk_M) : Option fk_M :=
  if 0 ≤ y0 then (f_X2_pairLine_J87 g x0 x1 y0 m0) else ((gI m0 x0 1 4).bind fun z1 => (isO m0 x0 1).bind fun u2 => (f_X2_wrong x0 1 z1 m0).bind fun m3 => f_X2_pairLine_J87 g x0 x1 y0 m3)
set_option maxHeartbeats 4000000 in
theorem w_X2_pairLine_J73 {E : fk_E} {l : Launch} {G : fk_G} {b0 n : Nat} {mF : fk_M} (X : fk_X E l G b0 "FigureKneeModel" "pairLine" cX2_pairLine 5 9 233 0 0) (Y : fk_Y E none none n mF 0 0) (x0 : Option Nat) (x1 : Int32) (y0 : Int32) (m0 : fk_M) (hf : f_X2_pairLine_J73 G.2.2 x0 x1 y0 m0 = some mF) : fk_W E 5 n m0 0 0 73 [(0, tR x0), (1, tI x1)] [tI y0] := by
  unfold f_X2_pairLine_J73 at hf
  refine fk_istore_n X [(2, tI y0), (0, tR x0), (1, tI x1)] dX2_pairLine_73 rfl rfl ?_
  refine fk_iload_n X 0 dX2_pairLine_74 rfl ?_
  refine fk_if_ge' X 87 dX2_pairLine_75 rfl hf (fun hf => ?_) (fun hf => ?_)
  · exact fk_cut' (w_X2_pairLine_J87 X Y x0 x1 y0 m0 hf) [1, 2, 0] rfl
  · refine fk_aload_n X 1 dX2_pairLine_78 rfl ?_
    refine fk_iconst (v := 1) X dX2_pairLine_79 rfl ?_
    refine fk_aload_n X 1 dX2_pairLine_80 rfl ?_
    refine fk_getI' X fd_1_4 q1530 dX2_pairLine_81 hf (fun z1 hf => ?_)
    obtain ⟨u2, hq, hf⟩ := bI hf
    obtain ⟨m3, hv, hf⟩ := bI hf
    refine fk_callV0V (ci := 1) (rest := []) X hq rfl (c_X2_wrong hv) n_X2_wrong q1722 q1724 qs70 q126 q1725 rfl dX2_pairLine_84 rfl rfl rfl rfl rfl (Nat.le_refl _) (Nat.le_refl _) ?_
    exact fk_cut' (w_X2_pairLine_J87 X Y x0 x1 y0 m3 hf) [1, 2, 0] rfl
def f_X2_pairLine (g : Nat → Nat) (a0 : Option Nat) (m0 : fk_M) : Option fk_M :=
  (gI m0 a0 1 13).bind fun z1 => if z1 = 0 then ((gR m0 a0 1 16).bind fun z2 => (aI m0 z2 0 2).bind fun z3 => (isO m0 a0 1).bind fun u4 => (f_X2_newName g a0 z3 m0).bind fun m5 => (isO m5 a0 1).bind fun u6 => (f_X2_isWord g a0 (some (g 32)) m5).bind fun z7 => if z7 = 0 then ((isO m5 a0 1).bind fun u8 => (f_X2_isWord g a0 (some (g 33)) m5).bind fun z9 => if z9 = 0 then ((isO m5 a0 1).bind fun u10 => (f_X2_isWord g a0 (some (g 34)) m5).bind fun z11 => if z11 = 0 then ((isO m5 a0 1).bind fun u12 => (f_X2_isWord g a0 (some (g 35)) m5).bind fun z13 => f_X2_pairLine_J73 g a0 z3 (if z13 = 0 then ((-1) : Int32) else 3) m5) else (f_X2_pairLine_J73 g a0 z3 2 m5)) else (f_X2_pairLine_J73 g a0 z3 1 m5)) else (f_X2_pairLine_J73 g a0 z3 0 m5)) else (some m0)
set_option maxHeartbeats 4000000 in
theorem c_X2_pairLine {l : Launch} {G : fk_G} {b0 : Nat} {n : Nat} {a0 : Option Nat} {m0 : fk_M} {mF : fk_M} (hf : f_X2_pairLine G.2.2 a0 m0 = some mF) : fk_Ct l G b0 yX2_pairLine cX2_pairLine 5 none 9 233 [tR a0] n m0 none n mF 0 0 := by
  refine fk_enter n_X2_pairLine.1 rfl ?_
  intro E X0 Y
  have X : fk_X E l G b0 "FigureKneeModel" "pairLine" cX2_pairLine 5 9 233 0 0 := X0
  show fk_W E 5 n m0 0 0 0 [(0, tR a0)] []
  unfold f_X2_pairLine at hf
  refine fk_aload_n X 0 dX2_pairLine_0 rfl ?_
  refine fk_getI' X fd_1_13 q1539 dX2_pairLine_1 hf (fun z1 hf => ?_)
  refine fk_if_eq' X 8 dX2_pairLine_4 rfl hf (fun hf => ?_) (fun hf => ?_)
  · refine fk_aload_n X 0 dX2_pairLine_8 rfl ?_
    refine fk_getR' X fd_1_16 q1542 dX2_pairLine_9 hf (fun z2 hf => ?_)
    refine fk_iconst (v := 2) X dX2_pairLine_12 rfl ?_
    refine fk_iaload' X dX2_pairLine_13 hf (fun z3 hf => ?_)
    refine fk_istore_n X [(1, tI z3), (0, tR a0)] dX2_pairLine_14 rfl rfl ?_
    refine fk_aload_n X 1 dX2_pairLine_15 rfl ?_
    refine fk_iload_n X 0 dX2_pairLine_16 rfl ?_
    obtain ⟨u4, hq, hf⟩ := bI hf
    obtain ⟨m5, hv, hf⟩ := bI hf
    refine fk_callV0V (ci := 1) (rest := []) X hq rfl (c_X2_newName hv) n_X2_newName q1761 q1763 qs79 q126 q1764 rfl dX2_pairLine_17 rfl rfl rfl rfl rfl (Nat.le_refl _) (Nat.le_refl _) ?_
    refine fk_aload_n X 1 dX2_pairLine_20 rfl ?_
    refine fk_ldcS (i := 32) X rfl dX2_pairLine_21 ?_
    obtain ⟨u6, hq, hf⟩ := bI hf
    obtain ⟨z7, hv, hf⟩ := bI hf
    refine fk_callV0I (ci := 1) (rest := []) X hq rfl (c_X2_isWord hv) n_X2_isWord q1695 q1697 qs68 q126 q1698 rfl dX2_pairLine_23 rfl rfl rfl rfl rfl (Nat.le_refl _) (Nat.le_refl _) ?_
    refine fk_if_eq' X 33 dX2_pairLine_26 rfl hf (fun hf => ?_) (fun hf => ?_)
    · refine fk_aload_n X 1 dX2_pairLine_33 rfl ?_
      refine fk_ldcS (i := 33) X rfl dX2_pairLine_34 ?_
      obtain ⟨u8, hq, hf⟩ := bI hf
      obtain ⟨z9, hv, hf⟩ := bI hf
      refine fk_callV0I (ci := 1) (rest := []) X hq rfl (c_X2_isWord hv) n_X2_isWord q1695 q1697 qs68 q126 q1698 rfl dX2_pairLine_36 rfl rfl rfl rfl rfl (Nat.le_refl _) (Nat.le_refl _) ?_
      refine fk_if_eq' X 46 dX2_pairLine_39 rfl hf (fun hf => ?_) (fun hf => ?_)
      · refine fk_aload_n X 1 dX2_pairLine_46 rfl ?_
        refine fk_ldcS (i := 34) X rfl dX2_pairLine_47 ?_
        obtain ⟨u10, hq, hf⟩ := bI hf
        obtain ⟨z11, hv, hf⟩ := bI hf
        refine fk_callV0I (ci := 1) (rest := []) X hq rfl (c_X2_isWord hv) n_X2_isWord q1695 q1697 qs68 q126 q1698 rfl dX2_pairLine_49 rfl rfl rfl rfl rfl (Nat.le_refl _) (Nat.le_refl _) ?_
        refine fk_if_eq' X 59 dX2_pairLine_52 rfl hf (fun hf => ?_) (fun hf => ?_)
        · refine fk_aload_n X 1 dX2_pairLine_59 rfl ?_
          refine fk_ldcS (i := 35) X rfl dX2_pairLine_60 ?_
          obtain ⟨u12, hq, hf⟩ := bI hf
          obtain ⟨z13, hv, hf⟩ := bI hf
          refine fk_callV0I (ci := 1) (rest := []) X hq rfl (c_X2_isWord hv) n_X2_isWord q1695 q1697 qs68 q126 q1698 rfl dX2_pairLine_62 rfl rfl rfl rfl rfl (Nat.le_refl _) (Nat.le_refl _) ?_
          have J1 : fk_W E 5 n m5 0 0 73 [(1, tI z3), (0, tR a0)] [tI (if z13 = 0 then ((-1) : Int32) else 3)] := by
            exact fk_cut' (w_X2_pairLine_J73 X Y a0 z3 (if z13 = 0 then ((-1) : Int32) else 3) m5 hf) [1, 0] rfl
          refine fk_if_eq X 72 dX2_pairLine_65 rfl (fun hc2 => ?_) (fun hc2 => ?_)
          · refine fk_iconst (v := (-1)) X dX2_pairLine_72 rfl ?_
            simp only [if_pos hc2] at J1
            exact fk_cut' J1 [0, 1] rfl
          · refine fk_iconst (v := 3) X dX2_pairLine_68 rfl ?_
            refine fk_goto X 73 dX2_pairLine_69 rfl ?_
            simp only [if_neg hc2] at J1
            exact fk_cut' J1 [0, 1] rfl
        · refine fk_iconst (v := 2) X dX2_pairLine_55 rfl ?_
          refine fk_goto X 73 dX2_pairLine_56 rfl ?_
          exact fk_cut' (w_X2_pairLine_J73 X Y a0 z3 2 m5 hf) [1, 0] rfl
      · refine fk_iconst (v := 1) X dX2_pairLine_42 rfl ?_
        refine fk_goto X 73 dX2_pairLine_43 rfl ?_
        exact fk_cut' (w_X2_pairLine_J73 X Y a0 z3 1 m5 hf) [1, 0] rfl
    · refine fk_iconst (v := 0) X dX2_pairLine_29 rfl ?_
      refine fk_goto X 73 dX2_pairLine_30 rfl ?_
      exact fk_cut' (w_X2_pairLine_J73 X Y a0 z3 0 m5 hf) [1, 0] rfl
  · cases hf
    exact fk_return X Y dX2_pairLine_7
/-! FigureKneeModel pairHere ()I -/
theorem n_X2_pairHere : fk_N yX2_pairHere 0 := ⟨by decide +kernel, by decide +kernel, by decide +kernel, by decide +kernel⟩
def f_X2_pairHere_J40 (g : Nat → Nat) (x0 : Option Nat) (x1 : Int32) (m0 : fk_M) : Option (Int32 × fk_M) :=
  (gI m0 x0 1 13).bind fun z1 => some ((if z1 = 0 then x1 else 0), m0)
set_option maxHeartbeats 4000000 in
theorem w_X2_pairHere_J40 {E : fk_E} {l : Launch} {G : fk_G} {b0 n : Nat} {r : Int32} {mF : fk_M} (X : fk_X E l G b0 "FigureKneeModel" "pairHere" cX2_pairHere 2 7 188 0 0) (Y : fk_Y E (some .int) (some (tI r)) n mF 0 0) (x0 : Option Nat) (x1 : Int32)  (m0 : fk_M) (hf : f_X2_pairHere_J40 G.2.2 x0 x1 m0 = some (r, mF)) : fk_W E 2 n m0 0 0 40 [(0, tR x0), (1, tI x1)] [] := by
  unfold f_X2_pairHere_J40 at hf
  refine fk_aload_n X 0 dX2_pairHere_40 rfl ?_
  refine fk_getI' X fd_1_13 q1539 dX2_pairHere_41 hf (fun z1 hf => ?_)
  have J1 : fk_W E 2 n m0 0 0 52 [] [tI (if z1 = 0 then x1 else 0)] := by
    cases hf
    exact fk_ireturn X Y dX2_pairHere_52 rfl
  refine fk_if_eq X 51 dX2_pairHere_44 rfl (fun hc2 => ?_) (fun hc2 => ?_)
  · refine fk_iload_n X 1 dX2_pairHere_51 rfl ?_
    simp only [if_pos hc2] at J1
    exact fk_cut' J1 [] rfl
  · refine fk_iconst (v := 0) X dX2_pairHere_47 rfl ?_
    refine fk_goto X 52 dX2_pairHere_48 rfl ?_
    simp only [if_neg hc2] at J1
    exact fk_cut' J1 [] rfl
def f_X2_pairHere (g : Nat → Nat) (a0 : Option Nat) (m0 : fk_M) : Option (Int32 × fk_M) :=
  (gI m0 a0 1 13).bind fun z1 => if z1 = 0 then ((isO m0 a0 1).bind fun u2 => (f_X2_mustName g a0 m0).bind fun m3 => (gI m3 a0 1 13).bind fun z4 => if z4 = 0 then ((isO m3 a0 1).bind fun u5 => (f_X2_find a0 m3).bind fun z6 => if 0 ≤ z6 then (f_X2_pairHere_J40 g a0 z6 m3) else ((gI m3 a0 1 4).bind fun z7 => (isO m3 a0 1).bind fun u8 => (f_X2_wrong a0 2 z7 m3).bind fun m9 => f_X2_pairHere_J40 g a0 z6 m9)) else (some (0, m3))) else (some (0, m0))
set_option maxHeartbeats 4000000 in
theorem c_X2_pairHere {l : Launch} {G : fk_G} {b0 : Nat} {n : Nat} {a0 : Option Nat} {m0 : fk_M} {r : Int32} {mF : fk_M} (hf : f_X2_pairHere G.2.2 a0 m0 = some (r, mF)) : fk_Ct l G b0 yX2_pairHere cX2_pairHere 2 (some .int) 7 188 [tR a0] n m0 (some (tI r)) n mF 0 0 := by
  refine fk_enter n_X2_pairHere.1 rfl ?_
  intro E X0 Y
  have X : fk_X E l G b0 "FigureKneeModel" "pairHere" cX2_pairHere 2 7 188 0 0 := X0
  show fk_W E 2 n m0 0 0 0 [(0, tR a0)] []
  unfold f_X2_pairHere at hf
  refine fk_aload_n X 0 dX2_pairHere_0 rfl ?_
  refine fk_getI' X fd_1_13 q1539 dX2_pairHere_1 hf (fun z1 hf => ?_)
  refine fk_if_eq' X 9 dX2_pairHere_4 rfl hf (fun hf => ?_) (fun hf => ?_)
  · refine fk_aload_n X 0 dX2_pairHere_9 rfl ?_
    obtain ⟨u2, hq, hf⟩ := bI hf
    obtain ⟨m3, hv, hf⟩ := bI hf
    refine fk_callV0V (ci := 1) (rest := []) X hq rfl (c_X2_mustName hv) n_X2_mustName q1765 q1767 qs80 q126 q1768 rfl dX2_pairHere_10 rfl rfl rfl rfl rfl (Nat.le_refl _) (Nat.le_refl _) ?_
    refine fk_aload_n X 0 dX2_pairHere_13 rfl ?_
    refine fk_getI' X fd_1_13 q1539 dX2_pairHere_14 hf (fun z4 hf => ?_)
    refine fk_if_eq' X 22 dX2_pairHere_17 rfl hf (fun hf => ?_) (fun hf => ?_)
    · refine fk_aload_n X 0 dX2_pairHere_22 rfl ?_
      obtain ⟨u5, hq, hf⟩ := bI hf
      obtain ⟨z6, hv, hf⟩ := bI hf
      refine fk_callV0I (ci := 1) (rest := []) X hq rfl (c_X2_find hv) n_X2_find q1773 q1775 qs81 q126 q1776 rfl dX2_pairHere_23 rfl rfl rfl rfl rfl (Nat.le_refl _) (Nat.le_refl _) ?_
      refine fk_istore_n X [(1, tI z6), (0, tR a0)] dX2_pairHere_26 rfl rfl ?_
      refine fk_iload_n X 0 dX2_pairHere_27 rfl ?_
      refine fk_if_ge' X 40 dX2_pairHere_28 rfl hf (fun hf => ?_) (fun hf => ?_)
      · exact fk_cut' (w_X2_pairHere_J40 X Y a0 z6 m3 hf) [1, 0] rfl
      · refine fk_aload_n X 1 dX2_pairHere_31 rfl ?_
        refine fk_iconst (v := 2) X dX2_pairHere_32 rfl ?_
        refine fk_aload_n X 1 dX2_pairHere_33 rfl ?_
        refine fk_getI' X fd_1_4 q1530 dX2_pairHere_34 hf (fun z7 hf => ?_)
        obtain ⟨u8, hq, hf⟩ := bI hf
        obtain ⟨m9, hv, hf⟩ := bI hf
        refine fk_callV0V (ci := 1) (rest := []) X hq rfl (c_X2_wrong hv) n_X2_wrong q1722 q1724 qs70 q126 q1725 rfl dX2_pairHere_37 rfl rfl rfl rfl rfl (Nat.le_refl _) (Nat.le_refl _) ?_
        exact fk_cut' (w_X2_pairHere_J40 X Y a0 z6 m9 hf) [1, 0] rfl
    · refine fk_iconst (v := 0) X dX2_pairHere_20 rfl ?_
      cases hf
      exact fk_ireturn X Y dX2_pairHere_21 rfl
  · refine fk_iconst (v := 0) X dX2_pairHere_7 rfl ?_
    cases hf
    exact fk_ireturn X Y dX2_pairHere_8 rfl
/-! FigureKneeModel contractLine ()V -/
theorem n_X2_contractLine : fk_N yX2_contractLine 0 := ⟨by decide +kernel, by decide +kernel, by decide +kernel, by decide +kernel⟩
def f_X2_contractLine_J33 (g : Nat → Nat) (x0 : Option Nat) (x1 : Int32) (m0 : fk_M) : Option fk_M :=
  (isO m0 x0 1).bind fun u1 => (f_X2_pass x0 m0).bind fun m2 => (isO m2 x0 1).bind fun u3 => bn2 (f_X2_after g x0 (some (g 38)) 1 9 m2) fun z4 m5 => (gI m5 x0 1 13).bind fun z6 => if z6 = 0 then ((gR m5 x0 1 16).bind fun z7 => (sI m5 z7 0 (13 + x1) z4).bind fun m8 => (gR m8 x0 1 16).bind fun z9 => (aI m8 z9 0 3).bind fun z10 => (sI m8 z9 0 3 (z10 + 1)).bind fun m11 => some m11) else (some m5)
set_option maxHeartbeats 4000000 in
theorem w_X2_contractLine_J33 {E : fk_E} {l : Launch} {G : fk_G} {b0 n : Nat} {mF : fk_M} (X : fk_X E l G b0 "FigureKneeModel" "contractLine" cX2_contractLine 3 9 233 0 0) (Y : fk_Y E none none n mF 0 0) (x0 : Option Nat) (x1 : Int32)  (m0 : fk_M) (hf : f_X2_contractLine_J33 G.2.2 x0 x1 m0 = some mF) : fk_W E 3 n m0 0 0 33 [(0, tR x0), (1, tI x1)] [] := by
  unfold f_X2_contractLine_J33 at hf
  refine fk_aload_n X 0 dX2_contractLine_33 rfl ?_
  obtain ⟨u1, hq, hf⟩ := bI hf
  obtain ⟨m2, hv, hf⟩ := bI hf
  refine fk_callV0V (ci := 1) (rest := []) X hq rfl (c_X2_pass hv) n_X2_pass q1747 q1749 qs76 q126 q1750 rfl dX2_contractLine_34 rfl rfl rfl rfl rfl (Nat.le_refl _) (Nat.le_refl _) ?_
  refine fk_aload_n X 0 dX2_contractLine_37 rfl ?_
  refine fk_ldcS (i := 38) X rfl dX2_contractLine_38 ?_
  refine fk_iconst (v := 1) X dX2_contractLine_40 rfl ?_
  refine fk_bipush (v := 9) X dX2_contractLine_41 rfl ?_
  obtain ⟨u3, hq, hf⟩ := bI hf
  obtain ⟨z4, m5, hv, hf⟩ := bn2_eq hf
  refine fk_callV0I (ci := 1) (rest := []) X hq rfl (c_X2_after hv) n_X2_after q1727 q1729 qs71 q126 q1730 rfl dX2_contractLine_43 rfl rfl rfl rfl rfl (Nat.le_refl _) (Nat.le_refl _) ?_
  refine fk_istore_n X [(2, tI z4), (0, tR x0), (1, tI x1)] dX2_contractLine_46 rfl rfl ?_
  refine fk_aload_n X 1 dX2_contractLine_47 rfl ?_
  refine fk_getI' X fd_1_13 q1539 dX2_contractLine_48 hf (fun z6 hf => ?_)
  refine fk_if_eq' X 55 dX2_contractLine_51 rfl hf (fun hf => ?_) (fun hf => ?_)
  · refine fk_aload_n X 1 dX2_contractLine_55 rfl ?_
    refine fk_getR' X fd_1_16 q1542 dX2_contractLine_56 hf (fun z7 hf => ?_)
    refine fk_bipush (v := 13) X dX2_contractLine_59 rfl ?_
    refine fk_iload_n X 2 dX2_contractLine_61 rfl ?_
    refine fk_iadd X dX2_contractLine_62 ?_
    refine fk_iload_n X 0 dX2_contractLine_63 rfl ?_
    refine fk_iastore' X dX2_contractLine_64 hf (fun m8 hf => ?_)
    refine fk_aload_n X 1 dX2_contractLine_65 rfl ?_
    refine fk_getR' X fd_1_16 q1542 dX2_contractLine_66 hf (fun z9 hf => ?_)
    refine fk_iconst (v := 3) X dX2_contractLine_69 rfl ?_
    refine fk_dup2 X dX2_contractLine_70 rfl rfl ?_
    refine fk_iaload' X dX2_contractLine_71 hf (fun z10 hf => ?_)
    refine fk_iconst (v := 1) X dX2_contractLine_72 rfl ?_
    refine fk_iadd X dX2_contractLine_73 ?_
    refine fk_iastore' X dX2_contractLine_74 hf (fun m11 hf => ?_)
    cases hf
    exact fk_return X Y dX2_contractLine_75
  · cases hf
    exact fk_return X Y dX2_contractLine_54
def f_X2_contractLine (g : Nat → Nat) (a0 : Option Nat) (m0 : fk_M) : Option fk_M :=
  (isO m0 a0 1).bind fun u1 => bn2 (f_X2_pairHere g a0 m0) fun z2 m3 => (gI m3 a0 1 13).bind fun z4 => if z4 = 0 then ((gR m3 a0 1 16).bind fun z5 => (aI m3 z5 0 (13 + z2)).bind fun z6 => if z6 ≤ 0 then (f_X2_contractLine_J33 g a0 z2 m3) else ((gI m3 a0 1 4).bind fun z7 => (isO m3 a0 1).bind fun u8 => (f_X2_wrong a0 3 z7 m3).bind fun m9 => f_X2_contractLine_J33 g a0 z2 m9)) else (f_X2_contractLine_J33 g a0 z2 m3)
set_option maxHeartbeats 4000000 in
theorem c_X2_contractLine {l : Launch} {G : fk_G} {b0 : Nat} {n : Nat} {a0 : Option Nat} {m0 : fk_M} {mF : fk_M} (hf : f_X2_contractLine G.2.2 a0 m0 = some mF) : fk_Ct l G b0 yX2_contractLine cX2_contractLine 3 none 9 233 [tR a0] n m0 none n mF 0 0 := by
  refine fk_enter n_X2_contractLine.1 rfl ?_
  intro E X0 Y
  have X : fk_X E l G b0 "FigureKneeModel" "contractLine" cX2_contractLine 3 9 233 0 0 := X0
  show fk_W E 3 n m0 0 0 0 [(0, tR a0)] []
  unfold f_X2_contractLine at hf
  refine fk_aload_n X 0 dX2_contractLine_0 rfl ?_
  obtain ⟨u1, hq, hf⟩ := bI hf
  obtain ⟨z2, m3, hv, hf⟩ := bn2_eq hf
  refine fk_callV0I (ci := 1) (rest := []) X hq rfl (c_X2_pairHere hv) n_X2_pairHere q1787 q1789 qs83 q126 q1790 rfl dX2_contractLine_1 rfl rfl rfl rfl rfl (Nat.le_refl _) (Nat.le_refl _) ?_
  refine fk_istore_n X [(1, tI z2), (0, tR a0)] dX2_contractLine_4 rfl rfl ?_
  refine fk_aload_n X 1 dX2_contractLine_5 rfl ?_
  refine fk_getI' X fd_1_13 q1539 dX2_contractLine_6 hf (fun z4 hf => ?_)
  refine fk_if_ne' X 33 dX2_contractLine_9 rfl hf (fun hf => ?_) (fun hf => ?_)
  · exact fk_cut' (w_X2_contractLine_J33 X Y a0 z2 m3 hf) [1, 0] rfl
  · refine fk_aload_n X 1 dX2_contractLine_12 rfl ?_
    refine fk_getR' X fd_1_16 q1542 dX2_contractLine_13 hf (fun z5 hf => ?_)
    refine fk_bipush (v := 13) X dX2_contractLine_16 rfl ?_
    refine fk_iload_n X 0 dX2_contractLine_18 rfl ?_
    refine fk_iadd X dX2_contractLine_19 ?_
    refine fk_iaload' X dX2_contractLine_20 hf (fun z6 hf => ?_)
    refine fk_if_le' X 33 dX2_contractLine_21 rfl hf (fun hf => ?_) (fun hf => ?_)
    · exact fk_cut' (w_X2_contractLine_J33 X Y a0 z2 m3 hf) [1, 0] rfl
    · refine fk_aload_n X 1 dX2_contractLine_24 rfl ?_
      refine fk_iconst (v := 3) X dX2_contractLine_25 rfl ?_
      refine fk_aload_n X 1 dX2_contractLine_26 rfl ?_
      refine fk_getI' X fd_1_4 q1530 dX2_contractLine_27 hf (fun z7 hf => ?_)
      obtain ⟨u8, hq, hf⟩ := bI hf
      obtain ⟨m9, hv, hf⟩ := bI hf
      refine fk_callV0V (ci := 1) (rest := []) X hq rfl (c_X2_wrong hv) n_X2_wrong q1722 q1724 qs70 q126 q1725 rfl dX2_contractLine_30 rfl rfl rfl rfl rfl (Nat.le_refl _) (Nat.le_refl _) ?_
      exact fk_cut' (w_X2_contractLine_J33 X Y a0 z2 m9 hf) [1, 0] rfl
/-! FigureKneeModel debtLine ()V -/
theorem n_X2_debtLine : fk_N yX2_debtLine 0 := ⟨by decide +kernel, by decide +kernel, by decide +kernel, by decide +kernel⟩
def f_X2_debtLine_J51 (g : Nat → Nat) (x0 : Option Nat) (x1 : Int32) (x2 : Int32) (m0 : fk_M) : Option fk_M :=
  (isO m0 x0 1).bind fun u1 => (f_X2_pass x0 m0).bind fun m2 => (isO m2 x0 1).bind fun u3 => bn2 (f_X2_number x0 1 99 m2) fun z4 m5 => (gI m5 x0 1 13).bind fun z6 => if z6 = 0 then ((gR m5 x0 1 18).bind fun z7 => (sI m5 z7 0 ((10 + (5 * x1)) + x2) z4).bind fun m8 => (gR m8 x0 1 16).bind fun z9 => (aI m8 z9 0 4).bind fun z10 => (sI m8 z9 0 4 (z10 + 1)).bind fun m11 => some m11) else (some m5)
set_option maxHeartbeats 4000000 in
theorem w_X2_debtLine_J51 {E : fk_E} {l : Launch} {G : fk_G} {b0 n : Nat} {mF : fk_M} (X : fk_X E l G b0 "FigureKneeModel" "debtLine" cX2_debtLine 4 8 209 0 0) (Y : fk_Y E none none n mF 0 0) (x0 : Option Nat) (x1 : Int32) (x2 : Int32)  (m0 : fk_M) (hf : f_X2_debtLine_J51 G.2.2 x0 x1 x2 m0 = some mF) : fk_W E 4 n m0 0 0 51 [(0, tR x0), (1, tI x1), (2, tI x2)] [] := by
  unfold f_X2_debtLine_J51 at hf
  refine fk_aload_n X 0 dX2_debtLine_51 rfl ?_
  obtain ⟨u1, hq, hf⟩ := bI hf
  obtain ⟨m2, hv, hf⟩ := bI hf
  refine fk_callV0V (ci := 1) (rest := []) X hq rfl (c_X2_pass hv) n_X2_pass q1747 q1749 qs76 q126 q1750 rfl dX2_debtLine_52 rfl rfl rfl rfl rfl (Nat.le_refl _) (Nat.le_refl _) ?_
  refine fk_aload_n X 0 dX2_debtLine_55 rfl ?_
  refine fk_iconst (v := 1) X dX2_debtLine_56 rfl ?_
  refine fk_bipush (v := 99) X dX2_debtLine_57 rfl ?_
  obtain ⟨u3, hq, hf⟩ := bI hf
  obtain ⟨z4, m5, hv, hf⟩ := bn2_eq hf
  refine fk_callV0I (ci := 1) (rest := []) X hq rfl (c_X2_number hv) n_X2_number q1739 q1741 qs74 q126 q1742 rfl dX2_debtLine_59 rfl rfl rfl rfl rfl (Nat.le_refl _) (Nat.le_refl _) ?_
  refine fk_istore_n X [(3, tI z4), (0, tR x0), (1, tI x1), (2, tI x2)] dX2_debtLine_62 rfl rfl ?_
  refine fk_aload_n X 1 dX2_debtLine_63 rfl ?_
  refine fk_getI' X fd_1_13 q1539 dX2_debtLine_64 hf (fun z6 hf => ?_)
  refine fk_if_eq' X 71 dX2_debtLine_67 rfl hf (fun hf => ?_) (fun hf => ?_)
  · refine fk_aload_n X 1 dX2_debtLine_71 rfl ?_
    refine fk_getR' X fd_1_18 q1544 dX2_debtLine_72 hf (fun z7 hf => ?_)
    refine fk_bipush (v := 10) X dX2_debtLine_75 rfl ?_
    refine fk_iconst (v := 5) X dX2_debtLine_77 rfl ?_
    refine fk_iload_n X 2 dX2_debtLine_78 rfl ?_
    refine fk_imul X dX2_debtLine_79 ?_
    refine fk_iadd X dX2_debtLine_80 ?_
    refine fk_iload_n X 3 dX2_debtLine_81 rfl ?_
    refine fk_iadd X dX2_debtLine_82 ?_
    refine fk_iload_n X 0 dX2_debtLine_83 rfl ?_
    refine fk_iastore' X dX2_debtLine_84 hf (fun m8 hf => ?_)
    refine fk_aload_n X 1 dX2_debtLine_85 rfl ?_
    refine fk_getR' X fd_1_16 q1542 dX2_debtLine_86 hf (fun z9 hf => ?_)
    refine fk_iconst (v := 4) X dX2_debtLine_89 rfl ?_
    refine fk_dup2 X dX2_debtLine_90 rfl rfl ?_
    refine fk_iaload' X dX2_debtLine_91 hf (fun z10 hf => ?_)
    refine fk_iconst (v := 1) X dX2_debtLine_92 rfl ?_
    refine fk_iadd X dX2_debtLine_93 ?_
    refine fk_iastore' X dX2_debtLine_94 hf (fun m11 hf => ?_)
    cases hf
    exact fk_return X Y dX2_debtLine_95
  · cases hf
    exact fk_return X Y dX2_debtLine_70
def f_X2_debtLine_J42 (g : Nat → Nat) (x0 : Option Nat) (x1 : Int32) (x2 : Int32) (m0 : fk_M) : Option fk_M :=
  (gI m0 x0 1 4).bind fun z1 => (isO m0 x0 1).bind fun u2 => (f_X2_wrong x0 3 z1 m0).bind fun m3 => f_X2_debtLine_J51 g x0 x1 x2 m3
set_option maxHeartbeats 4000000 in
theorem w_X2_debtLine_J42 {E : fk_E} {l : Launch} {G : fk_G} {b0 n : Nat} {mF : fk_M} (X : fk_X E l G b0 "FigureKneeModel" "debtLine" cX2_debtLine 4 8 209 0 0) (Y : fk_Y E none none n mF 0 0) (x0 : Option Nat) (x1 : Int32) (x2 : Int32)  (m0 : fk_M) (hf : f_X2_debtLine_J42 G.2.2 x0 x1 x2 m0 = some mF) : fk_W E 4 n m0 0 0 42 [(0, tR x0), (1, tI x1), (2, tI x2)] [] := by
  unfold f_X2_debtLine_J42 at hf
  refine fk_aload_n X 0 dX2_debtLine_42 rfl ?_
  refine fk_iconst (v := 3) X dX2_debtLine_43 rfl ?_
  refine fk_aload_n X 0 dX2_debtLine_44 rfl ?_
  refine fk_getI' X fd_1_4 q1530 dX2_debtLine_45 hf (fun z1 hf => ?_)
  obtain ⟨u2, hq, hf⟩ := bI hf
  obtain ⟨m3, hv, hf⟩ := bI hf
  refine fk_callV0V (ci := 1) (rest := []) X hq rfl (c_X2_wrong hv) n_X2_wrong q1722 q1724 qs70 q126 q1725 rfl dX2_debtLine_48 rfl rfl rfl rfl rfl (Nat.le_refl _) (Nat.le_refl _) ?_
  exact fk_cut' (w_X2_debtLine_J51 X Y x0 x1 x2 m3 hf) [0, 1, 2] rfl
def f_X2_debtLine (g : Nat → Nat) (a0 : Option Nat) (m0 : fk_M) : Option fk_M :=
  (isO m0 a0 1).bind fun u1 => bn2 (f_X2_pairHere g a0 m0) fun z2 m3 => (isO m3 a0 1).bind fun u4 => (f_X2_pass a0 m3).bind fun m5 => (isO m5 a0 1).bind fun u6 => bn2 (f_X2_pairHere g a0 m5) fun z7 m8 => (gI m8 a0 1 13).bind fun z9 => if z9 = 0 then (if z2 = z7 then (f_X2_debtLine_J42 g a0 z2 z7 m8) else ((gR m8 a0 1 18).bind fun z10 => (aI m8 z10 0 ((10 + (5 * z2)) + z7)).bind fun z11 => if z11 ≤ 0 then (f_X2_debtLine_J51 g a0 z2 z7 m8) else (f_X2_debtLine_J42 g a0 z2 z7 m8))) else (f_X2_debtLine_J51 g a0 z2 z7 m8)
set_option maxHeartbeats 4000000 in
theorem c_X2_debtLine {l : Launch} {G : fk_G} {b0 : Nat} {n : Nat} {a0 : Option Nat} {m0 : fk_M} {mF : fk_M} (hf : f_X2_debtLine G.2.2 a0 m0 = some mF) : fk_Ct l G b0 yX2_debtLine cX2_debtLine 4 none 8 209 [tR a0] n m0 none n mF 0 0 := by
  refine fk_enter n_X2_debtLine.1 rfl ?_
  intro E X0 Y
  have X : fk_X E l G b0 "FigureKneeModel" "debtLine" cX2_debtLine 4 8 209 0 0 := X0
  show fk_W E 4 n m0 0 0 0 [(0, tR a0)] []
  unfold f_X2_debtLine at hf
  refine fk_aload_n X 0 dX2_debtLine_0 rfl ?_
  obtain ⟨u1, hq, hf⟩ := bI hf
  obtain ⟨z2, m3, hv, hf⟩ := bn2_eq hf
  refine fk_callV0I (ci := 1) (rest := []) X hq rfl (c_X2_pairHere hv) n_X2_pairHere q1787 q1789 qs83 q126 q1790 rfl dX2_debtLine_1 rfl rfl rfl rfl rfl (Nat.le_refl _) (Nat.le_refl _) ?_
  refine fk_istore_n X [(1, tI z2), (0, tR a0)] dX2_debtLine_4 rfl rfl ?_
  refine fk_aload_n X 1 dX2_debtLine_5 rfl ?_
  obtain ⟨u4, hq, hf⟩ := bI hf
  obtain ⟨m5, hv, hf⟩ := bI hf
  refine fk_callV0V (ci := 1) (rest := []) X hq rfl (c_X2_pass hv) n_X2_pass q1747 q1749 qs76 q126 q1750 rfl dX2_debtLine_6 rfl rfl rfl rfl rfl (Nat.le_refl _) (Nat.le_refl _) ?_
  refine fk_aload_n X 1 dX2_debtLine_9 rfl ?_
  obtain ⟨u6, hq, hf⟩ := bI hf
  obtain ⟨z7, m8, hv, hf⟩ := bn2_eq hf
  refine fk_callV0I (ci := 1) (rest := []) X hq rfl (c_X2_pairHere hv) n_X2_pairHere q1787 q1789 qs83 q126 q1790 rfl dX2_debtLine_10 rfl rfl rfl rfl rfl (Nat.le_refl _) (Nat.le_refl _) ?_
  refine fk_istore_n X [(2, tI z7), (1, tI z2), (0, tR a0)] dX2_debtLine_13 rfl rfl ?_
  refine fk_aload_n X 2 dX2_debtLine_14 rfl ?_
  refine fk_getI' X fd_1_13 q1539 dX2_debtLine_15 hf (fun z9 hf => ?_)
  refine fk_if_ne' X 51 dX2_debtLine_18 rfl hf (fun hf => ?_) (fun hf => ?_)
  · exact fk_cut' (w_X2_debtLine_J51 X Y a0 z2 z7 m8 hf) [2, 1, 0] rfl
  · refine fk_iload_n X 1 dX2_debtLine_21 rfl ?_
    refine fk_iload_n X 0 dX2_debtLine_22 rfl ?_
    refine fk_icmp_eq' X 42 dX2_debtLine_23 rfl hf (fun hf => ?_) (fun hf => ?_)
    · exact fk_cut' (w_X2_debtLine_J42 X Y a0 z2 z7 m8 hf) [2, 1, 0] rfl
    · refine fk_aload_n X 2 dX2_debtLine_26 rfl ?_
      refine fk_getR' X fd_1_18 q1544 dX2_debtLine_27 hf (fun z10 hf => ?_)
      refine fk_bipush (v := 10) X dX2_debtLine_30 rfl ?_
      refine fk_iconst (v := 5) X dX2_debtLine_32 rfl ?_
      refine fk_iload_n X 1 dX2_debtLine_33 rfl ?_
      refine fk_imul X dX2_debtLine_34 ?_
      refine fk_iadd X dX2_debtLine_35 ?_
      refine fk_iload_n X 0 dX2_debtLine_36 rfl ?_
      refine fk_iadd X dX2_debtLine_37 ?_
      refine fk_iaload' X dX2_debtLine_38 hf (fun z11 hf => ?_)
      refine fk_if_le' X 51 dX2_debtLine_39 rfl hf (fun hf => ?_) (fun hf => ?_)
      · exact fk_cut' (w_X2_debtLine_J51 X Y a0 z2 z7 m8 hf) [2, 1, 0] rfl
      · exact fk_cut' (w_X2_debtLine_J42 X Y a0 z2 z7 m8 hf) [2, 1, 0] rfl
/-! FigureKneeModel unsureLine ()V -/
theorem n_X2_unsureLine : fk_N yX2_unsureLine 0 := ⟨by decide +kernel, by decide +kernel, by decide +kernel, by decide +kernel⟩
def f_X2_unsureLine_J68 (g : Nat → Nat) (R27 : Int32 → fk_M → Option fk_M) (x0 : Option Nat) (x1 : Int32) (x2 : Int32) (x3 : Int32) (m0 : fk_M) : Option fk_M :=
  R27 (x3 + 1) m0
set_option maxHeartbeats 4000000 in
theorem w_X2_unsureLine_J68 {E : fk_E} {l : Launch} {G : fk_G} {b0 n : Nat} {mF : fk_M} (X : fk_X E l G b0 "FigureKneeModel" "unsureLine" cX2_unsureLine 4 8 209 0 0) (Y : fk_Y E none none n mF 0 0) (x0 : Option Nat) (x1 : Int32) (x2 : Int32) (x3 : Int32)  (m0 : fk_M) {R27 : Int32 → fk_M → Option fk_M} (hR27 : ∀ (v3 : Int32) (m9 : fk_M), R27 v3 m9 = some mF → fk_W E 4 n m9 0 0 27 [(0, tR x0), (1, tI x1), (2, tI x2), (3, tI v3)] []) (hf : f_X2_unsureLine_J68 G.2.2 R27 x0 x1 x2 x3 m0 = some mF) : fk_W E 4 n m0 0 0 68 [(0, tR x0), (1, tI x1), (2, tI x2), (3, tI x3)] [] := by
  unfold f_X2_unsureLine_J68 at hf
  refine fk_iinc X 3 [(3, tI (x3 + 1)), (0, tR x0), (1, tI x1), (2, tI x2)] dX2_unsureLine_68 rfl rfl rfl rfl ?_
  refine fk_goto X 27 dX2_unsureLine_71 rfl ?_
  exact fk_cut' (hR27 (x3 + 1) m0  hf) [1, 2, 3, 0] rfl
def f_X2_unsureLine_L27 (g : Nat → Nat) (x0 : Option Nat) (x1 : Int32) (x2 : Int32) : Nat → Int32 → fk_M → Option fk_M
  | 0, _, _ => none
  | N + 1, x3, m0 =>
  (gR m0 x0 1 16).bind fun z1 => (aI m0 z1 0 5).bind fun z2 => if z2 ≤ x3 then ((isO m0 x0 1).bind fun u3 => (f_X2_pass x0 m0).bind fun m4 => (isO m4 x0 1).bind fun u5 => bn2 (f_X2_number x0 0 20 m4) fun z6 m7 => (gI m7 x0 1 13).bind fun z8 => if z8 = 0 then ((gR m7 x0 1 16).bind fun z9 => (sI m7 z9 0 x1 x2).bind fun m10 => (gR m10 x0 1 16).bind fun z11 => (sI m10 z11 0 (x1 + 1) z6).bind fun m12 => (gR m12 x0 1 16).bind fun z13 => (aI m12 z13 0 5).bind fun z14 => (sI m12 z13 0 5 (z14 + 1)).bind fun m15 => some m15) else (some m7)) else ((gI m0 x0 1 13).bind fun z16 => if z16 = 0 then ((gR m0 x0 1 16).bind fun z17 => (aI m0 z17 0 (18 + (2 * x3))).bind fun z18 => if z18 = x2 then ((gI m0 x0 1 4).bind fun z19 => (isO m0 x0 1).bind fun u20 => (f_X2_wrong x0 3 z19 m0).bind fun m21 => f_X2_unsureLine_J68 g (f_X2_unsureLine_L27 g x0 x1 x2 N) x0 x1 x2 x3 m21) else (f_X2_unsureLine_J68 g (f_X2_unsureLine_L27 g x0 x1 x2 N) x0 x1 x2 x3 m0)) else (f_X2_unsureLine_J68 g (f_X2_unsureLine_L27 g x0 x1 x2 N) x0 x1 x2 x3 m0))
set_option maxHeartbeats 4000000 in
theorem w_X2_unsureLine_L27 {E : fk_E} {l : Launch} {G : fk_G} {b0 n : Nat} {mF : fk_M} (X : fk_X E l G b0 "FigureKneeModel" "unsureLine" cX2_unsureLine 4 8 209 0 0) (Y : fk_Y E none none n mF 0 0) (x0 : Option Nat) (x1 : Int32) (x2 : Int32) : ∀ (N : Nat) (x3 : Int32) (m0 : fk_M), f_X2_unsureLine_L27 G.2.2 x0 x1 x2 N x3 m0 = some mF → fk_W E 4 n m0 0 0 27 [(0, tR x0), (1, tI x1), (2, tI x2), (3, tI x3)] [] := by
  intro N
  induction N with
  | zero =>
    intro x3 m0 hf
    have hf : (none : Option fk_M) = some _ := hf
    cases hf
  | succ N ih =>
    intro x3 m0 hf
    rw [f_X2_unsureLine_L27] at hf
    refine fk_iload_n X 3 dX2_unsureLine_27 rfl ?_
    refine fk_aload_n X 0 dX2_unsureLine_28 rfl ?_
    refine fk_getR' X fd_1_16 q1542 dX2_unsureLine_29 hf (fun z1 hf => ?_)
    refine fk_iconst (v := 5) X dX2_unsureLine_32 rfl ?_
    refine fk_iaload' X dX2_unsureLine_33 hf (fun z2 hf => ?_)
    refine fk_icmp_ge' X 74 dX2_unsureLine_34 rfl hf (fun hf => ?_) (fun hf => ?_)
    · refine fk_aload_n X 0 dX2_unsureLine_74 rfl ?_
      obtain ⟨u3, hq, hf⟩ := bI hf
      obtain ⟨m4, hv, hf⟩ := bI hf
      refine fk_callV0V (ci := 1) (rest := []) X hq rfl (c_X2_pass hv) n_X2_pass q1747 q1749 qs76 q126 q1750 rfl dX2_unsureLine_75 rfl rfl rfl rfl rfl (Nat.le_refl _) (Nat.le_refl _) ?_
      refine fk_aload_n X 0 dX2_unsureLine_78 rfl ?_
      refine fk_iconst (v := 0) X dX2_unsureLine_79 rfl ?_
      refine fk_bipush (v := 20) X dX2_unsureLine_80 rfl ?_
      obtain ⟨u5, hq, hf⟩ := bI hf
      obtain ⟨z6, m7, hv, hf⟩ := bn2_eq hf
      refine fk_callV0I (ci := 1) (rest := []) X hq rfl (c_X2_number hv) n_X2_number q1739 q1741 qs74 q126 q1742 rfl dX2_unsureLine_82 rfl rfl rfl rfl rfl (Nat.le_refl _) (Nat.le_refl _) ?_
      refine fk_istore_n X [(3, tI z6), (0, tR x0), (1, tI x1), (2, tI x2)] dX2_unsureLine_85 rfl rfl ?_
      refine fk_aload_n X 1 dX2_unsureLine_86 rfl ?_
      refine fk_getI' X fd_1_13 q1539 dX2_unsureLine_87 hf (fun z8 hf => ?_)
      refine fk_if_eq' X 94 dX2_unsureLine_90 rfl hf (fun hf => ?_) (fun hf => ?_)
      · refine fk_aload_n X 1 dX2_unsureLine_94 rfl ?_
        refine fk_getR' X fd_1_16 q1542 dX2_unsureLine_95 hf (fun z9 hf => ?_)
        refine fk_iload_n X 2 dX2_unsureLine_98 rfl ?_
        refine fk_iload_n X 3 dX2_unsureLine_99 rfl ?_
        refine fk_iastore' X dX2_unsureLine_100 hf (fun m10 hf => ?_)
        refine fk_aload_n X 1 dX2_unsureLine_101 rfl ?_
        refine fk_getR' X fd_1_16 q1542 dX2_unsureLine_102 hf (fun z11 hf => ?_)
        refine fk_iload_n X 2 dX2_unsureLine_105 rfl ?_
        refine fk_iconst (v := 1) X dX2_unsureLine_106 rfl ?_
        refine fk_iadd X dX2_unsureLine_107 ?_
        refine fk_iload_n X 0 dX2_unsureLine_108 rfl ?_
        refine fk_iastore' X dX2_unsureLine_109 hf (fun m12 hf => ?_)
        refine fk_aload_n X 1 dX2_unsureLine_110 rfl ?_
        refine fk_getR' X fd_1_16 q1542 dX2_unsureLine_111 hf (fun z13 hf => ?_)
        refine fk_iconst (v := 5) X dX2_unsureLine_114 rfl ?_
        refine fk_dup2 X dX2_unsureLine_115 rfl rfl ?_
        refine fk_iaload' X dX2_unsureLine_116 hf (fun z14 hf => ?_)
        refine fk_iconst (v := 1) X dX2_unsureLine_117 rfl ?_
        refine fk_iadd X dX2_unsureLine_118 ?_
        refine fk_iastore' X dX2_unsureLine_119 hf (fun m15 hf => ?_)
        cases hf
        exact fk_return X Y dX2_unsureLine_120
      · cases hf
        exact fk_return X Y dX2_unsureLine_93
    · refine fk_aload_n X 0 dX2_unsureLine_37 rfl ?_
      refine fk_getI' X fd_1_13 q1539 dX2_unsureLine_38 hf (fun z16 hf => ?_)
      refine fk_if_ne' X 68 dX2_unsureLine_41 rfl hf (fun hf => ?_) (fun hf => ?_)
      · exact fk_cut' (w_X2_unsureLine_J68 X Y x0 x1 x2 x3 m0 ih hf) [0, 1, 2, 3] rfl
      · refine fk_aload_n X 0 dX2_unsureLine_44 rfl ?_
        refine fk_getR' X fd_1_16 q1542 dX2_unsureLine_45 hf (fun z17 hf => ?_)
        refine fk_bipush (v := 18) X dX2_unsureLine_48 rfl ?_
        refine fk_iconst (v := 2) X dX2_unsureLine_50 rfl ?_
        refine fk_iload_n X 3 dX2_unsureLine_51 rfl ?_
        refine fk_imul X dX2_unsureLine_52 ?_
        refine fk_iadd X dX2_unsureLine_53 ?_
        refine fk_iaload' X dX2_unsureLine_54 hf (fun z18 hf => ?_)
        refine fk_iload_n X 2 dX2_unsureLine_55 rfl ?_
        refine fk_icmp_ne' X 68 dX2_unsureLine_56 rfl hf (fun hf => ?_) (fun hf => ?_)
        · exact fk_cut' (w_X2_unsureLine_J68 X Y x0 x1 x2 x3 m0 ih hf) [0, 1, 2, 3] rfl
        · refine fk_aload_n X 0 dX2_unsureLine_59 rfl ?_
          refine fk_iconst (v := 3) X dX2_unsureLine_60 rfl ?_
          refine fk_aload_n X 0 dX2_unsureLine_61 rfl ?_
          refine fk_getI' X fd_1_4 q1530 dX2_unsureLine_62 hf (fun z19 hf => ?_)
          obtain ⟨u20, hq, hf⟩ := bI hf
          obtain ⟨m21, hv, hf⟩ := bI hf
          refine fk_callV0V (ci := 1) (rest := []) X hq rfl (c_X2_wrong hv) n_X2_wrong q1722 q1724 qs70 q126 q1725 rfl dX2_unsureLine_65 rfl rfl rfl rfl rfl (Nat.le_refl _) (Nat.le_refl _) ?_
          exact fk_cut' (w_X2_unsureLine_J68 X Y x0 x1 x2 x3 m21 ih hf) [0, 1, 2, 3] rfl
def f_X2_unsureLine (g : Nat → Nat) (a0 : Option Nat) (m0 : fk_M) : Option fk_M :=
  (gI m0 a0 1 13).bind fun z1 => if z1 = 0 then ((gR m0 a0 1 16).bind fun z2 => (aI m0 z2 0 5).bind fun z3 => (isO m0 a0 1).bind fun u4 => bn2 (f_X2_pairHere g a0 m0) fun z5 m6 => f_X2_unsureLine_L27 g a0 (18 + (2 * z3)) z5 fk_fuel 0 m6) else (some m0)
set_option maxHeartbeats 4000000 in
theorem c_X2_unsureLine {l : Launch} {G : fk_G} {b0 : Nat} {n : Nat} {a0 : Option Nat} {m0 : fk_M} {mF : fk_M} (hf : f_X2_unsureLine G.2.2 a0 m0 = some mF) : fk_Ct l G b0 yX2_unsureLine cX2_unsureLine 4 none 8 209 [tR a0] n m0 none n mF 0 0 := by
  refine fk_enter n_X2_unsureLine.1 rfl ?_
  intro E X0 Y
  have X : fk_X E l G b0 "FigureKneeModel" "unsureLine" cX2_unsureLine 4 8 209 0 0 := X0
  show fk_W E 4 n m0 0 0 0 [(0, tR a0)] []
  unfold f_X2_unsureLine at hf
  refine fk_aload_n X 0 dX2_unsureLine_0 rfl ?_
  refine fk_getI' X fd_1_13 q1539 dX2_unsureLine_1 hf (fun z1 hf => ?_)
  refine fk_if_eq' X 8 dX2_unsureLine_4 rfl hf (fun hf => ?_) (fun hf => ?_)
  · refine fk_bipush (v := 18) X dX2_unsureLine_8 rfl ?_
    refine fk_iconst (v := 2) X dX2_unsureLine_10 rfl ?_
    refine fk_aload_n X 0 dX2_unsureLine_11 rfl ?_
    refine fk_getR' X fd_1_16 q1542 dX2_unsureLine_12 hf (fun z2 hf => ?_)
    refine fk_iconst (v := 5) X dX2_unsureLine_15 rfl ?_
    refine fk_iaload' X dX2_unsureLine_16 hf (fun z3 hf => ?_)
    refine fk_imul X dX2_unsureLine_17 ?_
    refine fk_iadd X dX2_unsureLine_18 ?_
    refine fk_istore_n X [(1, tI (18 + (2 * z3))), (0, tR a0)] dX2_unsureLine_19 rfl rfl ?_
    refine fk_aload_n X 1 dX2_unsureLine_20 rfl ?_
    obtain ⟨u4, hq, hf⟩ := bI hf
    obtain ⟨z5, m6, hv, hf⟩ := bn2_eq hf
    refine fk_callV0I (ci := 1) (rest := []) X hq rfl (c_X2_pairHere hv) n_X2_pairHere q1787 q1789 qs83 q126 q1790 rfl dX2_unsureLine_21 rfl rfl rfl rfl rfl (Nat.le_refl _) (Nat.le_refl _) ?_
    refine fk_istore_n X [(2, tI z5), (1, tI (18 + (2 * z3))), (0, tR a0)] dX2_unsureLine_24 rfl rfl ?_
    refine fk_iconst (v := 0) X dX2_unsureLine_25 rfl ?_
    refine fk_istore_n X [(3, tI 0), (2, tI z5), (1, tI (18 + (2 * z3))), (0, tR a0)] dX2_unsureLine_26 rfl rfl ?_
    exact fk_cut' (w_X2_unsureLine_L27 X Y a0 (18 + (2 * z3)) z5 fk_fuel 0 m6 hf) [3, 2, 1, 0] rfl
  · cases hf
    exact fk_return X Y dX2_unsureLine_7
