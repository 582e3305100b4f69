set_option maxRecDepth 100000
/-! java/util/AbstractCollection <init> ()V -/
theorem n_J0_init : fk_N yJ0_init 0 := ⟨by decide +kernel, by decide +kernel, by decide +kernel, by decide +kernel⟩
def f_J0_init (a0 : Option Nat) (m : fk_M) : Option Unit :=
  (isS a0).bind fun _ => some ()
set_option maxHeartbeats 4000000 in
theorem c_J0_init {l : Launch} {G : fk_G} {b0 : Nat} {n : Nat} {a0 : Option Nat} {m : fk_M} (hf : f_J0_init a0 m = some ()) : fk_Ct l G b0 yJ0_init cJ0_init 1 none 1 60 [tR a0] n m none n m 0 0 := by
  refine fk_enter n_J0_init.1 rfl ?_
  intro E X0 Y
  have X : fk_X E l G b0 "java/util/AbstractCollection" "<init>" cJ0_init 1 1 60 0 0 := X0
  show fk_W E 1 n m 0 0 0 [(0, tR a0)] []
  unfold f_J0_init at hf
  refine fk_aload_n X 0 dJ0_init_0 rfl ?_
  refine fk_objInit' X q174 q161 q162 dJ0_init_1 rfl rfl hf (fun hf => ?_)
  cases hf
  exact fk_return X Y dJ0_init_4
/-! java/util/AbstractList <init> ()V -/
theorem n_J1_init : fk_N yJ1_init 0 := ⟨by decide +kernel, by decide +kernel, by decide +kernel, by decide +kernel⟩
def f_J1_init (a0 : Option Nat) (m0 : fk_M) : Option fk_M :=
  (isS a0).bind fun u1 => (f_J0_init a0 m0).bind fun _ => (pV m0 a0 14 0 (tI 0)).bind fun m2 => some m2
set_option maxHeartbeats 4000000 in
theorem c_J1_init {l : Launch} {G : fk_G} {b0 : Nat} {n : Nat} {a0 : Option Nat} {m0 : fk_M} {mF : fk_M} (hf : f_J1_init a0 m0 = some mF) : fk_Ct l G b0 yJ1_init cJ1_init 1 none 2 80 [tR a0] n m0 none n mF 0 0 := by
  refine fk_enter n_J1_init.1 rfl ?_
  intro E X0 Y
  have X : fk_X E l G b0 "java/util/AbstractList" "<init>" cJ1_init 1 2 80 0 0 := X0
  show fk_W E 1 n m0 0 0 0 [(0, tR a0)] []
  unfold f_J1_init at hf
  refine fk_aload_n X 0 dJ1_init_0 rfl ?_
  obtain ⟨u1, hq, hf⟩ := bI hf
  obtain ⟨u9, hv, hf⟩ := bI hf
  refine fk_callI0V (rest := []) X hq (c_J0_init hv) n_J0_init rfl q171 q172 q123 q173 dJ1_init_1 rfl rfl rfl rfl rfl (Nat.le_refl _) (Nat.le_refl _) ?_
  refine fk_aload_n X 0 dJ1_init_4 rfl ?_
  refine fk_iconst (v := 0) X dJ1_init_5 rfl ?_
  refine fk_putI' X fd_14_0 q179 dJ1_init_6 (fit_I _) hf (fun m2 hf => ?_)
  cases hf
  exact fk_return X Y dJ1_init_9
/-! java/util/ArrayList <init> ()V -/
theorem n_J2_init : fk_N yJ2_init 0 := ⟨by decide +kernel, by decide +kernel, by decide +kernel, by decide +kernel⟩
def f_J2_init (g : Nat → Nat) (a0 : Option Nat) (m0 : fk_M) : Option fk_M :=
  (isS a0).bind fun u1 => (f_J1_init a0 m0).bind fun m2 => (pV m2 a0 14 1 (tR (some (g 40)))).bind fun m3 => some m3
set_option maxHeartbeats 4000000 in
theorem c_J2_init {l : Launch} {G : fk_G} {b0 : Nat} {n : Nat} {a0 : Option Nat} {m0 : fk_M} {mF : fk_M} (hf : f_J2_init G.2.2 a0 m0 = some mF) : fk_Ct l G b0 yJ2_init cJ2_init 1 none 3 100 [tR a0] n m0 none n mF 0 0 := by
  refine fk_enter n_J2_init.1 rfl ?_
  intro E X0 Y
  have X : fk_X E l G b0 "java/util/ArrayList" "<init>" cJ2_init 1 3 100 0 0 := X0
  show fk_W E 1 n m0 0 0 0 [(0, tR a0)] []
  unfold f_J2_init at hf
  refine fk_aload_n X 0 dJ2_init_0 rfl ?_
  obtain ⟨u1, hq, hf⟩ := bI hf
  obtain ⟨m2, hv, hf⟩ := bI hf
  refine fk_callI0V (rest := []) X hq (c_J1_init hv) n_J1_init rfl q168 q169 q124 q170 dJ2_init_1 rfl rfl rfl rfl rfl (Nat.le_refl _) (Nat.le_refl _) ?_
  refine fk_aload_n X 0 dJ2_init_4 rfl ?_
  refine fk_gets (x := tR (some (G.2.2 40))) X (List.mem_of_getElem? (i := 1) rfl) rfl q175 dJ2_init_5 ?_
  refine fk_putR' X fd_14_1 q177 dJ2_init_8 (fit_A _) hf (fun m3 hf => ?_)
  cases hf
  exact fk_return X Y dJ2_init_11
/-! java/lang/AbstractStringBuilder <init> (I)V -/
theorem n_J3_init : fk_N yJ3_init 1 := ⟨by decide +kernel, by decide +kernel, by decide +kernel, by decide +kernel⟩
def f_J3_init (a0 : Option Nat) (a1 : Int32) (n1 k1 : Nat) (m0 : fk_M) : Option (Nat × Nat × fk_M) :=
  (isS a0).bind fun _ => (nA n1 m0 1 a1).bind fun m1 => (pV m1 a0 15 0 (tR (some n1))).bind fun m2 => (pB m2 a0 15 1 0).bind fun m3 => some ((n1 + 1), (k1 + (Int32.toNatClampNeg a1)), m3)
theorem mo_J3_init (a0 : Option Nat) (a1 : Int32) (n1 k1 : Nat) (m0 : fk_M) : Mo3 n1 k1 (f_J3_init a0 a1 n1 k1 m0) := by
  unfold f_J3_init
  exact Mo3.bind (fun _ => Mo3.bind (fun m1 => Mo3.le (n1 := (n1 + 1)) (k1 := (k1 + (Int32.toNatClampNeg a1))) (Mo3.bind (fun m2 => Mo3.bind (fun m3 => Mo3.ok (by omega) (by omega)))) (by omega) (by omega)))
set_option maxHeartbeats 4000000 in
theorem c_J3_init {l : Launch} {G : fk_G} {b0 : Nat} {n1 k1 nF kF : Nat} {a0 : Option Nat} {a1 : Int32} {m0 : fk_M} {mF : fk_M} (hf : f_J3_init a0 a1 n1 k1 m0 = some (nF, kF, mF)) : fk_Ct l G b0 yJ3_init cJ3_init 2 none 1 60 [tR a0, tI a1] n1 m0 none nF mF (nF - n1) (kF - k1) := by
  refine fk_enter n_J3_init.1 rfl ?_
  intro E X0 Y
  have X : fk_X E l G b0 "java/lang/AbstractStringBuilder" "<init>" cJ3_init 2 1 60 (nF - n1) (kF - k1) := X0
  show fk_W E 2 n1 m0 0 0 0 [(0, tR a0), (1, tI a1)] []
  refine fk_widen (cs2 := n1 - n1) (sl2 := k1 - k1) (Nat.zero_le _) (Nat.zero_le _) ?_
  unfold f_J3_init at hf
  have h01 : n1 ≤ n1 := Nat.le_refl _
  have h02 : k1 ≤ k1 := Nat.le_refl _
  refine fk_aload_n X 0 dJ3_init_0 rfl ?_
  refine fk_objInit' X q379 q161 q162 dJ3_init_1 rfl rfl hf (fun hf => ?_)
  refine fk_gets (x := tI 1) X (List.mem_of_getElem? (i := 0) rfl) rfl q380 dJ3_init_4 ?_
  refine fk_if_eq X 25 dJ3_init_7 rfl (fun h => absurd h (by decide)) (fun _ => ?_)
  refine fk_aload_n X 0 dJ3_init_10 rfl ?_
  refine fk_iload_n X 1 dJ3_init_11 rfl ?_
  obtain ⟨m1, hv, hf⟩ := bI hf
  have hm : (n1 + 1) ≤ nF ∧ (k1 + (Int32.toNatClampNeg a1)) ≤ kF := Mo3.use hf (Mo3.bind (fun m2 => Mo3.bind (fun m3 => Mo3.ok (by omega) (by omega))))
  refine fk_newI 1 (by decide) (cs2 := (n1 + 1) - n1) (sl2 := (k1 + (Int32.toNatClampNeg a1)) - k1) X q189 dJ3_init_12 hv (by omega) (by omega) (by omega) (by omega) ?_
  refine fk_putR' X fd_15_0 q389 dJ3_init_14 (fit_A _) hf (fun m2 hf => ?_)
  refine fk_aload_n X 0 dJ3_init_17 rfl ?_
  refine fk_iconst (v := 0) X dJ3_init_18 rfl ?_
  refine fk_putB' X fd_15_1 q390 dJ3_init_19 hf (fun m3 hf => ?_)
  refine fk_goto X 38 dJ3_init_22 rfl ?_
  cases hf
  exact fk_return X Y dJ3_init_38
/-! java/lang/StringBuilder <init> ()V -/
theorem n_J4_init : fk_N yJ4_init 0 := ⟨by decide +kernel, by decide +kernel, by decide +kernel, by decide +kernel⟩
def f_J4_init (a0 : Option Nat) (n1 k1 : Nat) (m0 : fk_M) : Option (Nat × Nat × fk_M) :=
  (isS a0).bind fun u1 => bn3 (f_J3_init a0 16 n1 k1 m0) fun n3 k4 m2 => some (n3, k4, m2)
theorem mo_J4_init (a0 : Option Nat) (n1 k1 : Nat) (m0 : fk_M) : Mo3 n1 k1 (f_J4_init a0 n1 k1 m0) := by
  unfold f_J4_init
  exact Mo3.bind (fun u1 => Mo3.bn3 (mo_J3_init a0 16 n1 k1 m0) (fun n3 k4 m2 => Mo3.ok (by omega) (by omega)))
set_option maxHeartbeats 4000000 in
theorem c_J4_init {l : Launch} {G : fk_G} {b0 : Nat} {n1 k1 nF kF : Nat} {a0 : Option Nat} {m0 : fk_M} {mF : fk_M} (hf : f_J4_init a0 n1 k1 m0 = some (nF, kF, mF)) : fk_Ct l G b0 yJ4_init cJ4_init 1 none 2 81 [tR a0] n1 m0 none nF mF (nF - n1) (kF - k1) := by
  refine fk_enter n_J4_init.1 rfl ?_
  intro E X0 Y
  have X : fk_X E l G b0 "java/lang/StringBuilder" "<init>" cJ4_init 1 2 81 (nF - n1) (kF - k1) := X0
  show fk_W E 1 n1 m0 0 0 0 [(0, tR a0)] []
  refine fk_widen (cs2 := n1 - n1) (sl2 := k1 - k1) (Nat.zero_le _) (Nat.zero_le _) ?_
  unfold f_J4_init at hf
  have h01 : n1 ≤ n1 := Nat.le_refl _
  have h02 : k1 ≤ k1 := Nat.le_refl _
  refine fk_aload_n X 0 dJ4_init_0 rfl ?_
  refine fk_bipush (v := 16) X dJ4_init_1 rfl ?_
  obtain ⟨u1, hq, hf⟩ := bI hf
  obtain ⟨n3, k4, m2, hv, hf⟩ := bn3_eq hf
  have hmc := mo_J3_init a0 16 n1 k1 m0 _ _ _ hv
  have hm : n3 ≤ nF ∧ k4 ≤ kF := Mo3.use hf (Mo3.ok (by omega) (by omega))
  refine fk_callI1V (rest := []) (cs2 := n3 - n1) (sl2 := k4 - k1) X hq (c_J3_init hv) n_J3_init rfl q376 q377 q131 q378 dJ4_init_3 rfl rfl rfl rfl rfl (by omega) (by omega) (by omega) (by omega) ?_
  cases hf
  exact fk_return X Y dJ4_init_6
/-! java/lang/AbstractStringBuilder ensureCapacityInternal (I)V -/
theorem n_J3_ensureCapacityInternal : fk_N yJ3_ensureCapacityInternal 1 := ⟨by decide +kernel, by decide +kernel, by decide +kernel, by decide +kernel⟩
def f_J3_ensureCapacityInternal (a0 : Option Nat) (a1 : Int32) (m : fk_M) : Option Unit :=
  (gR m a0 15 0).bind fun z1 => (aLn m z1).bind fun z2 => (gI m a0 15 1).bind fun z3 => if (a1 - (i_shr z2 z3)) ≤ 0 then (some ()) else (none)
set_option maxHeartbeats 4000000 in
theorem c_J3_ensureCapacityInternal {l : Launch} {G : fk_G} {b0 : Nat} {n : Nat} {a0 : Option Nat} {a1 : Int32} {m : fk_M} (hf : f_J3_ensureCapacityInternal a0 a1 m = some ()) : fk_Ct l G b0 yJ3_ensureCapacityInternal cJ3_ensureCapacityInternal 3 none 1 60 [tR a0, tI a1] n m none n m 0 0 := by
  refine fk_enter n_J3_ensureCapacityInternal.1 rfl ?_
  intro E X0 Y
  have X : fk_X E l G b0 "java/lang/AbstractStringBuilder" "ensureCapacityInternal" cJ3_ensureCapacityInternal 3 1 60 0 0 := X0
  show fk_W E 3 n m 0 0 0 [(0, tR a0), (1, tI a1)] []
  unfold f_J3_ensureCapacityInternal at hf
  refine fk_aload_n X 0 dJ3_ensureCapacityInternal_0 rfl ?_
  refine fk_getR' X fd_15_0 q389 dJ3_ensureCapacityInternal_1 hf (fun z1 hf => ?_)
  refine fk_alen' X dJ3_ensureCapacityInternal_4 hf (fun z2 hf => ?_)
  refine fk_aload_n X 0 dJ3_ensureCapacityInternal_5 rfl ?_
  refine fk_getI' X fd_15_1 q390 dJ3_ensureCapacityInternal_6 hf (fun z3 hf => ?_)
  refine fk_ishr X dJ3_ensureCapacityInternal_9 ?_
  refine fk_istore_n X [(2, tI (i_shr z2 z3)), (0, tR a0), (1, tI a1)] dJ3_ensureCapacityInternal_10 rfl rfl ?_
  refine fk_iload_n X 2 dJ3_ensureCapacityInternal_11 rfl ?_
  refine fk_iload_n X 0 dJ3_ensureCapacityInternal_12 rfl ?_
  refine fk_isub X dJ3_ensureCapacityInternal_13 ?_
  refine fk_if_le' X 38 dJ3_ensureCapacityInternal_14 rfl hf (fun hf => ?_) (fun hf => ?_)
  · cases hf
    exact fk_return X Y dJ3_ensureCapacityInternal_38
  · cases hf
/-! java/lang/AbstractStringBuilder isLatin1 ()Z -/
theorem n_J3_isLatin1 : fk_N yJ3_isLatin1 0 := ⟨by decide +kernel, by decide +kernel, by decide +kernel, by decide +kernel⟩
def f_J3_isLatin1 (a0 : Option Nat) (m : fk_M) : Option Int32 :=
  (gI m a0 15 1).bind fun z1 => some (if z1 = 0 then (1 : Int32) else 0)
set_option maxHeartbeats 4000000 in
theorem c_J3_isLatin1 {l : Launch} {G : fk_G} {b0 : Nat} {n : Nat} {a0 : Option Nat} {m : fk_M} {r : Int32} (hf : f_J3_isLatin1 a0 m = some r) : fk_Ct l G b0 yJ3_isLatin1 cJ3_isLatin1 1 (some .boolean) 1 60 [tR a0] n m (some (tI r)) n m 0 0 := by
  refine fk_enter n_J3_isLatin1.1 rfl ?_
  intro E X0 Y
  have X : fk_X E l G b0 "java/lang/AbstractStringBuilder" "isLatin1" cJ3_isLatin1 1 1 60 0 0 := X0
  show fk_W E 1 n m 0 0 0 [(0, tR a0)] []
  unfold f_J3_isLatin1 at hf
  refine fk_gets (x := tI 1) X (List.mem_of_getElem? (i := 0) rfl) rfl q380 dJ3_isLatin1_0 ?_
  refine fk_if_eq X 17 dJ3_isLatin1_3 rfl (fun h => absurd h (by decide)) (fun _ => ?_)
  refine fk_aload_n X 0 dJ3_isLatin1_6 rfl ?_
  refine fk_getI' X fd_15_1 q390 dJ3_isLatin1_7 hf (fun z1 hf => ?_)
  have J1 : fk_W E 1 n m 0 0 18 [] [tI (if z1 = 0 then (1 : Int32) else 0)] := by
    cases hf
    exact fk_ireturn X Y dJ3_isLatin1_18 (by (repeat' split) <;> decide +kernel)
  refine fk_if_ne X 17 dJ3_isLatin1_10 rfl (fun hc2 => ?_) (fun hc2 => ?_)
  · refine fk_iconst (v := 0) X dJ3_isLatin1_17 rfl ?_
    simp only [if_neg hc2] at J1
    exact fk_cut' J1 [] rfl
  · refine fk_iconst (v := 1) X dJ3_isLatin1_13 rfl ?_
    refine fk_goto X 18 dJ3_isLatin1_14 rfl ?_
    simp only [if_pos hc2] at J1
    exact fk_cut' J1 [] rfl
/-! java/lang/StringLatin1 canEncode (C)Z -/
theorem n_J10_canEncode : fk_N yJ10_canEncode 1 := ⟨by decide +kernel, by decide +kernel, by decide +kernel, by decide +kernel⟩
def f_J10_canEncode (a0 : Int32) (m : fk_M) : Option Int32 :=
  some (if 255 < a0 then (0 : Int32) else 1)
set_option maxHeartbeats 4000000 in
theorem c_J10_canEncode {l : Launch} {G : fk_G} {b0 : Nat} {n : Nat} {a0 : Int32} {m : fk_M} {r : Int32} (hf : f_J10_canEncode a0 m = some r) : fk_Ct l G b0 yJ10_canEncode cJ10_canEncode 1 (some .boolean) 1 60 [tI a0] n m (some (tI r)) n m 0 0 := by
  refine fk_enter n_J10_canEncode.1 rfl ?_
  intro E X0 Y
  have X : fk_X E l G b0 "java/lang/StringLatin1" "canEncode" cJ10_canEncode 1 1 60 0 0 := X0
  show fk_W E 1 n m 0 0 0 [(0, tI a0)] []
  unfold f_J10_canEncode at hf
  refine fk_iload_n X 0 dJ10_canEncode_0 rfl ?_
  refine fk_sipush (v := 255) X dJ10_canEncode_1 rfl ?_
  have J1 : fk_W E 1 n m 0 0 12 [] [tI (if 255 < a0 then (0 : Int32) else 1)] := by
    cases hf
    exact fk_ireturn X Y dJ10_canEncode_12 (by (repeat' split) <;> decide +kernel)
  refine fk_icmp_gt X 11 dJ10_canEncode_4 rfl (fun hc2 => ?_) (fun hc2 => ?_)
  · refine fk_iconst (v := 0) X dJ10_canEncode_11 rfl ?_
    simp only [if_pos hc2] at J1
    exact fk_cut' J1 [] rfl
  · refine fk_iconst (v := 1) X dJ10_canEncode_7 rfl ?_
    refine fk_goto X 12 dJ10_canEncode_8 rfl ?_
    simp only [if_neg hc2] at J1
    exact fk_cut' J1 [] rfl
/-! java/lang/AbstractStringBuilder append (C)Ljava/lang/AbstractStringBuilder; -/
theorem n_J3_append : fk_N yJ3_append 1 := ⟨by decide +kernel, by decide +kernel, by decide +kernel, by decide +kernel⟩
def f_J3_append (a0 : Option Nat) (a1 : Int32) (m0 : fk_M) : Option ((Option Nat) × fk_M) :=
  (gI m0 a0 15 3).bind fun z1 => (isO m0 a0 15).bind fun u2 => (f_J3_ensureCapacityInternal a0 (z1 + 1) m0).bind fun _ => (isO m0 a0 15).bind fun u3 => (f_J3_isLatin1 a0 m0).bind fun z4 => if z4 = 0 then (none) else ((f_J10_canEncode a1 m0).bind fun z5 => if z5 = 0 then (none) else ((gR m0 a0 15 0).bind fun z6 => (gI m0 a0 15 3).bind fun z7 => (pV m0 a0 15 3 (tI (z7 + 1))).bind fun m8 => (sI m8 z6 1 z7 (i_b a1)).bind fun m9 => some (a0, m9)))
set_option maxHeartbeats 4000000 in
theorem c_J3_append {l : Launch} {G : fk_G} {b0 : Nat} {n : Nat} {a0 : Option Nat} {a1 : Int32} {m0 : fk_M} {r : Option Nat} {mF : fk_M} (hf : f_J3_append a0 a1 m0 = some (r, mF)) : fk_Ct l G b0 yJ3_append cJ3_append 2 (some (.object "java/lang/AbstractStringBuilder")) 2 82 [tR a0, tI a1] n m0 (some (tR r)) n mF 0 0 := by
  refine fk_enter n_J3_append.1 rfl ?_
  intro E X0 Y
  have X : fk_X E l G b0 "java/lang/AbstractStringBuilder" "append" cJ3_append 2 2 82 0 0 := X0
  show fk_W E 2 n m0 0 0 0 [(0, tR a0), (1, tI a1)] []
  unfold f_J3_append at hf
  refine fk_aload_n X 0 dJ3_append_0 rfl ?_
  refine fk_aload_n X 0 dJ3_append_1 rfl ?_
  refine fk_getI' X fd_15_3 q392 dJ3_append_2 hf (fun z1 hf => ?_)
  refine fk_iconst (v := 1) X dJ3_append_5 rfl ?_
  refine fk_iadd X dJ3_append_6 ?_
  obtain ⟨u2, hq, hf⟩ := bI hf
  obtain ⟨u9, hv, hf⟩ := bI hf
  refine fk_callP0V (rest := []) X hq rfl (c_J3_ensureCapacityInternal hv) n_J3_ensureCapacityInternal q409 q2191 q411 q131 q412 dJ3_append_7 rfl rfl rfl rfl rfl (Nat.le_refl _) (Nat.le_refl _) ?_
  refine fk_aload_n X 0 dJ3_append_10 rfl ?_
  obtain ⟨u3, hq, hf⟩ := bI hf
  obtain ⟨z4, hv, hf⟩ := bI hf
  refine fk_callU0I (ci := 15) (rest := []) (owner := "java/lang/AbstractStringBuilder") X hq rfl (c_J3_isLatin1 hv) n_J3_isLatin1.2 rfl q444 q446 q447 q445 q131 q448 dJ3_append_11 rfl rfl rfl rfl rfl (Nat.le_refl _) (Nat.le_refl _) ?_
  refine fk_if_eq' X 45 dJ3_append_14 rfl hf (fun hf => ?_) (fun hf => ?_)
  · cases hf
  · refine fk_iload_n X 1 dJ3_append_17 rfl ?_
    obtain ⟨z5, hv, hf⟩ := bI hf
    refine fk_callS0I (rest := []) X (c_J10_canEncode hv) n_J10_canEncode q449 q450 q139 q451 dJ3_append_18 rfl rfl rfl rfl rfl (Nat.le_refl _) (Nat.le_refl _) ?_
    refine fk_if_eq' X 45 dJ3_append_21 rfl hf (fun hf => ?_) (fun hf => ?_)
    · cases hf
    · refine fk_aload_n X 0 dJ3_append_24 rfl ?_
      refine fk_getR' X fd_15_0 q389 dJ3_append_25 hf (fun z6 hf => ?_)
      refine fk_aload_n X 0 dJ3_append_28 rfl ?_
      refine fk_dup X dJ3_append_29 rfl ?_
      refine fk_getI' X fd_15_3 q392 dJ3_append_30 hf (fun z7 hf => ?_)
      refine fk_dup_x1 X dJ3_append_33 rfl rfl ?_
      refine fk_iconst (v := 1) X dJ3_append_34 rfl ?_
      refine fk_iadd X dJ3_append_35 ?_
      refine fk_putI' X fd_15_3 q392 dJ3_append_36 (fit_I _) hf (fun m8 hf => ?_)
      refine fk_iload_n X 1 dJ3_append_39 rfl ?_
      refine fk_i2b X dJ3_append_40 ?_
      refine fk_bastore' X dJ3_append_41 hf (fun m9 hf => ?_)
      refine fk_goto X 75 dJ3_append_42 rfl ?_
      refine fk_aload_n X 0 dJ3_append_75 rfl ?_
      cases hf
      exact fk_areturn X Y dJ3_append_76 (by first | exact Or.inl ⟨_, rfl⟩ | exact Or.inr ⟨_, rfl⟩)
/-! java/lang/StringBuilder append (C)Ljava/lang/StringBuilder; -/
theorem n_J4_append : fk_N yJ4_append 1 := ⟨by decide +kernel, by decide +kernel, by decide +kernel, by decide +kernel⟩
def f_J4_append (a0 : Option Nat) (a1 : Int32) (m0 : fk_M) : Option ((Option Nat) × fk_M) :=
  (isO m0 a0 15).bind fun u1 => bn2 (f_J3_append a0 a1 m0) fun z2 m3 => some (a0, m3)
set_option maxHeartbeats 4000000 in
theorem c_J4_append {l : Launch} {G : fk_G} {b0 : Nat} {n : Nat} {a0 : Option Nat} {a1 : Int32} {m0 : fk_M} {r : Option Nat} {mF : fk_M} (hf : f_J4_append a0 a1 m0 = some (r, mF)) : fk_Ct l G b0 yJ4_append cJ4_append 2 (some (.object "java/lang/StringBuilder")) 3 103 [tR a0, tI a1] n m0 (some (tR r)) n mF 0 0 := by
  refine fk_enter n_J4_append.1 rfl ?_
  intro E X0 Y
  have X : fk_X E l G b0 "java/lang/StringBuilder" "append" cJ4_append 2 3 103 0 0 := X0
  show fk_W E 2 n m0 0 0 0 [(0, tR a0), (1, tI a1)] []
  unfold f_J4_append at hf
  refine fk_aload_n X 0 dJ4_append_0 rfl ?_
  refine fk_iload_n X 1 dJ4_append_1 rfl ?_
  obtain ⟨u1, hq, hf⟩ := bI hf
  obtain ⟨z2, m3, hv, hf⟩ := bn2_eq hf
  refine fk_callSU0R (ci := 15) (rest := []) X hq rfl (c_J3_append hv) (by decide +kernel) n_J3_append q406 q2190 q401 q407 q131 q408 dJ4_append_2 rfl rfl rfl rfl rfl (Nat.le_refl _) (Nat.le_refl _) ?_
  refine fk_pop X dJ4_append_5 rfl ?_
  refine fk_aload_n X 0 dJ4_append_6 rfl ?_
  cases hf
  exact fk_areturn X Y dJ4_append_7 (by first | exact Or.inl ⟨_, rfl⟩ | exact Or.inr ⟨_, rfl⟩)
/-! java/lang/AbstractStringBuilder getValue ()[B -/
theorem n_J3_getValue : fk_N yJ3_getValue 0 := ⟨by decide +kernel, by decide +kernel, by decide +kernel, by decide +kernel⟩
def f_J3_getValue (a0 : Option Nat) (m : fk_M) : Option (Option Nat) :=
  (gR m a0 15 0).bind fun z1 => some z1
set_option maxHeartbeats 4000000 in
theorem c_J3_getValue {l : Launch} {G : fk_G} {b0 : Nat} {n : Nat} {a0 : Option Nat} {m : fk_M} {r : Option Nat} (hf : f_J3_getValue a0 m = some r) : fk_Ct l G b0 yJ3_getValue cJ3_getValue 1 (some (.array .byte)) 1 60 [tR a0] n m (some (tR r)) n m 0 0 := by
  refine fk_enter n_J3_getValue.1 rfl ?_
  intro E X0 Y
  have X : fk_X E l G b0 "java/lang/AbstractStringBuilder" "getValue" cJ3_getValue 1 1 60 0 0 := X0
  show fk_W E 1 n m 0 0 0 [(0, tR a0)] []
  unfold f_J3_getValue at hf
  refine fk_aload_n X 0 dJ3_getValue_0 rfl ?_
  refine fk_getR' X fd_15_0 q389 dJ3_getValue_1 hf (fun z1 hf => ?_)
  cases hf
  exact fk_areturn X Y dJ3_getValue_4 (by first | exact Or.inl ⟨_, rfl⟩ | exact Or.inr ⟨_, rfl⟩)
/-! java/lang/AbstractStringBuilder length ()I -/
theorem n_J3_length : fk_N yJ3_length 0 := ⟨by decide +kernel, by decide +kernel, by decide +kernel, by decide +kernel⟩
def f_J3_length (a0 : Option Nat) (m : fk_M) : Option Int32 :=
  (gI m a0 15 3).bind fun z1 => some z1
set_option maxHeartbeats 4000000 in
theorem c_J3_length {l : Launch} {G : fk_G} {b0 : Nat} {n : Nat} {a0 : Option Nat} {m : fk_M} {r : Int32} (hf : f_J3_length a0 m = some r) : fk_Ct l G b0 yJ3_length cJ3_length 1 (some .int) 1 60 [tR a0] n m (some (tI r)) n m 0 0 := by
  refine fk_enter n_J3_length.1 rfl ?_
  intro E X0 Y
  have X : fk_X E l G b0 "java/lang/AbstractStringBuilder" "length" cJ3_length 1 1 60 0 0 := X0
  show fk_W E 1 n m 0 0 0 [(0, tR a0)] []
  unfold f_J3_length at hf
  refine fk_aload_n X 0 dJ3_length_0 rfl ?_
  refine fk_getI' X fd_15_3 q392 dJ3_length_1 hf (fun z1 hf => ?_)
  cases hf
  exact fk_ireturn X Y dJ3_length_4 rfl
/-! java/lang/StringBuilder length ()I -/
theorem n_J4_length : fk_N yJ4_length 0 := ⟨by decide +kernel, by decide +kernel, by decide +kernel, by decide +kernel⟩
def f_J4_length (a0 : Option Nat) (m : fk_M) : Option Int32 :=
  (isO m a0 15).bind fun u1 => (f_J3_length a0 m).bind fun z2 => some z2
set_option maxHeartbeats 4000000 in
theorem c_J4_length {l : Launch} {G : fk_G} {b0 : Nat} {n : Nat} {a0 : Option Nat} {m : fk_M} {r : Int32} (hf : f_J4_length a0 m = some r) : fk_Ct l G b0 yJ4_length cJ4_length 1 (some .int) 2 80 [tR a0] n m (some (tI r)) n m 0 0 := by
  refine fk_enter n_J4_length.1 rfl ?_
  intro E X0 Y
  have X : fk_X E l G b0 "java/lang/StringBuilder" "length" cJ4_length 1 2 80 0 0 := X0
  show fk_W E 1 n m 0 0 0 [(0, tR a0)] []
  unfold f_J4_length at hf
  refine fk_aload_n X 0 dJ4_length_0 rfl ?_
  obtain ⟨u1, hq, hf⟩ := bI hf
  obtain ⟨z2, hv, hf⟩ := bI hf
  refine fk_callSU0I (ci := 15) (rest := []) X hq rfl (c_J3_length hv) (by decide +kernel) n_J3_length q521 q517 q401 q516 q131 q522 dJ4_length_1 rfl rfl rfl rfl rfl (Nat.le_refl _) (Nat.le_refl _) ?_
  cases hf
  exact fk_ireturn X Y dJ4_length_4 rfl
/-! java/util/Arrays checkLength (II)V -/
theorem n_J9_checkLength : fk_N yJ9_checkLength 2 := ⟨by decide +kernel, by decide +kernel, by decide +kernel, by decide +kernel⟩
def f_J9_checkLength (a0 : Int32) (a1 : Int32) (m : fk_M) : Option Unit :=
  if a0 ≤ a1 then (some ()) else (none)
set_option maxHeartbeats 4000000 in
theorem c_J9_checkLength {l : Launch} {G : fk_G} {b0 : Nat} {n : Nat} {a0 : Int32} {a1 : Int32} {m : fk_M} (hf : f_J9_checkLength a0 a1 m = some ()) : fk_Ct l G b0 yJ9_checkLength cJ9_checkLength 2 none 1 60 [tI a0, tI a1] n m none n m 0 0 := by
  refine fk_enter n_J9_checkLength.1 rfl ?_
  intro E X0 Y
  have X : fk_X E l G b0 "java/util/Arrays" "checkLength" cJ9_checkLength 2 1 60 0 0 := X0
  show fk_W E 2 n m 0 0 0 [(0, tI a0), (1, tI a1)] []
  unfold f_J9_checkLength at hf
  refine fk_iload_n X 1 dJ9_checkLength_0 rfl ?_
  refine fk_iload_n X 0 dJ9_checkLength_1 rfl ?_
  refine fk_icmp_ge' X 37 dJ9_checkLength_2 rfl hf (fun hf => ?_) (fun hf => ?_)
  · cases hf
    exact fk_return X Y dJ9_checkLength_37
  · cases hf
/-! java/util/Arrays copyOfRangeByte ([BII)[B -/
theorem n_J9_copyOfRangeByte : fk_N yJ9_copyOfRangeByte 3 := ⟨by decide +kernel, by decide +kernel, by decide +kernel, by decide +kernel⟩
def f_J9_copyOfRangeByte (a0 : Option Nat) (a1 : Int32) (a2 : Int32) (n1 k1 : Nat) (m0 : fk_M) : Option ((Option Nat) × Nat × Nat × fk_M) :=
  (f_J9_checkLength a1 a2 m0).bind fun _ => (nA n1 m0 1 (a2 - a1)).bind fun m1 => (aLn m1 a0).bind fun z2 => (cpI m1 a0 a1 (some n1) 0 (i_min (z2 - a1) (a2 - a1))).bind fun m3 => some ((some n1), (n1 + 1), (k1 + (Int32.toNatClampNeg (a2 - a1))), m3)
theorem mo_J9_copyOfRangeByte (a0 : Option Nat) (a1 : Int32) (a2 : Int32) (n1 k1 : Nat) (m0 : fk_M) : Mo4 n1 k1 (f_J9_copyOfRangeByte a0 a1 a2 n1 k1 m0) := by
  unfold f_J9_copyOfRangeByte
  exact Mo4.bind (fun _ => Mo4.bind (fun m1 => Mo4.le (n1 := (n1 + 1)) (k1 := (k1 + (Int32.toNatClampNeg (a2 - a1)))) (Mo4.bind (fun z2 => Mo4.bind (fun m3 => Mo4.ok (by omega) (by omega)))) (by omega) (by omega)))
set_option maxHeartbeats 4000000 in
theorem c_J9_copyOfRangeByte {l : Launch} {G : fk_G} {b0 : Nat} {n1 k1 nF kF : Nat} {a0 : Option Nat} {a1 : Int32} {a2 : Int32} {m0 : fk_M} {r : Option Nat} {mF : fk_M} (hf : f_J9_copyOfRangeByte a0 a1 a2 n1 k1 m0 = some (r, nF, kF, mF)) : fk_Ct l G b0 yJ9_copyOfRangeByte cJ9_copyOfRangeByte 5 (some (.array .byte)) 2 81 [tR a0, tI a1, tI a2] n1 m0 (some (tR r)) nF mF (nF - n1) (kF - k1) := by
  refine fk_enter n_J9_copyOfRangeByte.1 rfl ?_
  intro E X0 Y
  have X : fk_X E l G b0 "java/util/Arrays" "copyOfRangeByte" cJ9_copyOfRangeByte 5 2 81 (nF - n1) (kF - k1) := X0
  show fk_W E 5 n1 m0 0 0 0 [(0, tR a0), (1, tI a1), (2, tI a2)] []
  refine fk_widen (cs2 := n1 - n1) (sl2 := k1 - k1) (Nat.zero_le _) (Nat.zero_le _) ?_
  unfold f_J9_copyOfRangeByte at hf
  have h01 : n1 ≤ n1 := Nat.le_refl _
  have h02 : k1 ≤ k1 := Nat.le_refl _
  refine fk_iload_n X 1 dJ9_copyOfRangeByte_0 rfl ?_
  refine fk_iload_n X 2 dJ9_copyOfRangeByte_1 rfl ?_
  obtain ⟨u9, hv, hf⟩ := bI hf
  have hm : n1 ≤ nF ∧ k1 ≤ kF := Mo4.use hf (Mo4.bind (fun m1 => Mo4.le (n1 := (n1 + 1)) (k1 := (k1 + (Int32.toNatClampNeg (a2 - a1)))) (Mo4.bind (fun z2 => Mo4.bind (fun m3 => Mo4.ok (by omega) (by omega)))) (by omega) (by omega)))
  refine fk_callS0V (rest := []) X (c_J9_checkLength hv) n_J9_checkLength q530 q531 q137 q532 dJ9_copyOfRangeByte_2 rfl rfl rfl rfl rfl (by omega) (by omega) ?_
  refine fk_iload_n X 2 dJ9_copyOfRangeByte_5 rfl ?_
  refine fk_iload_n X 1 dJ9_copyOfRangeByte_6 rfl ?_
  refine fk_isub X dJ9_copyOfRangeByte_7 ?_
  refine fk_istore_n X [(3, tI (a2 - a1)), (0, tR a0), (1, tI a1), (2, tI a2)] dJ9_copyOfRangeByte_8 rfl rfl ?_
  refine fk_iload_n X 0 dJ9_copyOfRangeByte_9 rfl ?_
  obtain ⟨m1, hv, hf⟩ := bI hf
  have hm : (n1 + 1) ≤ nF ∧ (k1 + (Int32.toNatClampNeg (a2 - a1))) ≤ kF := Mo4.use hf (Mo4.bind (fun z2 => Mo4.bind (fun m3 => Mo4.ok (by omega) (by omega))))
  refine fk_newI 1 (by decide) (cs2 := (n1 + 1) - n1) (sl2 := (k1 + (Int32.toNatClampNeg (a2 - a1))) - k1) X q189 dJ9_copyOfRangeByte_10 hv (by omega) (by omega) (by omega) (by omega) ?_
  refine fk_astore X [(4, tR (some n1)), (3, tI (a2 - a1)), (0, tR a0), (1, tI a1), (2, tI a2)] dJ9_copyOfRangeByte_12 rfl rfl ?_
  refine fk_aload_n X 2 dJ9_copyOfRangeByte_14 rfl ?_
  refine fk_iload_n X 3 dJ9_copyOfRangeByte_15 rfl ?_
  refine fk_aload X 0 dJ9_copyOfRangeByte_16 rfl ?_
  refine fk_iconst (v := 0) X dJ9_copyOfRangeByte_18 rfl ?_
  refine fk_aload_n X 2 dJ9_copyOfRangeByte_19 rfl ?_
  refine fk_alen' X dJ9_copyOfRangeByte_20 hf (fun z2 hf => ?_)
  refine fk_iload_n X 3 dJ9_copyOfRangeByte_21 rfl ?_
  refine fk_isub X dJ9_copyOfRangeByte_22 ?_
  refine fk_iload_n X 1 dJ9_copyOfRangeByte_23 rfl ?_
  refine fk_mmin X q438 q439 q136 q440 dJ9_copyOfRangeByte_24 (by omega) (Nat.le_trans (Nat.le_of_ble_eq_true (rfl : Nat.ble (_ + 13) 40 = true)) (by omega)) (by omega) (by omega) ?_
  refine fk_copyI' X q441 q443 q442 q138 dJ9_copyOfRangeByte_27 rfl rfl hf (fun m3 hf => ?_)
  refine fk_aload X 0 dJ9_copyOfRangeByte_30 rfl ?_
  cases hf
  exact fk_areturn X Y dJ9_copyOfRangeByte_32 (by first | exact Or.inl ⟨_, rfl⟩ | exact Or.inr ⟨_, rfl⟩)
/-! java/util/Arrays copyOfRange ([BII)[B -/
theorem n_J9_copyOfRange : fk_N yJ9_copyOfRange 3 := ⟨by decide +kernel, by decide +kernel, by decide +kernel, by decide +kernel⟩
def f_J9_copyOfRange_J10 (x0 : Option Nat) (x1 : Int32) (x2 : Int32) (n1 k1 : Nat) (m0 : fk_M) : Option ((Option Nat) × Nat × Nat × fk_M) :=
  bn4 (f_J9_copyOfRangeByte x0 x1 x2 n1 k1 m0) fun z1 n3 k4 m2 => some (z1, n3, k4, m2)
theorem mo_J9_copyOfRange_J10 (x0 : Option Nat) (x1 : Int32) (x2 : Int32) (n1 k1 : Nat) (m0 : fk_M) : Mo4 n1 k1 (f_J9_copyOfRange_J10 x0 x1 x2 n1 k1 m0) := by
  unfold f_J9_copyOfRange_J10
  exact Mo4.bn4 (mo_J9_copyOfRangeByte x0 x1 x2 n1 k1 m0) (fun z1 n3 k4 m2 => Mo4.ok (by omega) (by omega))
set_option maxHeartbeats 4000000 in
theorem w_J9_copyOfRange_J10 {E : fk_E} {l : Launch} {G : fk_G} {b0 n0 k0 nF kF : Nat} {r : Option Nat} {mF : fk_M} (X : fk_X E l G b0 "java/util/Arrays" "copyOfRange" cJ9_copyOfRange 3 3 105 (nF - n0) (kF - k0)) (Y : fk_Y E (some (.array .byte)) (some (tR r)) nF mF (nF - n0) (kF - k0)) (x0 : Option Nat) (x1 : Int32) (x2 : Int32)  (n1 k1 : Nat) (hn1 : n0 ≤ n1) (hk1 : k0 ≤ k1) (m0 : fk_M) (hf : f_J9_copyOfRange_J10 x0 x1 x2 n1 k1 m0 = some (r, nF, kF, mF)) : fk_W E 3 n1 m0 (n1 - n0) (k1 - k0) 10 [(0, tR x0), (1, tI x1), (2, tI x2)] [] := by
  unfold f_J9_copyOfRange_J10 at hf
  refine fk_aload_n X 0 dJ9_copyOfRange_10 rfl ?_
  refine fk_iload_n X 1 dJ9_copyOfRange_11 rfl ?_
  refine fk_iload_n X 2 dJ9_copyOfRange_12 rfl ?_
  obtain ⟨z1, n3, k4, m2, hv, hf⟩ := bn4_eq hf
  have hmc := mo_J9_copyOfRangeByte x0 x1 x2 n1 k1 m0 _ _ _ _ hv
  have hm : n3 ≤ nF ∧ k4 ≤ kF := Mo4.use hf (Mo4.ok (by omega) (by omega))
  refine fk_callS1R (rest := []) (cs2 := n3 - n0) (sl2 := k4 - k0) X (c_J9_copyOfRangeByte hv) n_J9_copyOfRangeByte q527 q528 q137 q529 dJ9_copyOfRange_13 rfl rfl rfl rfl rfl (by omega) (by omega) (by omega) (by omega) ?_
  cases hf
  exact fk_areturn X Y dJ9_copyOfRange_16 (by first | exact Or.inl ⟨_, rfl⟩ | exact Or.inr ⟨_, rfl⟩)
def f_J9_copyOfRange (a0 : Option Nat) (a1 : Int32) (a2 : Int32) (n1 k1 : Nat) (m0 : fk_M) : Option ((Option Nat) × Nat × Nat × fk_M) :=
  if a1 = 0 then ((aLn m0 a0).bind fun z1 => if a2 = z1 then (none) else (f_J9_copyOfRange_J10 a0 a1 a2 n1 k1 m0)) else (f_J9_copyOfRange_J10 a0 a1 a2 n1 k1 m0)
theorem mo_J9_copyOfRange (a0 : Option Nat) (a1 : Int32) (a2 : Int32) (n1 k1 : Nat) (m0 : fk_M) : Mo4 n1 k1 (f_J9_copyOfRange a0 a1 a2 n1 k1 m0) := by
  unfold f_J9_copyOfRange
  exact Mo4.ite (Mo4.bind (fun z1 => Mo4.ite (Mo4.no) ((mo_J9_copyOfRange_J10 a0 a1 a2 n1 k1 m0)))) ((mo_J9_copyOfRange_J10 a0 a1 a2 n1 k1 m0))
set_option maxHeartbeats 4000000 in
theorem c_J9_copyOfRange {l : Launch} {G : fk_G} {b0 : Nat} {n1 k1 nF kF : Nat} {a0 : Option Nat} {a1 : Int32} {a2 : Int32} {m0 : fk_M} {r : Option Nat} {mF : fk_M} (hf : f_J9_copyOfRange a0 a1 a2 n1 k1 m0 = some (r, nF, kF, mF)) : fk_Ct l G b0 yJ9_copyOfRange cJ9_copyOfRange 3 (some (.array .byte)) 3 105 [tR a0, tI a1, tI a2] n1 m0 (some (tR r)) nF mF (nF - n1) (kF - k1) := by
  refine fk_enter n_J9_copyOfRange.1 rfl ?_
  intro E X0 Y
  have X : fk_X E l G b0 "java/util/Arrays" "copyOfRange" cJ9_copyOfRange 3 3 105 (nF - n1) (kF - k1) := X0
  show fk_W E 3 n1 m0 0 0 0 [(0, tR a0), (1, tI a1), (2, tI a2)] []
  refine fk_widen (cs2 := n1 - n1) (sl2 := k1 - k1) (Nat.zero_le _) (Nat.zero_le _) ?_
  unfold f_J9_copyOfRange at hf
  have h01 : n1 ≤ n1 := Nat.le_refl _
  have h02 : k1 ≤ k1 := Nat.le_refl _
  refine fk_iload_n X 1 dJ9_copyOfRange_0 rfl ?_
  refine fk_if_ne' X 10 dJ9_copyOfRange_1 rfl hf (fun hf => ?_) (fun hf => ?_)
  · have hn : n1 ≤ n1 := by omega
    have hk : k1 ≤ k1 := by omega
    exact fk_cut' (w_J9_copyOfRange_J10 X Y a0 a1 a2 n1 k1 hn hk m0 hf) [0, 1, 2] rfl
  · refine fk_iload_n X 2 dJ9_copyOfRange_4 rfl ?_
    refine fk_aload_n X 0 dJ9_copyOfRange_5 rfl ?_
    refine fk_alen' X dJ9_copyOfRange_6 hf (fun z1 hf => ?_)
    refine fk_icmp_eq' X 17 dJ9_copyOfRange_7 rfl hf (fun hf => ?_) (fun hf => ?_)
    · cases hf
    · have hn : n1 ≤ n1 := by omega
      have hk : k1 ≤ k1 := by omega
      exact fk_cut' (w_J9_copyOfRange_J10 X Y a0 a1 a2 n1 k1 hn hk m0 hf) [0, 1, 2] rfl
/-! java/lang/String <init> (Ljava/lang/AbstractStringBuilder;Ljava/lang/Void;)V -/
theorem n_J5_init_2 : fk_N yJ5_init_2 2 := ⟨by decide +kernel, by decide +kernel, by decide +kernel, by decide +kernel⟩
def f_J5_init_2_J79 (x0 : Option Nat) (x3 : Option Nat) (x4 : Int32) (n1 k1 : Nat) (m0 : fk_M) : Option (Nat × Nat × fk_M) :=
  (pB m0 x0 16 1 1).bind fun m1 => bn4 (f_J9_copyOfRange x3 0 (i_shl x4 1) n1 k1 m1) fun z2 n4 k5 m3 => (pV m3 x0 16 0 (tR z2)).bind fun m6 => some (n4, k5, m6)
theorem mo_J5_init_2_J79 (x0 : Option Nat) (x3 : Option Nat) (x4 : Int32) (n1 k1 : Nat) (m0 : fk_M) : Mo3 n1 k1 (f_J5_init_2_J79 x0 x3 x4 n1 k1 m0) := by
  unfold f_J5_init_2_J79
  exact Mo3.bind (fun m1 => Mo3.bn4 (mo_J9_copyOfRange x3 0 (i_shl x4 1) n1 k1 m1) (fun z2 n4 k5 m3 => Mo3.bind (fun m6 => Mo3.ok (by omega) (by omega))))
set_option maxHeartbeats 4000000 in
theorem w_J5_init_2_J79 {E : fk_E} {l : Launch} {G : fk_G} {b0 n0 k0 nF kF : Nat} {mF : fk_M} (X : fk_X E l G b0 "java/lang/String" "<init>" cJ5_init_2 5 4 127 (nF - n0) (kF - k0)) (Y : fk_Y E none none nF mF (nF - n0) (kF - k0)) (x0 : Option Nat) (x3 : Option Nat) (x4 : Int32)  (n1 k1 : Nat) (hn1 : n0 ≤ n1) (hk1 : k0 ≤ k1) (m0 : fk_M) (hf : f_J5_init_2_J79 x0 x3 x4 n1 k1 m0 = some (nF, kF, mF)) : fk_W E 5 n1 m0 (n1 - n0) (k1 - k0) 79 [(0, tR x0), (3, tR x3), (4, tI x4)] [] := by
  unfold f_J5_init_2_J79 at hf
  refine fk_aload_n X 0 dJ5_init_2_79 rfl ?_
  refine fk_iconst (v := 1) X dJ5_init_2_80 rfl ?_
  refine fk_putFB' X fd_16_1 q548 dJ5_init_2_81  hf (fun m1 hf => ?_)
  refine fk_aload_n X 0 dJ5_init_2_84 rfl ?_
  refine fk_aload_n X 1 dJ5_init_2_85 rfl ?_
  refine fk_iconst (v := 0) X dJ5_init_2_86 rfl ?_
  refine fk_iload X 2 dJ5_init_2_87 rfl ?_
  refine fk_iconst (v := 1) X dJ5_init_2_89 rfl ?_
  refine fk_ishl X dJ5_init_2_90 ?_
  obtain ⟨z2, n4, k5, m3, hv, hf⟩ := bn4_eq hf
  have hmc := mo_J9_copyOfRange x3 0 (i_shl x4 1) n1 k1 m1 _ _ _ _ hv
  have hm : n4 ≤ nF ∧ k5 ≤ kF := Mo3.use hf (Mo3.bind (fun m6 => Mo3.ok (by omega) (by omega)))
  refine fk_callS1R (rest := [tR x0]) (cs2 := n4 - n0) (sl2 := k5 - k0) X (c_J9_copyOfRange hv) n_J9_copyOfRange q524 q525 q137 q526 dJ5_init_2_91 rfl rfl rfl rfl rfl (by omega) (by omega) (by omega) (by omega) ?_
  refine fk_putFR' X fd_16_0 q547 dJ5_init_2_94 (fit_A _) hf (fun m6 hf => ?_)
  cases hf
  exact fk_return X Y dJ5_init_2_97
def f_J5_init_2 (a0 : Option Nat) (a1 : Option Nat) (a2 : Option Nat) (n1 k1 : Nat) (m0 : fk_M) : Option (Nat × Nat × fk_M) :=
  (isS a0).bind fun _ => (isO m0 a1 15).bind fun u1 => (f_J3_getValue a1 m0).bind fun z2 => (isO m0 a1 15).bind fun u3 => (f_J4_length a1 m0).bind fun z4 => (isO m0 a1 15).bind fun u5 => (f_J3_isLatin1 a1 m0).bind fun z6 => if z6 = 0 then ((gI m0 a1 15 2).bind fun z7 => if z7 = 0 then (f_J5_init_2_J79 a0 z2 z4 n1 k1 m0) else (none)) else ((pB m0 a0 16 1 0).bind fun m8 => bn4 (f_J9_copyOfRange z2 0 z4 n1 k1 m8) fun z9 n11 k12 m10 => (pV m10 a0 16 0 (tR z9)).bind fun m13 => some (n11, k12, m13))
theorem mo_J5_init_2 (a0 : Option Nat) (a1 : Option Nat) (a2 : Option Nat) (n1 k1 : Nat) (m0 : fk_M) : Mo3 n1 k1 (f_J5_init_2 a0 a1 a2 n1 k1 m0) := by
  unfold f_J5_init_2
  exact Mo3.bind (fun _ => Mo3.bind (fun u1 => Mo3.bind (fun z2 => Mo3.bind (fun u3 => Mo3.bind (fun z4 => Mo3.bind (fun u5 => Mo3.bind (fun z6 => Mo3.ite (Mo3.bind (fun z7 => Mo3.ite ((mo_J5_init_2_J79 a0 z2 z4 n1 k1 m0)) (Mo3.no))) (Mo3.bind (fun m8 => Mo3.bn4 (mo_J9_copyOfRange z2 0 z4 n1 k1 m8) (fun z9 n11 k12 m10 => Mo3.bind (fun m13 => Mo3.ok (by omega) (by omega))))))))))))
set_option maxHeartbeats 4000000 in
theorem c_J5_init_2 {l : Launch} {G : fk_G} {b0 : Nat} {n1 k1 nF kF : Nat} {a0 : Option Nat} {a1 : Option Nat} {a2 : Option Nat} {m0 : fk_M} {mF : fk_M} (hf : f_J5_init_2 a0 a1 a2 n1 k1 m0 = some (nF, kF, mF)) : fk_Ct l G b0 yJ5_init_2 cJ5_init_2 5 none 4 127 [tR a0, tR a1, tR a2] n1 m0 none nF mF (nF - n1) (kF - k1) := by
  refine fk_enter n_J5_init_2.1 rfl ?_
  intro E X0 Y
  have X : fk_X E l G b0 "java/lang/String" "<init>" cJ5_init_2 5 4 127 (nF - n1) (kF - k1) := X0
  show fk_W E 5 n1 m0 0 0 0 [(0, tR a0), (1, tR a1), (2, tR a2)] []
  refine fk_widen (cs2 := n1 - n1) (sl2 := k1 - k1) (Nat.zero_le _) (Nat.zero_le _) ?_
  unfold f_J5_init_2 at hf
  have h01 : n1 ≤ n1 := Nat.le_refl _
  have h02 : k1 ≤ k1 := Nat.le_refl _
  refine fk_aload_n X 0 dJ5_init_2_0 rfl ?_
  refine fk_objInit' X q509 q161 q162 dJ5_init_2_1 rfl rfl hf (fun hf => ?_)
  refine fk_aload_n X 1 dJ5_init_2_4 rfl ?_
  obtain ⟨u1, hq, hf⟩ := bI hf
  obtain ⟨z2, hv, hf⟩ := bI hf
  have hm : n1 ≤ nF ∧ k1 ≤ kF := Mo3.use hf (Mo3.bind (fun u3 => Mo3.bind (fun z4 => Mo3.bind (fun u5 => Mo3.bind (fun z6 => Mo3.ite (Mo3.bind (fun z7 => Mo3.ite ((mo_J5_init_2_J79 a0 z2 z4 n1 k1 m0)) (Mo3.no))) (Mo3.bind (fun m8 => Mo3.bn4 (mo_J9_copyOfRange z2 0 z4 n1 k1 m8) (fun z9 n11 k12 m10 => Mo3.bind (fun m13 => Mo3.ok (by omega) (by omega))))))))))
  refine fk_callU0R (ci := 15) (rest := []) (owner := "java/lang/AbstractStringBuilder") X hq rfl (c_J3_getValue hv) n_J3_getValue.2 rfl q510 q512 q513 q511 q131 q514 dJ5_init_2_5 rfl rfl rfl rfl rfl (by omega) (by omega) ?_
  refine fk_astore_n X [(3, tR z2), (0, tR a0), (1, tR a1), (2, tR a2)] dJ5_init_2_8 rfl rfl ?_
  refine fk_aload_n X 2 dJ5_init_2_9 rfl ?_
  obtain ⟨u3, hq, hf⟩ := bI hf
  obtain ⟨z4, hv, hf⟩ := bI hf
  have hm : n1 ≤ nF ∧ k1 ≤ kF := Mo3.use hf (Mo3.bind (fun u5 => Mo3.bind (fun z6 => Mo3.ite (Mo3.bind (fun z7 => Mo3.ite ((mo_J5_init_2_J79 a0 z2 z4 n1 k1 m0)) (Mo3.no))) (Mo3.bind (fun m8 => Mo3.bn4 (mo_J9_copyOfRange z2 0 z4 n1 k1 m8) (fun z9 n11 k12 m10 => Mo3.bind (fun m13 => Mo3.ok (by omega) (by omega))))))))
  refine fk_callO0I (na := 0) (ci := 15) (rest := []) (owner := "java/lang/AbstractStringBuilder") X hq rfl (c_J4_length hv) (by decide +kernel) q522 q515 q517 q516 q518 q519 q132 q520 dJ5_init_2_10 rfl rfl rfl rfl rfl (by omega) (by omega) ?_
  refine fk_istore X [(4, tI z4), (3, tR z2), (0, tR a0), (1, tR a1), (2, tR a2)] dJ5_init_2_13 rfl rfl ?_
  refine fk_aload_n X 3 dJ5_init_2_15 rfl ?_
  obtain ⟨u5, hq, hf⟩ := bI hf
  obtain ⟨z6, hv, hf⟩ := bI hf
  have hm : n1 ≤ nF ∧ k1 ≤ kF := Mo3.use hf (Mo3.ite (Mo3.bind (fun z7 => Mo3.ite ((mo_J5_init_2_J79 a0 z2 z4 n1 k1 m0)) (Mo3.no))) (Mo3.bind (fun m8 => Mo3.bn4 (mo_J9_copyOfRange z2 0 z4 n1 k1 m8) (fun z9 n11 k12 m10 => Mo3.bind (fun m13 => Mo3.ok (by omega) (by omega))))))
  refine fk_callU0I (ci := 15) (rest := []) (owner := "java/lang/AbstractStringBuilder") X hq rfl (c_J3_isLatin1 hv) n_J3_isLatin1.2 rfl q523 q446 q447 q445 q131 q448 dJ5_init_2_16 rfl rfl rfl rfl rfl (by omega) (by omega) ?_
  refine fk_if_eq' X 41 dJ5_init_2_19 rfl hf (fun hf => ?_) (fun hf => ?_)
  · refine fk_gets (x := tI 1) X (List.mem_of_getElem? (i := 0) rfl) rfl q533 dJ5_init_2_41 ?_
    refine fk_if_eq X 79 dJ5_init_2_44 rfl (fun h => absurd h (by decide)) (fun _ => ?_)
    refine fk_aload_n X 3 dJ5_init_2_47 rfl ?_
    refine fk_getI' X fd_15_2 q391 dJ5_init_2_48 hf (fun z7 hf => ?_)
    refine fk_if_eq' X 79 dJ5_init_2_51 rfl hf (fun hf => ?_) (fun hf => ?_)
    · have hn : n1 ≤ n1 := by omega
      have hk : k1 ≤ k1 := by omega
      exact fk_cut' (w_J5_init_2_J79 X Y a0 z2 z4 n1 k1 hn hk m0 hf) [2, 1, 0] rfl
    · cases hf
  · refine fk_aload_n X 2 dJ5_init_2_22 rfl ?_
    refine fk_iconst (v := 0) X dJ5_init_2_23 rfl ?_
    refine fk_putFB' X fd_16_1 q548 dJ5_init_2_24  hf (fun m8 hf => ?_)
    refine fk_aload_n X 2 dJ5_init_2_27 rfl ?_
    refine fk_aload_n X 1 dJ5_init_2_28 rfl ?_
    refine fk_iconst (v := 0) X dJ5_init_2_29 rfl ?_
    refine fk_iload X 0 dJ5_init_2_30 rfl ?_
    obtain ⟨z9, n11, k12, m10, hv, hf⟩ := bn4_eq hf
    have hmc := mo_J9_copyOfRange z2 0 z4 n1 k1 m8 _ _ _ _ hv
    have hm : n11 ≤ nF ∧ k12 ≤ kF := Mo3.use hf (Mo3.bind (fun m13 => Mo3.ok (by omega) (by omega)))
    refine fk_callS1R (rest := [tR a0]) (cs2 := n11 - n1) (sl2 := k12 - k1) X (c_J9_copyOfRange hv) n_J9_copyOfRange q524 q525 q137 q526 dJ5_init_2_32 rfl rfl rfl rfl rfl (by omega) (by omega) (by omega) (by omega) ?_
    refine fk_putFR' X fd_16_0 q547 dJ5_init_2_35 (fit_A _) hf (fun m13 hf => ?_)
    refine fk_goto X 97 dJ5_init_2_38 rfl ?_
    cases hf
    exact fk_return X Y dJ5_init_2_97
/-! java/lang/String <init> (Ljava/lang/StringBuilder;)V -/
theorem n_J5_init : fk_N yJ5_init 1 := ⟨by decide +kernel, by decide +kernel, by decide +kernel, by decide +kernel⟩
def f_J5_init (a0 : Option Nat) (a1 : Option Nat) (n1 k1 : Nat) (m0 : fk_M) : Option (Nat × Nat × fk_M) :=
  (isS a0).bind fun u1 => bn3 (f_J5_init_2 a0 a1 none n1 k1 m0) fun n3 k4 m2 => some (n3, k4, m2)
theorem mo_J5_init (a0 : Option Nat) (a1 : Option Nat) (n1 k1 : Nat) (m0 : fk_M) : Mo3 n1 k1 (f_J5_init a0 a1 n1 k1 m0) := by
  unfold f_J5_init
  exact Mo3.bind (fun u1 => Mo3.bn3 (mo_J5_init_2 a0 a1 none n1 k1 m0) (fun n3 k4 m2 => Mo3.ok (by omega) (by omega)))
set_option maxHeartbeats 4000000 in
theorem c_J5_init {l : Launch} {G : fk_G} {b0 : Nat} {n1 k1 nF kF : Nat} {a0 : Option Nat} {a1 : Option Nat} {m0 : fk_M} {mF : fk_M} (hf : f_J5_init a0 a1 n1 k1 m0 = some (nF, kF, mF)) : fk_Ct l G b0 yJ5_init cJ5_init 2 none 5 151 [tR a0, tR a1] n1 m0 none nF mF (nF - n1) (kF - k1) := by
  refine fk_enter n_J5_init.1 rfl ?_
  intro E X0 Y
  have X : fk_X E l G b0 "java/lang/String" "<init>" cJ5_init 2 5 151 (nF - n1) (kF - k1) := X0
  show fk_W E 2 n1 m0 0 0 0 [(0, tR a0), (1, tR a1)] []
  refine fk_widen (cs2 := n1 - n1) (sl2 := k1 - k1) (Nat.zero_le _) (Nat.zero_le _) ?_
  unfold f_J5_init at hf
  have h01 : n1 ≤ n1 := Nat.le_refl _
  have h02 : k1 ≤ k1 := Nat.le_refl _
  refine fk_aload_n X 0 dJ5_init_0 rfl ?_
  refine fk_aload_n X 1 dJ5_init_1 rfl ?_
  refine fk_null X dJ5_init_2 ?_
  obtain ⟨u1, hq, hf⟩ := bI hf
  obtain ⟨n3, k4, m2, hv, hf⟩ := bn3_eq hf
  have hmc := mo_J5_init_2 a0 a1 none n1 k1 m0 _ _ _ hv
  have hm : n3 ≤ nF ∧ k4 ≤ kF := Mo3.use hf (Mo3.ok (by omega) (by omega))
  refine fk_callI1V (rest := []) (cs2 := n3 - n1) (sl2 := k4 - k1) X hq (c_J5_init_2 hv) n_J5_init_2 rfl q506 q507 q133 q508 dJ5_init_3 rfl rfl rfl rfl rfl (by omega) (by omega) (by omega) (by omega) ?_
  cases hf
  exact fk_return X Y dJ5_init_6
/-! java/lang/StringBuilder toString ()Ljava/lang/String; -/
theorem n_J4_toString : fk_N yJ4_toString 0 := ⟨by decide +kernel, by decide +kernel, by decide +kernel, by decide +kernel⟩
def f_J4_toString (a0 : Option Nat) (n1 k1 : Nat) (m0 : fk_M) : Option ((Option Nat) × Nat × Nat × fk_M) :=
  (isS (some n1)).bind fun u2 => bn3 (f_J5_init (some n1) a0 (n1 + 1) (k1 + 4) (fk_up m0 n1 (oB 16 (fk_V0 tyJ5)))) fun n4 k5 m3 => some ((some n1), n4, k5, m3)
theorem mo_J4_toString (a0 : Option Nat) (n1 k1 : Nat) (m0 : fk_M) : Mo4 n1 k1 (f_J4_toString a0 n1 k1 m0) := by
  unfold f_J4_toString
  exact Mo4.le (n1 := (n1 + 1)) (k1 := (k1 + 4)) (Mo4.bind (fun u2 => Mo4.bn3 (mo_J5_init (some n1) a0 (n1 + 1) (k1 + 4) (fk_up m0 n1 (oB 16 (fk_V0 tyJ5)))) (fun n4 k5 m3 => Mo4.ok (by omega) (by omega)))) (by omega) (by omega)
set_option maxHeartbeats 4000000 in
theorem c_J4_toString {l : Launch} {G : fk_G} {b0 : Nat} {n1 k1 nF kF : Nat} {a0 : Option Nat} {m0 : fk_M} {r : Option Nat} {mF : fk_M} (hf : f_J4_toString a0 n1 k1 m0 = some (r, nF, kF, mF)) : fk_Ct l G b0 yJ4_toString cJ4_toString 1 (some (.object "java/lang/String")) 6 172 [tR a0] n1 m0 (some (tR r)) nF mF (nF - n1) (kF - k1) := by
  refine fk_enter n_J4_toString.1 rfl ?_
  intro E X0 Y
  have X : fk_X E l G b0 "java/lang/StringBuilder" "toString" cJ4_toString 1 6 172 (nF - n1) (kF - k1) := X0
  show fk_W E 1 n1 m0 0 0 0 [(0, tR a0)] []
  refine fk_widen (cs2 := n1 - n1) (sl2 := k1 - k1) (Nat.zero_le _) (Nat.zero_le _) ?_
  unfold f_J4_toString at hf
  have h01 : n1 ≤ n1 := Nat.le_refl _
  have h02 : k1 ≤ k1 := Nat.le_refl _
  have hm : (n1 + 1) ≤ nF ∧ (k1 + 4) ≤ kF := Mo4.use hf (Mo4.bind (fun u2 => Mo4.bn3 (mo_J5_init (some n1) a0 (n1 + 1) (k1 + 4) (fk_up m0 n1 (oB 16 (fk_V0 tyJ5)))) (fun n4 k5 m3 => Mo4.ok (by omega) (by omega))))
  refine fk_new (cs2 := (n1 + 1) - n1) (sl2 := (k1 + 4) - k1) X cl_16 q501 dJ4_toString_0 (by omega) (by omega) (by omega) (by omega) ?_
  refine fk_dup X dJ4_toString_3 rfl ?_
  refine fk_aload_n X 0 dJ4_toString_4 rfl ?_
  obtain ⟨u2, hq, hf⟩ := bI hf
  obtain ⟨n4, k5, m3, hv, hf⟩ := bn3_eq hf
  have hmc := mo_J5_init (some n1) a0 (n1 + 1) (k1 + 4) (fk_up m0 n1 (oB 16 (fk_V0 tyJ5))) _ _ _ hv
  have hm : n4 ≤ nF ∧ k5 ≤ kF := Mo4.use hf (Mo4.ok (by omega) (by omega))
  refine fk_callI1V (rest := [tR (some n1)]) (cs2 := n4 - n1) (sl2 := k5 - k1) X hq (c_J5_init hv) n_J5_init rfl q503 q504 q133 q505 dJ4_toString_5 rfl rfl rfl rfl rfl (by omega) (by omega) (by omega) (by omega) ?_
  cases hf
  exact fk_areturn X Y dJ4_toString_8 (by first | exact Or.inl ⟨_, rfl⟩ | exact Or.inr ⟨_, rfl⟩)
/-! java/lang/String isLatin1 ()Z -/
theorem n_J5_isLatin1 : fk_N yJ5_isLatin1 0 := ⟨by decide +kernel, by decide +kernel, by decide +kernel, by decide +kernel⟩
def f_J5_isLatin1 (a0 : Option Nat) (m : fk_M) : Option Int32 :=
  (gI m a0 16 1).bind fun z1 => some (if z1 = 0 then (1 : Int32) else 0)
set_option maxHeartbeats 4000000 in
theorem c_J5_isLatin1 {l : Launch} {G : fk_G} {b0 : Nat} {n : Nat} {a0 : Option Nat} {m : fk_M} {r : Int32} (hf : f_J5_isLatin1 a0 m = some r) : fk_Ct l G b0 yJ5_isLatin1 cJ5_isLatin1 1 (some .boolean) 1 60 [tR a0] n m (some (tI r)) n m 0 0 := by
  refine fk_enter n_J5_isLatin1.1 rfl ?_
  intro E X0 Y
  have X : fk_X E l G b0 "java/lang/String" "isLatin1" cJ5_isLatin1 1 1 60 0 0 := X0
  show fk_W E 1 n m 0 0 0 [(0, tR a0)] []
  unfold f_J5_isLatin1 at hf
  refine fk_gets (x := tI 1) X (List.mem_of_getElem? (i := 0) rfl) rfl q533 dJ5_isLatin1_0 ?_
  refine fk_if_eq X 17 dJ5_isLatin1_3 rfl (fun h => absurd h (by decide)) (fun _ => ?_)
  refine fk_aload_n X 0 dJ5_isLatin1_6 rfl ?_
  refine fk_getI' X fd_16_1 q548 dJ5_isLatin1_7 hf (fun z1 hf => ?_)
  have J1 : fk_W E 1 n m 0 0 18 [] [tI (if z1 = 0 then (1 : Int32) else 0)] := by
    cases hf
    exact fk_ireturn X Y dJ5_isLatin1_18 (by (repeat' split) <;> decide +kernel)
  refine fk_if_ne X 17 dJ5_isLatin1_10 rfl (fun hc2 => ?_) (fun hc2 => ?_)
  · refine fk_iconst (v := 0) X dJ5_isLatin1_17 rfl ?_
    simp only [if_neg hc2] at J1
    exact fk_cut' J1 [] rfl
  · refine fk_iconst (v := 1) X dJ5_isLatin1_13 rfl ?_
    refine fk_goto X 18 dJ5_isLatin1_14 rfl ?_
    simp only [if_pos hc2] at J1
    exact fk_cut' J1 [] rfl
/-! jdk/internal/util/ArraysSupport signedHashCode (I[BII)I -/
theorem n_J7_signedHashCode : fk_N yJ7_signedHashCode 4 := ⟨by decide +kernel, by decide +kernel, by decide +kernel, by decide +kernel⟩
def f_J7_signedHashCode_L8 (x1 : Option Nat) (x4 : Int32) (m : fk_M) : Nat → Int32 → Int32 → Option Int32
  | 0, _, _ => none
  | N + 1, x0, x5 =>
  if x4 ≤ x5 then (some x0) else ((aI m x1 1 x5).bind fun z1 => f_J7_signedHashCode_L8 x1 x4 m N ((31 * x0) + (z1 &&& 255)) (x5 + 1))
set_option maxHeartbeats 4000000 in
theorem w_J7_signedHashCode_L8 {E : fk_E} {l : Launch} {G : fk_G} {b0 n : Nat} {m : fk_M} {r : Int32} (X : fk_X E l G b0 "jdk/internal/util/ArraysSupport" "signedHashCode" cJ7_signedHashCode 6 1 60 0 0) (Y : fk_Y E (some .int) (some (tI r)) n m 0 0) (x1 : Option Nat) (x4 : Int32) : ∀ (N : Nat) (x0 : Int32) (x5 : Int32), f_J7_signedHashCode_L8 x1 x4 m N x0 x5 = some r → fk_W E 6 n m 0 0 8 [(0, tI x0), (1, tR x1), (4, tI x4), (5, tI x5)] [] := by
  intro N
  induction N with
  | zero =>
    intro x0 x5 hf
    have hf : (none : Option Int32) = some _ := hf
    cases hf
  | succ N ih =>
    intro x0 x5 hf
    rw [f_J7_signedHashCode_L8] at hf
    refine fk_iload X 3 dJ7_signedHashCode_8 rfl ?_
    refine fk_iload X 2 dJ7_signedHashCode_10 rfl ?_
    refine fk_icmp_ge' X 35 dJ7_signedHashCode_12 rfl hf (fun hf => ?_) (fun hf => ?_)
    · refine fk_iload_n X 0 dJ7_signedHashCode_35 rfl ?_
      cases hf
      exact fk_ireturn X Y dJ7_signedHashCode_36 rfl
    · refine fk_bipush (v := 31) X dJ7_signedHashCode_15 rfl ?_
      refine fk_iload_n X 0 dJ7_signedHashCode_17 rfl ?_
      refine fk_imul X dJ7_signedHashCode_18 ?_
      refine fk_aload_n X 1 dJ7_signedHashCode_19 rfl ?_
      refine fk_iload X 3 dJ7_signedHashCode_20 rfl ?_
      refine fk_baload' X dJ7_signedHashCode_22 hf (fun z1 hf => ?_)
      refine fk_sipush (v := 255) X dJ7_signedHashCode_23 rfl ?_
      refine fk_iand X dJ7_signedHashCode_26 ?_
      refine fk_iadd X dJ7_signedHashCode_27 ?_
      refine fk_istore_n X [(0, tI ((31 * x0) + (z1 &&& 255))), (1, tR x1), (4, tI x4), (5, tI x5)] dJ7_signedHashCode_28 rfl rfl ?_
      refine fk_iinc X 3 [(5, tI (x5 + 1)), (0, tI ((31 * x0) + (z1 &&& 255))), (1, tR x1), (4, tI x4)] dJ7_signedHashCode_29 rfl rfl rfl rfl ?_
      refine fk_goto X 8 dJ7_signedHashCode_32 rfl ?_
      exact fk_cut' (ih ((31 * x0) + (z1 &&& 255)) (x5 + 1)  hf) [1, 2, 3, 0] rfl
def f_J7_signedHashCode (a0 : Int32) (a1 : Option Nat) (a2 : Int32) (a3 : Int32) (m : fk_M) : Option Int32 :=
  f_J7_signedHashCode_L8 a1 (a2 + a3) m fk_fuel a0 a2
set_option maxHeartbeats 4000000 in
theorem c_J7_signedHashCode {l : Launch} {G : fk_G} {b0 : Nat} {n : Nat} {a0 : Int32} {a1 : Option Nat} {a2 : Int32} {a3 : Int32} {m : fk_M} {r : Int32} (hf : f_J7_signedHashCode a0 a1 a2 a3 m = some r) : fk_Ct l G b0 yJ7_signedHashCode cJ7_signedHashCode 6 (some .int) 1 60 [tI a0, tR a1, tI a2, tI a3] n m (some (tI r)) n m 0 0 := by
  refine fk_enter n_J7_signedHashCode.1 rfl ?_
  intro E X0 Y
  have X : fk_X E l G b0 "jdk/internal/util/ArraysSupport" "signedHashCode" cJ7_signedHashCode 6 1 60 0 0 := X0
  show fk_W E 6 n m 0 0 0 [(0, tI a0), (1, tR a1), (2, tI a2), (3, tI a3)] []
  unfold f_J7_signedHashCode at hf
  refine fk_iload_n X 2 dJ7_signedHashCode_0 rfl ?_
  refine fk_iload_n X 3 dJ7_signedHashCode_1 rfl ?_
  refine fk_iadd X dJ7_signedHashCode_2 ?_
  refine fk_istore X [(4, tI (a2 + a3)), (0, tI a0), (1, tR a1), (2, tI a2), (3, tI a3)] dJ7_signedHashCode_3 rfl rfl ?_
  refine fk_iload_n X 3 dJ7_signedHashCode_5 rfl ?_
  refine fk_istore X [(5, tI a2), (4, tI (a2 + a3)), (0, tI a0), (1, tR a1), (2, tI a2), (3, tI a3)] dJ7_signedHashCode_6 rfl rfl ?_
  exact fk_cut' (w_J7_signedHashCode_L8 X Y a1 (a2 + a3) fk_fuel a0 a2 hf) [2, 3, 1, 0] rfl
/-! jdk/internal/util/ArraysSupport vectorizedHashCode (Ljava/lang/Object;IIII)I -/
theorem n_J7_vectorizedHashCode : fk_N yJ7_vectorizedHashCode 5 := ⟨by decide +kernel, by decide +kernel, by decide +kernel, by decide +kernel⟩
def f_J7_vectorizedHashCode (a0 : Option Nat) (a1 : Int32) (a2 : Int32) (a3 : Int32) (a4 : Int32) (m : fk_M) : Option Int32 :=
  if a4 = 4 then ((cstB m a0).bind fun _ => (f_J7_signedHashCode a3 a0 a1 a2 m).bind fun z1 => some z1) else (if a4 = 5 then (none) else (if a4 = 6 then (none) else (if a4 = 7 then (none) else (if a4 = 8 then (none) else (if a4 = 9 then (none) else (if a4 = 10 then (none) else (none)))))))
set_option maxHeartbeats 4000000 in
theorem c_J7_vectorizedHashCode {l : Launch} {G : fk_G} {b0 : Nat} {n : Nat} {a0 : Option Nat} {a1 : Int32} {a2 : Int32} {a3 : Int32} {a4 : Int32} {m : fk_M} {r : Int32} (hf : f_J7_vectorizedHashCode a0 a1 a2 a3 a4 m = some r) : fk_Ct l G b0 yJ7_vectorizedHashCode cJ7_vectorizedHashCode 5 (some .int) 2 85 [tR a0, tI a1, tI a2, tI a3, tI a4] n m (some (tI r)) n m 0 0 := by
  refine fk_enter n_J7_vectorizedHashCode.1 rfl ?_
  intro E X0 Y
  have X : fk_X E l G b0 "jdk/internal/util/ArraysSupport" "vectorizedHashCode" cJ7_vectorizedHashCode 5 2 85 0 0 := X0
  show fk_W E 5 n m 0 0 0 [(0, tR a0), (1, tI a1), (2, tI a2), (3, tI a3), (4, tI a4)] []
  unfold f_J7_vectorizedHashCode at hf
  refine fk_iload X 4 dJ7_vectorizedHashCode_0 rfl ?_
  by_cases hs1 : a4 = 4
  · rw [if_pos hs1] at hf
    refine fk_tableIn X 44 dJ7_vectorizedHashCode_2 (by rw [hs1]; decide) (by rw [hs1]; decide) (by rw [hs1]; rfl) rfl ?_
    refine fk_iload_n X 3 dJ7_vectorizedHashCode_44 rfl ?_
    refine fk_aload_n X 0 dJ7_vectorizedHashCode_45 rfl ?_
    refine fk_castB' X q601 dJ7_vectorizedHashCode_46 hf (fun hf => ?_)
    refine fk_iload_n X 1 dJ7_vectorizedHashCode_49 rfl ?_
    refine fk_iload_n X 2 dJ7_vectorizedHashCode_50 rfl ?_
    obtain ⟨z1, hv, hf⟩ := bI hf
    refine fk_callS0I (rest := []) X (c_J7_signedHashCode hv) n_J7_signedHashCode q602 q603 q135 q604 dJ7_vectorizedHashCode_51 rfl rfl rfl rfl rfl (Nat.le_refl _) (Nat.le_refl _) ?_
    refine fk_goto X 157 dJ7_vectorizedHashCode_54 rfl ?_
    cases hf
    exact fk_ireturn X Y dJ7_vectorizedHashCode_157 rfl
  rw [if_neg hs1] at hf
  by_cases hs2 : a4 = 5
  · rw [if_pos hs2] at hf
    refine fk_tableIn X 57 dJ7_vectorizedHashCode_2 (by rw [hs2]; decide) (by rw [hs2]; decide) (by rw [hs2]; rfl) rfl ?_
    cases hf
  rw [if_neg hs2] at hf
  by_cases hs3 : a4 = 6
  · rw [if_pos hs3] at hf
    refine fk_tableIn X 129 dJ7_vectorizedHashCode_2 (by rw [hs3]; decide) (by rw [hs3]; decide) (by rw [hs3]; rfl) rfl ?_
    cases hf
  rw [if_neg hs3] at hf
  by_cases hs4 : a4 = 7
  · rw [if_pos hs4] at hf
    refine fk_tableIn X 129 dJ7_vectorizedHashCode_2 (by rw [hs4]; decide) (by rw [hs4]; decide) (by rw [hs4]; rfl) rfl ?_
    cases hf
  rw [if_neg hs4] at hf
  by_cases hs5 : a4 = 8
  · rw [if_pos hs5] at hf
    refine fk_tableIn X 90 dJ7_vectorizedHashCode_2 (by rw [hs5]; decide) (by rw [hs5]; decide) (by rw [hs5]; rfl) rfl ?_
    cases hf
  rw [if_neg hs5] at hf
  by_cases hs6 : a4 = 9
  · rw [if_pos hs6] at hf
    refine fk_tableIn X 103 dJ7_vectorizedHashCode_2 (by rw [hs6]; decide) (by rw [hs6]; decide) (by rw [hs6]; rfl) rfl ?_
    cases hf
  rw [if_neg hs6] at hf
  by_cases hs7 : a4 = 10
  · rw [if_pos hs7] at hf
    refine fk_tableIn X 116 dJ7_vectorizedHashCode_2 (by rw [hs7]; decide) (by rw [hs7]; decide) (by rw [hs7]; rfl) rfl ?_
    cases hf
  rw [if_neg hs7] at hf
  refine fk_tableOut X 129 dJ7_vectorizedHashCode_2 (by have e0 := lv_neT hs1 (show (4 : Int32).toInt = 4 from by decide); have e1 := lv_neT hs2 (show (5 : Int32).toInt = 5 from by decide); have e2 := lv_neT hs3 (show (6 : Int32).toInt = 6 from by decide); have e3 := lv_neT hs4 (show (7 : Int32).toInt = 7 from by decide); have e4 := lv_neT hs5 (show (8 : Int32).toInt = 8 from by decide); have e5 := lv_neT hs6 (show (9 : Int32).toInt = 9 from by decide); have e6 := lv_neT hs7 (show (10 : Int32).toInt = 10 from by decide); omega) rfl ?_
  cases hf
/-! java/lang/StringLatin1 hashCode ([B)I -/
theorem n_J10_hashCode : fk_N yJ10_hashCode 1 := ⟨by decide +kernel, by decide +kernel, by decide +kernel, by decide +kernel⟩
def f_J10_hashCode (a0 : Option Nat) (m : fk_M) : Option Int32 :=
  (aLn m a0).bind fun z1 => if z1 = 0 then (some 0) else (if z1 = 1 then ((aI m a0 1 0).bind fun z2 => some (z2 &&& 255)) else ((aLn m a0).bind fun z3 => (f_J7_vectorizedHashCode a0 0 z3 0 4 m).bind fun z4 => some z4))
set_option maxHeartbeats 4000000 in
theorem c_J10_hashCode {l : Launch} {G : fk_G} {b0 : Nat} {n : Nat} {a0 : Option Nat} {m : fk_M} {r : Int32} (hf : f_J10_hashCode a0 m = some r) : fk_Ct l G b0 yJ10_hashCode cJ10_hashCode 1 (some .int) 3 109 [tR a0] n m (some (tI r)) n m 0 0 := by
  refine fk_enter n_J10_hashCode.1 rfl ?_
  intro E X0 Y
  have X : fk_X E l G b0 "java/lang/StringLatin1" "hashCode" cJ10_hashCode 1 3 109 0 0 := X0
  show fk_W E 1 n m 0 0 0 [(0, tR a0)] []
  unfold f_J10_hashCode at hf
  refine fk_aload_n X 0 dJ10_hashCode_0 rfl ?_
  refine fk_alen' X dJ10_hashCode_1 hf (fun z1 hf => ?_)
  by_cases hs1 : z1 = 0
  · rw [if_pos hs1] at hf
    refine fk_lookup (off := 26) X 28 dJ10_hashCode_2 (by decide) (by rw [hs1]; decide +kernel) rfl ?_
    refine fk_iconst (v := 0) X dJ10_hashCode_28 rfl ?_
    refine fk_goto X 51 dJ10_hashCode_29 rfl ?_
    cases hf
    exact fk_ireturn X Y dJ10_hashCode_51 rfl
  rw [if_neg hs1] at hf
  by_cases hs2 : z1 = 1
  · rw [if_pos hs2] at hf
    refine fk_lookup (off := 30) X 32 dJ10_hashCode_2 (by decide) (by rw [hs2]; decide +kernel) rfl ?_
    refine fk_aload_n X 0 dJ10_hashCode_32 rfl ?_
    refine fk_iconst (v := 0) X dJ10_hashCode_33 rfl ?_
    refine fk_baload' X dJ10_hashCode_34 hf (fun z2 hf => ?_)
    refine fk_sipush (v := 255) X dJ10_hashCode_35 rfl ?_
    refine fk_iand X dJ10_hashCode_38 ?_
    refine fk_goto X 51 dJ10_hashCode_39 rfl ?_
    cases hf
    exact fk_ireturn X Y dJ10_hashCode_51 rfl
  rw [if_neg hs2] at hf
  refine fk_lookup (off := 40) X 42 dJ10_hashCode_2 (by decide) (by show Op.lookupswitch.offset [(0, 26), (1, 30)] 40 _ = _; rw [lv_osw hs1 (show (0 : Int32).toInt = 0 from by decide +kernel), lv_osw hs2 (show (1 : Int32).toInt = 1 from by decide +kernel)]; rfl) rfl ?_
  refine fk_aload_n X 0 dJ10_hashCode_42 rfl ?_
  refine fk_iconst (v := 0) X dJ10_hashCode_43 rfl ?_
  refine fk_aload_n X 0 dJ10_hashCode_44 rfl ?_
  refine fk_alen' X dJ10_hashCode_45 hf (fun z3 hf => ?_)
  refine fk_iconst (v := 0) X dJ10_hashCode_46 rfl ?_
  refine fk_iconst (v := 4) X dJ10_hashCode_47 rfl ?_
  obtain ⟨z4, hv, hf⟩ := bI hf
  refine fk_callS0I (rest := []) X (c_J7_vectorizedHashCode hv) n_J7_vectorizedHashCode q598 q599 q135 q600 dJ10_hashCode_48 rfl rfl rfl rfl rfl (Nat.le_refl _) (Nat.le_refl _) ?_
  cases hf
  exact fk_ireturn X Y dJ10_hashCode_51 rfl
/-! java/lang/String hashCode ()I -/
theorem n_J5_hashCode : fk_N yJ5_hashCode 0 := ⟨by decide +kernel, by decide +kernel, by decide +kernel, by decide +kernel⟩
def f_J5_hashCode (a0 : Option Nat) (m0 : fk_M) : Option (Int32 × fk_M) :=
  (gI m0 a0 16 2).bind fun z1 => if z1 = 0 then ((gI m0 a0 16 3).bind fun z2 => if z2 = 0 then ((isO m0 a0 16).bind fun u3 => (f_J5_isLatin1 a0 m0).bind fun z4 => if z4 = 0 then (none) else ((gR m0 a0 16 0).bind fun z5 => (f_J10_hashCode z5 m0).bind fun z6 => if z6 = 0 then ((pZ m0 a0 16 3 1).bind fun m7 => some (z6, m7)) else ((pV m0 a0 16 2 (tI z6)).bind fun m8 => some (z6, m8)))) else (some (z1, m0))) else (some (z1, m0))
set_option maxHeartbeats 4000000 in
theorem c_J5_hashCode {l : Launch} {G : fk_G} {b0 : Nat} {n : Nat} {a0 : Option Nat} {m0 : fk_M} {r : Int32} {mF : fk_M} (hf : f_J5_hashCode a0 m0 = some (r, mF)) : fk_Ct l G b0 yJ5_hashCode cJ5_hashCode 2 (some .int) 4 129 [tR a0] n m0 (some (tI r)) n mF 0 0 := by
  refine fk_enter n_J5_hashCode.1 rfl ?_
  intro E X0 Y
  have X : fk_X E l G b0 "java/lang/String" "hashCode" cJ5_hashCode 2 4 129 0 0 := X0
  show fk_W E 2 n m0 0 0 0 [(0, tR a0)] []
  unfold f_J5_hashCode at hf
  refine fk_aload_n X 0 dJ5_hashCode_0 rfl ?_
  refine fk_getI' X fd_16_2 q549 dJ5_hashCode_1 hf (fun z1 hf => ?_)
  refine fk_istore_n X [(1, tI z1), (0, tR a0)] dJ5_hashCode_4 rfl rfl ?_
  refine fk_iload_n X 0 dJ5_hashCode_5 rfl ?_
  refine fk_if_ne' X 58 dJ5_hashCode_6 rfl hf (fun hf => ?_) (fun hf => ?_)
  · refine fk_iload_n X 0 dJ5_hashCode_58 rfl ?_
    cases hf
    exact fk_ireturn X Y dJ5_hashCode_59 rfl
  · refine fk_aload_n X 1 dJ5_hashCode_9 rfl ?_
    refine fk_getI' X fd_16_3 q550 dJ5_hashCode_10 hf (fun z2 hf => ?_)
    refine fk_if_ne' X 58 dJ5_hashCode_13 rfl hf (fun hf => ?_) (fun hf => ?_)
    · refine fk_iload_n X 0 dJ5_hashCode_58 rfl ?_
      cases hf
      exact fk_ireturn X Y dJ5_hashCode_59 rfl
    · refine fk_aload_n X 1 dJ5_hashCode_16 rfl ?_
      obtain ⟨u3, hq, hf⟩ := bI hf
      obtain ⟨z4, hv, hf⟩ := bI hf
      refine fk_callV0I (ci := 16) (rest := []) X hq rfl (c_J5_isLatin1 hv) n_J5_isLatin1 q591 q592 q593 q133 q594 rfl dJ5_hashCode_17 rfl rfl rfl rfl rfl (Nat.le_refl _) (Nat.le_refl _) ?_
      refine fk_if_eq' X 33 dJ5_hashCode_20 rfl hf (fun hf => ?_) (fun hf => ?_)
      · cases hf
      · refine fk_aload_n X 1 dJ5_hashCode_23 rfl ?_
        refine fk_getR' X fd_16_0 q547 dJ5_hashCode_24 hf (fun z5 hf => ?_)
        obtain ⟨z6, hv, hf⟩ := bI hf
        refine fk_callS0I (rest := []) X (c_J10_hashCode hv) n_J10_hashCode q595 q596 q139 q597 dJ5_hashCode_27 rfl rfl rfl rfl rfl (Nat.le_refl _) (Nat.le_refl _) ?_
        refine fk_goto X 40 dJ5_hashCode_30 rfl ?_
        refine fk_istore_n X [(1, tI z6), (0, tR a0)] dJ5_hashCode_40 rfl rfl ?_
        refine fk_iload_n X 0 dJ5_hashCode_41 rfl ?_
        refine fk_if_ne' X 53 dJ5_hashCode_42 rfl hf (fun hf => ?_) (fun hf => ?_)
        · refine fk_aload_n X 1 dJ5_hashCode_53 rfl ?_
          refine fk_iload_n X 0 dJ5_hashCode_54 rfl ?_
          refine fk_putI' X fd_16_2 q549 dJ5_hashCode_55 (fit_I _) hf (fun m8 hf => ?_)
          refine fk_iload_n X 0 dJ5_hashCode_58 rfl ?_
          cases hf
          exact fk_ireturn X Y dJ5_hashCode_59 rfl
        · refine fk_aload_n X 1 dJ5_hashCode_45 rfl ?_
          refine fk_iconst (v := 1) X dJ5_hashCode_46 rfl ?_
          refine fk_putZ' X fd_16_3 q550 dJ5_hashCode_47 hf (fun m7 hf => ?_)
          refine fk_goto X 58 dJ5_hashCode_50 rfl ?_
          refine fk_iload_n X 0 dJ5_hashCode_58 rfl ?_
          cases hf
          exact fk_ireturn X Y dJ5_hashCode_59 rfl
/-! java/lang/StringLatin1 equals ([B[B)Z -/
theorem n_J10_equals : fk_N yJ10_equals 2 := ⟨by decide +kernel, by decide +kernel, by decide +kernel, by decide +kernel⟩
def f_J10_equals_L9 (x0 : Option Nat) (x1 : Option Nat) (m : fk_M) : Nat → Int32 → Option Int32
  | 0, _ => none
  | N + 1, x2 =>
  (aLn m x0).bind fun z1 => if z1 ≤ x2 then (some 1) else ((aI m x0 1 x2).bind fun z2 => (aI m x1 1 x2).bind fun z3 => if z2 = z3 then (f_J10_equals_L9 x0 x1 m N (x2 + 1)) else (some 0))
set_option maxHeartbeats 4000000 in
theorem w_J10_equals_L9 {E : fk_E} {l : Launch} {G : fk_G} {b0 n : Nat} {m : fk_M} {r : Int32} (X : fk_X E l G b0 "java/lang/StringLatin1" "equals" cJ10_equals 3 1 60 0 0) (Y : fk_Y E (some .boolean) (some (tI r)) n m 0 0) (x0 : Option Nat) (x1 : Option Nat) : ∀ (N : Nat) (x2 : Int32), f_J10_equals_L9 x0 x1 m N x2 = some r → fk_W E 3 n m 0 0 9 [(0, tR x0), (1, tR x1), (2, tI x2)] [] := by
  intro N
  induction N with
  | zero =>
    intro x2 hf
    have hf : (none : Option Int32) = some _ := hf
    cases hf
  | succ N ih =>
    intro x2 hf
    rw [f_J10_equals_L9] at hf
    refine fk_iload_n X 2 dJ10_equals_9 rfl ?_
    refine fk_aload_n X 0 dJ10_equals_10 rfl ?_
    refine fk_alen' X dJ10_equals_11 hf (fun z1 hf => ?_)
    refine fk_icmp_ge' X 32 dJ10_equals_12 rfl hf (fun hf => ?_) (fun hf => ?_)
    · refine fk_iconst (v := 1) X dJ10_equals_32 rfl ?_
      cases hf
      exact fk_ireturn X Y dJ10_equals_33 (by decide +kernel)
    · refine fk_aload_n X 0 dJ10_equals_15 rfl ?_
      refine fk_iload_n X 2 dJ10_equals_16 rfl ?_
      refine fk_baload' X dJ10_equals_17 hf (fun z2 hf => ?_)
      refine fk_aload_n X 1 dJ10_equals_18 rfl ?_
      refine fk_iload_n X 2 dJ10_equals_19 rfl ?_
      refine fk_baload' X dJ10_equals_20 hf (fun z3 hf => ?_)
      refine fk_icmp_eq' X 26 dJ10_equals_21 rfl hf (fun hf => ?_) (fun hf => ?_)
      · refine fk_iinc X 2 [(2, tI (x2 + 1)), (0, tR x0), (1, tR x1)] dJ10_equals_26 rfl rfl rfl rfl ?_
        refine fk_goto X 9 dJ10_equals_29 rfl ?_
        exact fk_cut' (ih (x2 + 1)  hf) [1, 2, 0] rfl
      · refine fk_iconst (v := 0) X dJ10_equals_24 rfl ?_
        cases hf
        exact fk_ireturn X Y dJ10_equals_25 (by decide +kernel)
def f_J10_equals (a0 : Option Nat) (a1 : Option Nat) (m : fk_M) : Option Int32 :=
  (aLn m a0).bind fun z1 => (aLn m a1).bind fun z2 => if z1 = z2 then (f_J10_equals_L9 a0 a1 m fk_fuel 0) else (some 0)
set_option maxHeartbeats 4000000 in
theorem c_J10_equals {l : Launch} {G : fk_G} {b0 : Nat} {n : Nat} {a0 : Option Nat} {a1 : Option Nat} {m : fk_M} {r : Int32} (hf : f_J10_equals a0 a1 m = some r) : fk_Ct l G b0 yJ10_equals cJ10_equals 3 (some .boolean) 1 60 [tR a0, tR a1] n m (some (tI r)) n m 0 0 := by
  refine fk_enter n_J10_equals.1 rfl ?_
  intro E X0 Y
  have X : fk_X E l G b0 "java/lang/StringLatin1" "equals" cJ10_equals 3 1 60 0 0 := X0
  show fk_W E 3 n m 0 0 0 [(0, tR a0), (1, tR a1)] []
  unfold f_J10_equals at hf
  refine fk_aload_n X 0 dJ10_equals_0 rfl ?_
  refine fk_alen' X dJ10_equals_1 hf (fun z1 hf => ?_)
  refine fk_aload_n X 1 dJ10_equals_2 rfl ?_
  refine fk_alen' X dJ10_equals_3 hf (fun z2 hf => ?_)
  refine fk_icmp_ne' X 34 dJ10_equals_4 rfl hf (fun hf => ?_) (fun hf => ?_)
  · refine fk_iconst (v := 0) X dJ10_equals_34 rfl ?_
    cases hf
    exact fk_ireturn X Y dJ10_equals_35 (by decide +kernel)
  · refine fk_iconst (v := 0) X dJ10_equals_7 rfl ?_
    refine fk_istore_n X [(2, tI 0), (0, tR a0), (1, tR a1)] dJ10_equals_8 rfl rfl ?_
    exact fk_cut' (w_J10_equals_L9 X Y a0 a1 fk_fuel 0 hf) [1, 2, 0] rfl
/-! java/lang/String equals (Ljava/lang/Object;)Z -/
theorem n_J5_equals : fk_N yJ5_equals 1 := ⟨by decide +kernel, by decide +kernel, by decide +kernel, by decide +kernel⟩
def f_J5_equals_J36 (x0 : Option Nat) (x2 : Option Nat) (m : fk_M) : Option Int32 :=
  (gR m x0 16 0).bind fun z1 => (gR m x2 16 0).bind fun z2 => (f_J10_equals z1 z2 m).bind fun z3 => some (if z3 = 0 then (0 : Int32) else 1)
set_option maxHeartbeats 4000000 in
theorem w_J5_equals_J36 {E : fk_E} {l : Launch} {G : fk_G} {b0 n : Nat} {m : fk_M} {r : Int32} (X : fk_X E l G b0 "java/lang/String" "equals" cJ5_equals 3 2 82 0 0) (Y : fk_Y E (some .boolean) (some (tI r)) n m 0 0) (x0 : Option Nat) (x2 : Option Nat)  (hf : f_J5_equals_J36 x0 x2 m = some r) : fk_W E 3 n m 0 0 36 [(0, tR x0), (2, tR x2)] [] := by
  unfold f_J5_equals_J36 at hf
  refine fk_aload_n X 0 dJ5_equals_36 rfl ?_
  refine fk_getR' X fd_16_0 q547 dJ5_equals_37 hf (fun z1 hf => ?_)
  refine fk_aload_n X 1 dJ5_equals_40 rfl ?_
  refine fk_getR' X fd_16_0 q547 dJ5_equals_41 hf (fun z2 hf => ?_)
  obtain ⟨z3, hv, hf⟩ := bI hf
  refine fk_callS0I (rest := []) X (c_J10_equals hv) n_J10_equals q646 q647 q139 q648 dJ5_equals_44 rfl rfl rfl rfl rfl (Nat.le_refl _) (Nat.le_refl _) ?_
  have J1 : fk_W E 3 n m 0 0 55 [] [tI (if z3 = 0 then (0 : Int32) else 1)] := by
    cases hf
    exact fk_ireturn X Y dJ5_equals_55 (by (repeat' split) <;> decide +kernel)
  refine fk_if_eq X 54 dJ5_equals_47 rfl (fun hc2 => ?_) (fun hc2 => ?_)
  · refine fk_iconst (v := 0) X dJ5_equals_54 rfl ?_
    simp only [if_pos hc2] at J1
    exact fk_cut' J1 [] rfl
  · refine fk_iconst (v := 1) X dJ5_equals_50 rfl ?_
    refine fk_goto X 55 dJ5_equals_51 rfl ?_
    simp only [if_neg hc2] at J1
    exact fk_cut' J1 [] rfl
def f_J5_equals (a0 : Option Nat) (a1 : Option Nat) (m : fk_M) : Option Int32 :=
  if a0 = a1 then (some 1) else ((ist m a1 16).bind fun z1 => if z1 = 0 then (some 0) else ((cst m a1 16).bind fun _ => (gI m a0 16 1).bind fun z2 => (gI m a1 16 1).bind fun z3 => if z2 = z3 then (f_J5_equals_J36 a0 a1 m) else (some 0)))
set_option maxHeartbeats 4000000 in
theorem c_J5_equals {l : Launch} {G : fk_G} {b0 : Nat} {n : Nat} {a0 : Option Nat} {a1 : Option Nat} {m : fk_M} {r : Int32} (hf : f_J5_equals a0 a1 m = some r) : fk_Ct l G b0 yJ5_equals cJ5_equals 3 (some .boolean) 2 82 [tR a0, tR a1] n m (some (tI r)) n m 0 0 := by
  refine fk_enter n_J5_equals.1 rfl ?_
  intro E X0 Y
  have X : fk_X E l G b0 "java/lang/String" "equals" cJ5_equals 3 2 82 0 0 := X0
  show fk_W E 3 n m 0 0 0 [(0, tR a0), (1, tR a1)] []
  unfold f_J5_equals at hf
  refine fk_aload_n X 0 dJ5_equals_0 rfl ?_
  refine fk_aload_n X 1 dJ5_equals_1 rfl ?_
  refine fk_acmp_ne' X 7 dJ5_equals_2 rfl hf (fun hf => ?_) (fun hf => ?_)
  · refine fk_aload_n X 1 dJ5_equals_7 rfl ?_
    refine fk_inst' (ci := 16) X rfl q645 dJ5_equals_8 hf (fun z1 hf => ?_)
    refine fk_if_eq' X 54 dJ5_equals_11 rfl hf (fun hf => ?_) (fun hf => ?_)
    · refine fk_iconst (v := 0) X dJ5_equals_54 rfl ?_
      cases hf
      exact fk_ireturn X Y dJ5_equals_55 (by decide +kernel)
    · refine fk_aload_n X 1 dJ5_equals_14 rfl ?_
      refine fk_cast' (ci := 16) X rfl q645 dJ5_equals_15 hf (fun hf => ?_)
      refine fk_astore_n X [(2, tR a1), (0, tR a0), (1, tR a1)] dJ5_equals_18 rfl rfl ?_
      refine fk_gets (x := tI 1) X (List.mem_of_getElem? (i := 0) rfl) rfl q533 dJ5_equals_19 ?_
      refine fk_if_eq X 36 dJ5_equals_22 rfl (fun h => absurd h (by decide)) (fun _ => ?_)
      refine fk_aload_n X 1 dJ5_equals_25 rfl ?_
      refine fk_getI' X fd_16_1 q548 dJ5_equals_26 hf (fun z2 hf => ?_)
      refine fk_aload_n X 0 dJ5_equals_29 rfl ?_
      refine fk_getI' X fd_16_1 q548 dJ5_equals_30 hf (fun z3 hf => ?_)
      refine fk_icmp_ne' X 54 dJ5_equals_33 rfl hf (fun hf => ?_) (fun hf => ?_)
      · refine fk_iconst (v := 0) X dJ5_equals_54 rfl ?_
        cases hf
        exact fk_ireturn X Y dJ5_equals_55 (by decide +kernel)
      · exact fk_cut' (w_J5_equals_J36 X Y a0 a1 hf) [1, 0] rfl
  · refine fk_iconst (v := 1) X dJ5_equals_5 rfl ?_
    cases hf
    exact fk_ireturn X Y dJ5_equals_6 (by decide +kernel)
/-! java/util/ArrayList size ()I -/
theorem n_J2_size : fk_N yJ2_size 0 := ⟨by decide +kernel, by decide +kernel, by decide +kernel, by decide +kernel⟩
def f_J2_size (a0 : Option Nat) (m : fk_M) : Option Int32 :=
  (gI m a0 14 2).bind fun z1 => some z1
set_option maxHeartbeats 4000000 in
theorem c_J2_size {l : Launch} {G : fk_G} {b0 : Nat} {n : Nat} {a0 : Option Nat} {m : fk_M} {r : Int32} (hf : f_J2_size a0 m = some r) : fk_Ct l G b0 yJ2_size cJ2_size 1 (some .int) 1 60 [tR a0] n m (some (tI r)) n m 0 0 := by
  refine fk_enter n_J2_size.1 rfl ?_
  intro E X0 Y
  have X : fk_X E l G b0 "java/util/ArrayList" "size" cJ2_size 1 1 60 0 0 := X0
  show fk_W E 1 n m 0 0 0 [(0, tR a0)] []
  unfold f_J2_size at hf
  refine fk_aload_n X 0 dJ2_size_0 rfl ?_
  refine fk_getI' X fd_14_2 q178 dJ2_size_1 hf (fun z1 hf => ?_)
  cases hf
  exact fk_ireturn X Y dJ2_size_4 rfl
/-! jdk/internal/util/Preconditions checkIndex (IILjava/util/function/BiFunction;)I -/
theorem n_J11_checkIndex : fk_N yJ11_checkIndex 3 := ⟨by decide +kernel, by decide +kernel, by decide +kernel, by decide +kernel⟩
def f_J11_checkIndex (a0 : Int32) (a1 : Int32) (a2 : Option Nat) (m : fk_M) : Option Int32 :=
  if a0 < 0 then (none) else (if a0 < a1 then (some a0) else (none))
set_option maxHeartbeats 4000000 in
theorem c_J11_checkIndex {l : Launch} {G : fk_G} {b0 : Nat} {n : Nat} {a0 : Int32} {a1 : Int32} {a2 : Option Nat} {m : fk_M} {r : Int32} (hf : f_J11_checkIndex a0 a1 a2 m = some r) : fk_Ct l G b0 yJ11_checkIndex cJ11_checkIndex 3 (some .int) 1 60 [tI a0, tI a1, tR a2] n m (some (tI r)) n m 0 0 := by
  refine fk_enter n_J11_checkIndex.1 rfl ?_
  intro E X0 Y
  have X : fk_X E l G b0 "jdk/internal/util/Preconditions" "checkIndex" cJ11_checkIndex 3 1 60 0 0 := X0
  show fk_W E 3 n m 0 0 0 [(0, tI a0), (1, tI a1), (2, tR a2)] []
  unfold f_J11_checkIndex at hf
  refine fk_iload_n X 0 dJ11_checkIndex_0 rfl ?_
  refine fk_if_lt' X 9 dJ11_checkIndex_1 rfl hf (fun hf => ?_) (fun hf => ?_)
  · cases hf
  · refine fk_iload_n X 0 dJ11_checkIndex_4 rfl ?_
    refine fk_iload_n X 1 dJ11_checkIndex_5 rfl ?_
    refine fk_icmp_lt' X 16 dJ11_checkIndex_6 rfl hf (fun hf => ?_) (fun hf => ?_)
    · refine fk_iload_n X 0 dJ11_checkIndex_16 rfl ?_
      cases hf
      exact fk_ireturn X Y dJ11_checkIndex_17 rfl
    · cases hf
/-! java/util/Objects checkIndex (II)I -/
theorem n_J12_checkIndex : fk_N yJ12_checkIndex 2 := ⟨by decide +kernel, by decide +kernel, by decide +kernel, by decide +kernel⟩
def f_J12_checkIndex (a0 : Int32) (a1 : Int32) (m : fk_M) : Option Int32 :=
  (f_J11_checkIndex a0 a1 none m).bind fun z1 => some z1
set_option maxHeartbeats 4000000 in
theorem c_J12_checkIndex {l : Launch} {G : fk_G} {b0 : Nat} {n : Nat} {a0 : Int32} {a1 : Int32} {m : fk_M} {r : Int32} (hf : f_J12_checkIndex a0 a1 m = some r) : fk_Ct l G b0 yJ12_checkIndex cJ12_checkIndex 2 (some .int) 2 82 [tI a0, tI a1] n m (some (tI r)) n m 0 0 := by
  refine fk_enter n_J12_checkIndex.1 rfl ?_
  intro E X0 Y
  have X : fk_X E l G b0 "java/util/Objects" "checkIndex" cJ12_checkIndex 2 2 82 0 0 := X0
  show fk_W E 2 n m 0 0 0 [(0, tI a0), (1, tI a1)] []
  unfold f_J12_checkIndex at hf
  refine fk_iload_n X 0 dJ12_checkIndex_0 rfl ?_
  refine fk_iload_n X 1 dJ12_checkIndex_1 rfl ?_
  refine fk_null X dJ12_checkIndex_2 ?_
  obtain ⟨z1, hv, hf⟩ := bI hf
  refine fk_callS0I (rest := []) X (c_J11_checkIndex hv) n_J11_checkIndex q729 q495 q140 q496 dJ12_checkIndex_3 rfl rfl rfl rfl rfl (Nat.le_refl _) (Nat.le_refl _) ?_
  cases hf
  exact fk_ireturn X Y dJ12_checkIndex_6 rfl
/-! java/util/ArrayList elementData (I)Ljava/lang/Object; -/
theorem n_J2_elementData : fk_N yJ2_elementData 1 := ⟨by decide +kernel, by decide +kernel, by decide +kernel, by decide +kernel⟩
def f_J2_elementData (a0 : Option Nat) (a1 : Int32) (m : fk_M) : Option (Option Nat) :=
  (gR m a0 14 1).bind fun z1 => (aR m z1 a1).bind fun z2 => some z2
set_option maxHeartbeats 4000000 in
theorem c_J2_elementData {l : Launch} {G : fk_G} {b0 : Nat} {n : Nat} {a0 : Option Nat} {a1 : Int32} {m : fk_M} {r : Option Nat} (hf : f_J2_elementData a0 a1 m = some r) : fk_Ct l G b0 yJ2_elementData cJ2_elementData 2 (some (.object "java/lang/Object")) 1 60 [tR a0, tI a1] n m (some (tR r)) n m 0 0 := by
  refine fk_enter n_J2_elementData.1 rfl ?_
  intro E X0 Y
  have X : fk_X E l G b0 "java/util/ArrayList" "elementData" cJ2_elementData 2 1 60 0 0 := X0
  show fk_W E 2 n m 0 0 0 [(0, tR a0), (1, tI a1)] []
  unfold f_J2_elementData at hf
  refine fk_aload_n X 0 dJ2_elementData_0 rfl ?_
  refine fk_getR' X fd_14_1 q177 dJ2_elementData_1 hf (fun z1 hf => ?_)
  refine fk_iload_n X 1 dJ2_elementData_4 rfl ?_
  refine fk_aaload' X dJ2_elementData_5 hf (fun z2 hf => ?_)
  cases hf
  exact fk_areturn X Y dJ2_elementData_6 (by first | exact Or.inl ⟨_, rfl⟩ | exact Or.inr ⟨_, rfl⟩)
/-! java/util/ArrayList get (I)Ljava/lang/Object; -/
theorem n_J2_get : fk_N yJ2_get 1 := ⟨by decide +kernel, by decide +kernel, by decide +kernel, by decide +kernel⟩
def f_J2_get (a0 : Option Nat) (a1 : Int32) (m : fk_M) : Option (Option Nat) :=
  (gI m a0 14 2).bind fun z1 => (f_J12_checkIndex a1 z1 m).bind fun z2 => (isO m a0 14).bind fun u3 => (f_J2_elementData a0 a1 m).bind fun z4 => some z4
set_option maxHeartbeats 4000000 in
theorem c_J2_get {l : Launch} {G : fk_G} {b0 : Nat} {n : Nat} {a0 : Option Nat} {a1 : Int32} {m : fk_M} {r : Option Nat} (hf : f_J2_get a0 a1 m = some r) : fk_Ct l G b0 yJ2_get cJ2_get 2 (some (.object "java/lang/Object")) 3 103 [tR a0, tI a1] n m (some (tR r)) n m 0 0 := by
  refine fk_enter n_J2_get.1 rfl ?_
  intro E X0 Y
  have X : fk_X E l G b0 "java/util/ArrayList" "get" cJ2_get 2 3 103 0 0 := X0
  show fk_W E 2 n m 0 0 0 [(0, tR a0), (1, tI a1)] []
  unfold f_J2_get at hf
  refine fk_iload_n X 1 dJ2_get_0 rfl ?_
  refine fk_aload_n X 0 dJ2_get_1 rfl ?_
  refine fk_getI' X fd_14_2 q178 dJ2_get_2 hf (fun z1 hf => ?_)
  obtain ⟨z2, hv, hf⟩ := bI hf
  refine fk_callS0I (rest := []) X (c_J12_checkIndex hv) n_J12_checkIndex q726 q727 q141 q728 dJ2_get_5 rfl rfl rfl rfl rfl (Nat.le_refl _) (Nat.le_refl _) ?_
  refine fk_pop X dJ2_get_8 rfl ?_
  refine fk_aload_n X 0 dJ2_get_9 rfl ?_
  refine fk_iload_n X 1 dJ2_get_10 rfl ?_
  obtain ⟨u3, hq, hf⟩ := bI hf
  obtain ⟨z4, hv, hf⟩ := bI hf
  refine fk_callV0R (ci := 14) (rest := []) X hq rfl (c_J2_elementData hv) n_J2_elementData q730 q731 q732 q125 q733 rfl dJ2_get_11 rfl rfl rfl rfl rfl (Nat.le_refl _) (Nat.le_refl _) ?_
  cases hf
  exact fk_areturn X Y dJ2_get_14 (by first | exact Or.inl ⟨_, rfl⟩ | exact Or.inr ⟨_, rfl⟩)
/-! jdk/internal/util/ArraysSupport newLength (III)I -/
theorem n_J7_newLength : fk_N yJ7_newLength 3 := ⟨by decide +kernel, by decide +kernel, by decide +kernel, by decide +kernel⟩
def f_J7_newLength (a0 : Int32) (a1 : Int32) (a2 : Int32) (m : fk_M) : Option Int32 :=
  if (a0 + (i_max a1 a2)) ≤ 0 then (none) else (if 2147483639 < (a0 + (i_max a1 a2)) then (none) else (some (a0 + (i_max a1 a2))))
set_option maxHeartbeats 4000000 in
theorem c_J7_newLength {l : Launch} {G : fk_G} {b0 : Nat} {n : Nat} {a0 : Int32} {a1 : Int32} {a2 : Int32} {m : fk_M} {r : Int32} (hf : f_J7_newLength a0 a1 a2 m = some r) : fk_Ct l G b0 yJ7_newLength cJ7_newLength 4 (some .int) 1 60 [tI a0, tI a1, tI a2] n m (some (tI r)) n m 0 0 := by
  refine fk_enter n_J7_newLength.1 rfl ?_
  intro E X0 Y
  have X : fk_X E l G b0 "jdk/internal/util/ArraysSupport" "newLength" cJ7_newLength 4 1 60 0 0 := X0
  show fk_W E 4 n m 0 0 0 [(0, tI a0), (1, tI a1), (2, tI a2)] []
  unfold f_J7_newLength at hf
  refine fk_iload_n X 0 dJ7_newLength_0 rfl ?_
  refine fk_iload_n X 1 dJ7_newLength_1 rfl ?_
  refine fk_iload_n X 2 dJ7_newLength_2 rfl ?_
  refine fk_mmax X q420 q421 q136 q422 dJ7_newLength_3 (by omega) (Nat.le_trans (Nat.le_of_ble_eq_true (rfl : Nat.ble (_ + 13) 40 = true)) (by omega)) (Nat.le_refl _) (Nat.le_refl _) ?_
  refine fk_iadd X dJ7_newLength_6 ?_
  refine fk_istore_n X [(3, tI (a0 + (i_max a1 a2))), (0, tI a0), (1, tI a1), (2, tI a2)] dJ7_newLength_7 rfl rfl ?_
  refine fk_iconst (v := 0) X dJ7_newLength_8 rfl ?_
  refine fk_iload_n X 0 dJ7_newLength_9 rfl ?_
  refine fk_icmp_ge' X 21 dJ7_newLength_10 rfl hf (fun hf => ?_) (fun hf => ?_)
  · cases hf
  · refine fk_iload_n X 0 dJ7_newLength_13 rfl ?_
    refine fk_ldc X q423 dJ7_newLength_14 ?_
    refine fk_icmp_gt' X 21 dJ7_newLength_16 rfl hf (fun hf => ?_) (fun hf => ?_)
    · cases hf
    · refine fk_iload_n X 0 dJ7_newLength_19 rfl ?_
      cases hf
      exact fk_ireturn X Y dJ7_newLength_20 rfl
/-! java/util/Arrays copyOf ([Ljava/lang/Object;ILjava/lang/Class;)[Ljava/lang/Object; -/
theorem n_J9_copyOf_3 : fk_N yJ9_copyOf_3 3 := ⟨by decide +kernel, by decide +kernel, by decide +kernel, by decide +kernel⟩
def f_J9_copyOf_3 (g : Nat → Nat) (a0 : Option Nat) (a1 : Int32) (a2 : Option Nat) (n1 k1 : Nat) (m0 : fk_M) : Option ((Option Nat) × Nat × Nat × fk_M) :=
  if a2 = (some (g 41)) then ((nQ n1 m0 a1).bind fun m1 => (aLn m1 a0).bind fun z2 => (cpR m1 a0 0 (some n1) 0 (i_min z2 a1)).bind fun m3 => some ((some n1), (n1 + 1), (k1 + (Int32.toNatClampNeg a1)), m3)) else (none)
theorem mo_J9_copyOf_3 (g : Nat → Nat) (a0 : Option Nat) (a1 : Int32) (a2 : Option Nat) (n1 k1 : Nat) (m0 : fk_M) : Mo4 n1 k1 (f_J9_copyOf_3 g a0 a1 a2 n1 k1 m0) := by
  unfold f_J9_copyOf_3
  exact Mo4.ite (Mo4.bind (fun m1 => Mo4.le (n1 := (n1 + 1)) (k1 := (k1 + (Int32.toNatClampNeg a1))) (Mo4.bind (fun z2 => Mo4.bind (fun m3 => Mo4.ok (by omega) (by omega)))) (by omega) (by omega))) (Mo4.no)
set_option maxHeartbeats 4000000 in
theorem c_J9_copyOf_3 {l : Launch} {G : fk_G} {b0 : Nat} {n1 k1 nF kF : Nat} {a0 : Option Nat} {a1 : Int32} {a2 : Option Nat} {m0 : fk_M} {r : Option Nat} {mF : fk_M} (hf : f_J9_copyOf_3 G.2.2 a0 a1 a2 n1 k1 m0 = some (r, nF, kF, mF)) : fk_Ct l G b0 yJ9_copyOf_3 cJ9_copyOf_3 4 (some (.array (.object "java/lang/Object"))) 1 60 [tR a0, tI a1, tR a2] n1 m0 (some (tR r)) nF mF (nF - n1) (kF - k1) := by
  refine fk_enter n_J9_copyOf_3.1 rfl ?_
  intro E X0 Y
  have X : fk_X E l G b0 "java/util/Arrays" "copyOf" cJ9_copyOf_3 4 1 60 (nF - n1) (kF - k1) := X0
  show fk_W E 4 n1 m0 0 0 0 [(0, tR a0), (1, tI a1), (2, tR a2)] []
  refine fk_widen (cs2 := n1 - n1) (sl2 := k1 - k1) (Nat.zero_le _) (Nat.zero_le _) ?_
  unfold f_J9_copyOf_3 at hf
  have h01 : n1 ≤ n1 := Nat.le_refl _
  have h02 : k1 ≤ k1 := Nat.le_refl _
  refine fk_aload_n X 2 dJ9_copyOf_3_0 rfl ?_
  refine fk_ldcM X q866 dJ9_copyOf_3_1 ?_
  refine fk_acmp_ne' X 13 dJ9_copyOf_3_3 rfl hf (fun hf => ?_) (fun hf => ?_)
  · cases hf
  · refine fk_iload_n X 1 dJ9_copyOf_3_6 rfl ?_
    obtain ⟨m1, hv, hf⟩ := bI hf
    have hm : (n1 + 1) ≤ nF ∧ (k1 + (Int32.toNatClampNeg a1)) ≤ kF := Mo4.use hf (Mo4.bind (fun z2 => Mo4.bind (fun m3 => Mo4.ok (by omega) (by omega))))
    refine fk_newR (cs2 := (n1 + 1) - n1) (sl2 := (k1 + (Int32.toNatClampNeg a1)) - k1) X q868 dJ9_copyOf_3_7 hv (by omega) (by omega) (by omega) (by omega) ?_
    refine fk_goto X 24 dJ9_copyOf_3_10 rfl ?_
    refine fk_astore_n X [(3, tR (some n1)), (0, tR a0), (1, tI a1), (2, tR a2)] dJ9_copyOf_3_24 rfl rfl ?_
    refine fk_aload_n X 1 dJ9_copyOf_3_25 rfl ?_
    refine fk_iconst (v := 0) X dJ9_copyOf_3_26 rfl ?_
    refine fk_aload_n X 0 dJ9_copyOf_3_27 rfl ?_
    refine fk_iconst (v := 0) X dJ9_copyOf_3_28 rfl ?_
    refine fk_aload_n X 1 dJ9_copyOf_3_29 rfl ?_
    refine fk_alen' X dJ9_copyOf_3_30 hf (fun z2 hf => ?_)
    refine fk_iload_n X 2 dJ9_copyOf_3_31 rfl ?_
    refine fk_mmin X q438 q439 q136 q440 dJ9_copyOf_3_32 (by omega) (Nat.le_trans (Nat.le_of_ble_eq_true (rfl : Nat.ble (_ + 13) 40 = true)) (by omega)) (by omega) (by omega) ?_
    refine fk_copyR' X q441 q443 q442 q138 dJ9_copyOf_3_35 rfl rfl hf (fun m3 hf => ?_)
    refine fk_aload_n X 0 dJ9_copyOf_3_38 rfl ?_
    cases hf
    exact fk_areturn X Y dJ9_copyOf_3_39 (by first | exact Or.inl ⟨_, rfl⟩ | exact Or.inr ⟨_, rfl⟩)
/-! java/util/Arrays copyOf ([Ljava/lang/Object;I)[Ljava/lang/Object; -/
theorem n_J9_copyOf_2 : fk_N yJ9_copyOf_2 2 := ⟨by decide +kernel, by decide +kernel, by decide +kernel, by decide +kernel⟩
def f_J9_copyOf_2 (g : Nat → Nat) (a0 : Option Nat) (a1 : Int32) (n1 k1 : Nat) (m0 : fk_M) : Option ((Option Nat) × Nat × Nat × fk_M) :=
  (isQ m0 a0).bind fun _ => bn4 (f_J9_copyOf_3 g a0 a1 (some (g 41)) n1 k1 m0) fun z1 n3 k4 m2 => some (z1, n3, k4, m2)
theorem mo_J9_copyOf_2 (g : Nat → Nat) (a0 : Option Nat) (a1 : Int32) (n1 k1 : Nat) (m0 : fk_M) : Mo4 n1 k1 (f_J9_copyOf_2 g a0 a1 n1 k1 m0) := by
  unfold f_J9_copyOf_2
  exact Mo4.bind (fun _ => Mo4.bn4 (mo_J9_copyOf_3 g a0 a1 (some (g 41)) n1 k1 m0) (fun z1 n3 k4 m2 => Mo4.ok (by omega) (by omega)))
set_option maxHeartbeats 4000000 in
theorem c_J9_copyOf_2 {l : Launch} {G : fk_G} {b0 : Nat} {n1 k1 nF kF : Nat} {a0 : Option Nat} {a1 : Int32} {m0 : fk_M} {r : Option Nat} {mF : fk_M} (hf : f_J9_copyOf_2 G.2.2 a0 a1 n1 k1 m0 = some (r, nF, kF, mF)) : fk_Ct l G b0 yJ9_copyOf_2 cJ9_copyOf_2 2 (some (.array (.object "java/lang/Object"))) 2 83 [tR a0, tI a1] n1 m0 (some (tR r)) nF mF (nF - n1) (kF - k1) := by
  refine fk_enter n_J9_copyOf_2.1 rfl ?_
  intro E X0 Y
  have X : fk_X E l G b0 "java/util/Arrays" "copyOf" cJ9_copyOf_2 2 2 83 (nF - n1) (kF - k1) := X0
  show fk_W E 2 n1 m0 0 0 0 [(0, tR a0), (1, tI a1)] []
  refine fk_widen (cs2 := n1 - n1) (sl2 := k1 - k1) (Nat.zero_le _) (Nat.zero_le _) ?_
  unfold f_J9_copyOf_2 at hf
  have h01 : n1 ≤ n1 := Nat.le_refl _
  have h02 : k1 ≤ k1 := Nat.le_refl _
  refine fk_aload_n X 0 dJ9_copyOf_2_0 rfl ?_
  refine fk_iload_n X 1 dJ9_copyOf_2_1 rfl ?_
  refine fk_aload_n X 0 dJ9_copyOf_2_2 rfl ?_
  refine fk_getC' X q840 q2218 q841 q862 dJ9_copyOf_2_3 rfl rfl hf (fun hf => ?_)
  obtain ⟨z1, n3, k4, m2, hv, hf⟩ := bn4_eq hf
  have hmc := mo_J9_copyOf_3 G.2.2 a0 a1 (some (G.2.2 41)) n1 k1 m0 _ _ _ _ hv
  have hm : n3 ≤ nF ∧ k4 ≤ kF := Mo4.use hf (Mo4.ok (by omega) (by omega))
  refine fk_callS1R (rest := []) (cs2 := n3 - n1) (sl2 := k4 - k1) X (c_J9_copyOf_3 hv) n_J9_copyOf_3 q863 q864 q137 q865 dJ9_copyOf_2_6 rfl rfl rfl rfl rfl (by omega) (by omega) (by omega) (by omega) ?_
  cases hf
  exact fk_areturn X Y dJ9_copyOf_2_9 (by first | exact Or.inl ⟨_, rfl⟩ | exact Or.inr ⟨_, rfl⟩)
/-! java/util/ArrayList grow (I)[Ljava/lang/Object; -/
theorem n_J2_grow_2 : fk_N yJ2_grow_2 1 := ⟨by decide +kernel, by decide +kernel, by decide +kernel, by decide +kernel⟩
def f_J2_grow_2_J20 (g : Nat → Nat) (x0 : Option Nat) (x1 : Int32) (x2 : Int32) (n1 k1 : Nat) (m0 : fk_M) : Option ((Option Nat) × Nat × Nat × fk_M) :=
  (f_J7_newLength x2 (x1 - x2) (i_shr x2 1) m0).bind fun z1 => (gR m0 x0 14 1).bind fun z2 => bn4 (f_J9_copyOf_2 g z2 z1 n1 k1 m0) fun z3 n5 k6 m4 => (pV m4 x0 14 1 (tR z3)).bind fun m7 => some (z3, n5, k6, m7)
theorem mo_J2_grow_2_J20 (g : Nat → Nat) (x0 : Option Nat) (x1 : Int32) (x2 : Int32) (n1 k1 : Nat) (m0 : fk_M) : Mo4 n1 k1 (f_J2_grow_2_J20 g x0 x1 x2 n1 k1 m0) := by
  unfold f_J2_grow_2_J20
  exact Mo4.bind (fun z1 => Mo4.bind (fun z2 => Mo4.bn4 (mo_J9_copyOf_2 g z2 z1 n1 k1 m0) (fun z3 n5 k6 m4 => Mo4.bind (fun m7 => Mo4.ok (by omega) (by omega)))))
set_option maxHeartbeats 4000000 in
theorem w_J2_grow_2_J20 {E : fk_E} {l : Launch} {G : fk_G} {b0 n0 k0 nF kF : Nat} {r : Option Nat} {mF : fk_M} (X : fk_X E l G b0 "java/util/ArrayList" "grow" cJ2_grow_2 4 3 104 (nF - n0) (kF - k0)) (Y : fk_Y E (some (.array (.object "java/lang/Object"))) (some (tR r)) nF mF (nF - n0) (kF - k0)) (x0 : Option Nat) (x1 : Int32) (x2 : Int32)  (n1 k1 : Nat) (hn1 : n0 ≤ n1) (hk1 : k0 ≤ k1) (m0 : fk_M) (hf : f_J2_grow_2_J20 G.2.2 x0 x1 x2 n1 k1 m0 = some (r, nF, kF, mF)) : fk_W E 4 n1 m0 (n1 - n0) (k1 - k0) 20 [(0, tR x0), (1, tI x1), (2, tI x2)] [] := by
  unfold f_J2_grow_2_J20 at hf
  refine fk_iload_n X 2 dJ2_grow_2_20 rfl ?_
  refine fk_iload_n X 1 dJ2_grow_2_21 rfl ?_
  refine fk_iload_n X 2 dJ2_grow_2_22 rfl ?_
  refine fk_isub X dJ2_grow_2_23 ?_
  refine fk_iload_n X 2 dJ2_grow_2_24 rfl ?_
  refine fk_iconst (v := 1) X dJ2_grow_2_25 rfl ?_
  refine fk_ishr X dJ2_grow_2_26 ?_
  obtain ⟨z1, hv, hf⟩ := bI hf
  have hm : n1 ≤ nF ∧ k1 ≤ kF := Mo4.use hf (Mo4.bind (fun z2 => Mo4.bn4 (mo_J9_copyOf_2 G.2.2 z2 z1 n1 k1 m0) (fun z3 n5 k6 m4 => Mo4.bind (fun m7 => Mo4.ok (by omega) (by omega)))))
  refine fk_callS0I (rest := []) X (c_J7_newLength hv) n_J7_newLength q836 q418 q135 q419 dJ2_grow_2_27 rfl rfl rfl rfl rfl (by omega) (by omega) ?_
  refine fk_istore_n X [(3, tI z1), (0, tR x0), (1, tI x1), (2, tI x2)] dJ2_grow_2_30 rfl rfl ?_
  refine fk_aload_n X 1 dJ2_grow_2_31 rfl ?_
  refine fk_aload_n X 1 dJ2_grow_2_32 rfl ?_
  refine fk_getR' X fd_14_1 q177 dJ2_grow_2_33 hf (fun z2 hf => ?_)
  refine fk_iload_n X 0 dJ2_grow_2_36 rfl ?_
  obtain ⟨z3, n5, k6, m4, hv, hf⟩ := bn4_eq hf
  have hmc := mo_J9_copyOf_2 G.2.2 z2 z1 n1 k1 m0 _ _ _ _ hv
  have hm : n5 ≤ nF ∧ k6 ≤ kF := Mo4.use hf (Mo4.bind (fun m7 => Mo4.ok (by omega) (by omega)))
  refine fk_callS1R (rest := [tR x0]) (cs2 := n5 - n0) (sl2 := k6 - k0) X (c_J9_copyOf_2 hv) n_J9_copyOf_2 q837 q838 q137 q839 dJ2_grow_2_37 rfl rfl rfl rfl rfl (by omega) (by omega) (by omega) (by omega) ?_
  refine fk_dup_x1 X dJ2_grow_2_40 rfl rfl ?_
  refine fk_putR' X fd_14_1 q177 dJ2_grow_2_41 (fit_A _) hf (fun m7 hf => ?_)
  cases hf
  exact fk_areturn X Y dJ2_grow_2_44 (by first | exact Or.inl ⟨_, rfl⟩ | exact Or.inr ⟨_, rfl⟩)
def f_J2_grow_2 (g : Nat → Nat) (a0 : Option Nat) (a1 : Int32) (n1 k1 : Nat) (m0 : fk_M) : Option ((Option Nat) × Nat × Nat × fk_M) :=
  (gR m0 a0 14 1).bind fun z1 => (aLn m0 z1).bind fun z2 => if 0 < z2 then (f_J2_grow_2_J20 g a0 a1 z2 n1 k1 m0) else ((gR m0 a0 14 1).bind fun z3 => if z3 = (some (g 40)) then ((nQ n1 m0 (i_max 10 a1)).bind fun m4 => (pV m4 a0 14 1 (tR (some n1))).bind fun m5 => some ((some n1), (n1 + 1), (k1 + (Int32.toNatClampNeg (i_max 10 a1))), m5)) else (f_J2_grow_2_J20 g a0 a1 z2 n1 k1 m0))
theorem mo_J2_grow_2 (g : Nat → Nat) (a0 : Option Nat) (a1 : Int32) (n1 k1 : Nat) (m0 : fk_M) : Mo4 n1 k1 (f_J2_grow_2 g a0 a1 n1 k1 m0) := by
  unfold f_J2_grow_2
  exact Mo4.bind (fun z1 => Mo4.bind (fun z2 => Mo4.ite ((mo_J2_grow_2_J20 g a0 a1 z2 n1 k1 m0)) (Mo4.bind (fun z3 => Mo4.ite (Mo4.bind (fun m4 => Mo4.le (n1 := (n1 + 1)) (k1 := (k1 + (Int32.toNatClampNeg (i_max 10 a1)))) (Mo4.bind (fun m5 => Mo4.ok (by omega) (by omega))) (by omega) (by omega))) ((mo_J2_grow_2_J20 g a0 a1 z2 n1 k1 m0))))))
set_option maxHeartbeats 4000000 in
theorem c_J2_grow_2 {l : Launch} {G : fk_G} {b0 : Nat} {n1 k1 nF kF : Nat} {a0 : Option Nat} {a1 : Int32} {m0 : fk_M} {r : Option Nat} {mF : fk_M} (hf : f_J2_grow_2 G.2.2 a0 a1 n1 k1 m0 = some (r, nF, kF, mF)) : fk_Ct l G b0 yJ2_grow_2 cJ2_grow_2 4 (some (.array (.object "java/lang/Object"))) 3 104 [tR a0, tI a1] n1 m0 (some (tR r)) nF mF (nF - n1) (kF - k1) := by
  refine fk_enter n_J2_grow_2.1 rfl ?_
  intro E X0 Y
  have X : fk_X E l G b0 "java/util/ArrayList" "grow" cJ2_grow_2 4 3 104 (nF - n1) (kF - k1) := X0
  show fk_W E 4 n1 m0 0 0 0 [(0, tR a0), (1, tI a1)] []
  refine fk_widen (cs2 := n1 - n1) (sl2 := k1 - k1) (Nat.zero_le _) (Nat.zero_le _) ?_
  unfold f_J2_grow_2 at hf
  have h01 : n1 ≤ n1 := Nat.le_refl _
  have h02 : k1 ≤ k1 := Nat.le_refl _
  refine fk_aload_n X 0 dJ2_grow_2_0 rfl ?_
  refine fk_getR' X fd_14_1 q177 dJ2_grow_2_1 hf (fun z1 hf => ?_)
  refine fk_alen' X dJ2_grow_2_4 hf (fun z2 hf => ?_)
  refine fk_istore_n X [(2, tI z2), (0, tR a0), (1, tI a1)] dJ2_grow_2_5 rfl rfl ?_
  refine fk_iload_n X 0 dJ2_grow_2_6 rfl ?_
  refine fk_if_gt' X 20 dJ2_grow_2_7 rfl hf (fun hf => ?_) (fun hf => ?_)
  · have hn : n1 ≤ n1 := by omega
    have hk : k1 ≤ k1 := by omega
    exact fk_cut' (w_J2_grow_2_J20 X Y a0 a1 z2 n1 k1 hn hk m0 hf) [1, 2, 0] rfl
  · refine fk_aload_n X 1 dJ2_grow_2_10 rfl ?_
    refine fk_getR' X fd_14_1 q177 dJ2_grow_2_11 hf (fun z3 hf => ?_)
    refine fk_gets (x := tR (some (G.2.2 40))) X (List.mem_of_getElem? (i := 1) rfl) rfl q175 dJ2_grow_2_14 ?_
    refine fk_acmp_eq' X 45 dJ2_grow_2_17 rfl hf (fun hf => ?_) (fun hf => ?_)
    · refine fk_aload_n X 1 dJ2_grow_2_45 rfl ?_
      refine fk_bipush (v := 10) X dJ2_grow_2_46 rfl ?_
      refine fk_iload_n X 2 dJ2_grow_2_48 rfl ?_
      refine fk_mmax X q869 q421 q136 q422 dJ2_grow_2_49 (by omega) (Nat.le_trans (Nat.le_of_ble_eq_true (rfl : Nat.ble (_ + 13) 40 = true)) (by omega)) (by omega) (by omega) ?_
      obtain ⟨m4, hv, hf⟩ := bI hf
      have hm : (n1 + 1) ≤ nF ∧ (k1 + (Int32.toNatClampNeg (i_max 10 a1))) ≤ kF := Mo4.use hf (Mo4.bind (fun m5 => Mo4.ok (by omega) (by omega)))
      refine fk_newR (cs2 := (n1 + 1) - n1) (sl2 := (k1 + (Int32.toNatClampNeg (i_max 10 a1))) - k1) X q870 dJ2_grow_2_52 hv (by omega) (by omega) (by omega) (by omega) ?_
      refine fk_dup_x1 X dJ2_grow_2_55 rfl rfl ?_
      refine fk_putR' X fd_14_1 q177 dJ2_grow_2_56 (fit_A _) hf (fun m5 hf => ?_)
      cases hf
      exact fk_areturn X Y dJ2_grow_2_59 (by first | exact Or.inl ⟨_, rfl⟩ | exact Or.inr ⟨_, rfl⟩)
    · have hn : n1 ≤ n1 := by omega
      have hk : k1 ≤ k1 := by omega
      exact fk_cut' (w_J2_grow_2_J20 X Y a0 a1 z2 n1 k1 hn hk m0 hf) [1, 2, 0] rfl
/-! java/util/ArrayList grow ()[Ljava/lang/Object; -/
theorem n_J2_grow : fk_N yJ2_grow 0 := ⟨by decide +kernel, by decide +kernel, by decide +kernel, by decide +kernel⟩
def f_J2_grow (g : Nat → Nat) (a0 : Option Nat) (n1 k1 : Nat) (m0 : fk_M) : Option ((Option Nat) × Nat × Nat × fk_M) :=
  (gI m0 a0 14 2).bind fun z1 => (isO m0 a0 14).bind fun u2 => bn4 (f_J2_grow_2 g a0 (z1 + 1) n1 k1 m0) fun z3 n5 k6 m4 => some (z3, n5, k6, m4)
theorem mo_J2_grow (g : Nat → Nat) (a0 : Option Nat) (n1 k1 : Nat) (m0 : fk_M) : Mo4 n1 k1 (f_J2_grow g a0 n1 k1 m0) := by
  unfold f_J2_grow
  exact Mo4.bind (fun z1 => Mo4.bind (fun u2 => Mo4.bn4 (mo_J2_grow_2 g a0 (z1 + 1) n1 k1 m0) (fun z3 n5 k6 m4 => Mo4.ok (by omega) (by omega))))
set_option maxHeartbeats 4000000 in
theorem c_J2_grow {l : Launch} {G : fk_G} {b0 : Nat} {n1 k1 nF kF : Nat} {a0 : Option Nat} {m0 : fk_M} {r : Option Nat} {mF : fk_M} (hf : f_J2_grow G.2.2 a0 n1 k1 m0 = some (r, nF, kF, mF)) : fk_Ct l G b0 yJ2_grow cJ2_grow 1 (some (.array (.object "java/lang/Object"))) 4 127 [tR a0] n1 m0 (some (tR r)) nF mF (nF - n1) (kF - k1) := by
  refine fk_enter n_J2_grow.1 rfl ?_
  intro E X0 Y
  have X : fk_X E l G b0 "java/util/ArrayList" "grow" cJ2_grow 1 4 127 (nF - n1) (kF - k1) := X0
  show fk_W E 1 n1 m0 0 0 0 [(0, tR a0)] []
  refine fk_widen (cs2 := n1 - n1) (sl2 := k1 - k1) (Nat.zero_le _) (Nat.zero_le _) ?_
  unfold f_J2_grow at hf
  have h01 : n1 ≤ n1 := Nat.le_refl _
  have h02 : k1 ≤ k1 := Nat.le_refl _
  refine fk_aload_n X 0 dJ2_grow_0 rfl ?_
  refine fk_aload_n X 0 dJ2_grow_1 rfl ?_
  refine fk_getI' X fd_14_2 q178 dJ2_grow_2 hf (fun z1 hf => ?_)
  refine fk_iconst (v := 1) X dJ2_grow_5 rfl ?_
  refine fk_iadd X dJ2_grow_6 ?_
  obtain ⟨u2, hq, hf⟩ := bI hf
  obtain ⟨z3, n5, k6, m4, hv, hf⟩ := bn4_eq hf
  have hmc := mo_J2_grow_2 G.2.2 a0 (z1 + 1) n1 k1 m0 _ _ _ _ hv
  have hm : n5 ≤ nF ∧ k6 ≤ kF := Mo4.use hf (Mo4.ok (by omega) (by omega))
  refine fk_callV1R (ci := 14) (rest := []) (cs2 := n5 - n1) (sl2 := k6 - k1) X hq rfl (c_J2_grow_2 hv) n_J2_grow_2 q832 q834 qs16 q125 q835 rfl dJ2_grow_7 rfl rfl rfl rfl rfl (by omega) (by omega) (by omega) (by omega) ?_
  cases hf
  exact fk_areturn X Y dJ2_grow_10 (by first | exact Or.inl ⟨_, rfl⟩ | exact Or.inr ⟨_, rfl⟩)
/-! java/util/ArrayList add (Ljava/lang/Object;[Ljava/lang/Object;I)V -/
theorem n_J2_add_2 : fk_N yJ2_add_2 3 := ⟨by decide +kernel, by decide +kernel, by decide +kernel, by decide +kernel⟩
def f_J2_add_2_J11 (g : Nat → Nat) (x0 : Option Nat) (x1 : Option Nat) (x2 : Option Nat) (x3 : Int32) (n1 k1 : Nat) (m0 : fk_M) : Option (Nat × Nat × fk_M) :=
  (sR m0 x2 x3 x1).bind fun m1 => (pV m1 x0 14 2 (tI (x3 + 1))).bind fun m2 => some (n1, k1, m2)
theorem mo_J2_add_2_J11 (g : Nat → Nat) (x0 : Option Nat) (x1 : Option Nat) (x2 : Option Nat) (x3 : Int32) (n1 k1 : Nat) (m0 : fk_M) : Mo3 n1 k1 (f_J2_add_2_J11 g x0 x1 x2 x3 n1 k1 m0) := by
  unfold f_J2_add_2_J11
  exact Mo3.bind (fun m1 => Mo3.bind (fun m2 => Mo3.ok (by omega) (by omega)))
set_option maxHeartbeats 4000000 in
theorem w_J2_add_2_J11 {E : fk_E} {l : Launch} {G : fk_G} {b0 n0 k0 nF kF : Nat} {mF : fk_M} (X : fk_X E l G b0 "java/util/ArrayList" "add" cJ2_add_2 4 5 147 (nF - n0) (kF - k0)) (Y : fk_Y E none none nF mF (nF - n0) (kF - k0)) (x0 : Option Nat) (x1 : Option Nat) (x2 : Option Nat) (x3 : Int32)  (n1 k1 : Nat) (hn1 : n0 ≤ n1) (hk1 : k0 ≤ k1) (m0 : fk_M) (hf : f_J2_add_2_J11 G.2.2 x0 x1 x2 x3 n1 k1 m0 = some (nF, kF, mF)) : fk_W E 4 n1 m0 (n1 - n0) (k1 - k0) 11 [(0, tR x0), (1, tR x1), (2, tR x2), (3, tI x3)] [] := by
  unfold f_J2_add_2_J11 at hf
  refine fk_aload_n X 2 dJ2_add_2_11 rfl ?_
  refine fk_iload_n X 3 dJ2_add_2_12 rfl ?_
  refine fk_aload_n X 1 dJ2_add_2_13 rfl ?_
  refine fk_aastore' X dJ2_add_2_14 hf (fun m1 hf => ?_)
  refine fk_aload_n X 0 dJ2_add_2_15 rfl ?_
  refine fk_iload_n X 3 dJ2_add_2_16 rfl ?_
  refine fk_iconst (v := 1) X dJ2_add_2_17 rfl ?_
  refine fk_iadd X dJ2_add_2_18 ?_
  refine fk_putI' X fd_14_2 q178 dJ2_add_2_19 (fit_I _) hf (fun m2 hf => ?_)
  cases hf
  exact fk_return X Y dJ2_add_2_22
def f_J2_add_2 (g : Nat → Nat) (a0 : Option Nat) (a1 : Option Nat) (a2 : Option Nat) (a3 : Int32) (n1 k1 : Nat) (m0 : fk_M) : Option (Nat × Nat × fk_M) :=
  (aLn m0 a2).bind fun z1 => if a3 = z1 then ((isO m0 a0 14).bind fun u2 => bn4 (f_J2_grow g a0 n1 k1 m0) fun z3 n5 k6 m4 => f_J2_add_2_J11 g a0 a1 z3 a3 n5 k6 m4) else (f_J2_add_2_J11 g a0 a1 a2 a3 n1 k1 m0)
theorem mo_J2_add_2 (g : Nat → Nat) (a0 : Option Nat) (a1 : Option Nat) (a2 : Option Nat) (a3 : Int32) (n1 k1 : Nat) (m0 : fk_M) : Mo3 n1 k1 (f_J2_add_2 g a0 a1 a2 a3 n1 k1 m0) := by
  unfold f_J2_add_2
  exact Mo3.bind (fun z1 => Mo3.ite (Mo3.bind (fun u2 => Mo3.bn4 (mo_J2_grow g a0 n1 k1 m0) (fun z3 n5 k6 m4 => (mo_J2_add_2_J11 g a0 a1 z3 a3 n5 k6 m4)))) ((mo_J2_add_2_J11 g a0 a1 a2 a3 n1 k1 m0)))
set_option maxHeartbeats 4000000 in
theorem c_J2_add_2 {l : Launch} {G : fk_G} {b0 : Nat} {n1 k1 nF kF : Nat} {a0 : Option Nat} {a1 : Option Nat} {a2 : Option Nat} {a3 : Int32} {m0 : fk_M} {mF : fk_M} (hf : f_J2_add_2 G.2.2 a0 a1 a2 a3 n1 k1 m0 = some (nF, kF, mF)) : fk_Ct l G b0 yJ2_add_2 cJ2_add_2 4 none 5 147 [tR a0, tR a1, tR a2, tI a3] n1 m0 none nF mF (nF - n1) (kF - k1) := by
  refine fk_enter n_J2_add_2.1 rfl ?_
  intro E X0 Y
  have X : fk_X E l G b0 "java/util/ArrayList" "add" cJ2_add_2 4 5 147 (nF - n1) (kF - k1) := X0
  show fk_W E 4 n1 m0 0 0 0 [(0, tR a0), (1, tR a1), (2, tR a2), (3, tI a3)] []
  refine fk_widen (cs2 := n1 - n1) (sl2 := k1 - k1) (Nat.zero_le _) (Nat.zero_le _) ?_
  unfold f_J2_add_2 at hf
  have h01 : n1 ≤ n1 := Nat.le_refl _
  have h02 : k1 ≤ k1 := Nat.le_refl _
  refine fk_iload_n X 3 dJ2_add_2_0 rfl ?_
  refine fk_aload_n X 2 dJ2_add_2_1 rfl ?_
  refine fk_alen' X dJ2_add_2_2 hf (fun z1 hf => ?_)
  refine fk_icmp_ne' X 11 dJ2_add_2_3 rfl hf (fun hf => ?_) (fun hf => ?_)
  · have hn : n1 ≤ n1 := by omega
    have hk : k1 ≤ k1 := by omega
    exact fk_cut' (w_J2_add_2_J11 X Y a0 a1 a2 a3 n1 k1 hn hk m0 hf) [0, 1, 2, 3] rfl
  · refine fk_aload_n X 0 dJ2_add_2_6 rfl ?_
    obtain ⟨u2, hq, hf⟩ := bI hf
    obtain ⟨z3, n5, k6, m4, hv, hf⟩ := bn4_eq hf
    have hmc := mo_J2_grow G.2.2 a0 n1 k1 m0 _ _ _ _ hv
    have hm : n5 ≤ nF ∧ k6 ≤ kF := Mo3.use hf ((mo_J2_add_2_J11 G.2.2 a0 a1 z3 a3 n5 k6 m4))
    refine fk_callV1R (ci := 14) (rest := []) (cs2 := n5 - n1) (sl2 := k6 - k1) X hq rfl (c_J2_grow hv) n_J2_grow q828 q830 qs15 q125 q831 rfl dJ2_add_2_7 rfl rfl rfl rfl rfl (by omega) (by omega) (by omega) (by omega) ?_
    refine fk_astore_n X [(2, tR z3), (0, tR a0), (1, tR a1), (3, tI a3)] dJ2_add_2_10 rfl rfl ?_
    have hn : n1 ≤ n5 := by omega
    have hk : k1 ≤ k6 := by omega
    exact fk_cut' (w_J2_add_2_J11 X Y a0 a1 z3 a3 n5 k6 hn hk m4 hf) [1, 2, 0, 3] rfl
/-! java/util/ArrayList add (Ljava/lang/Object;)Z -/
theorem n_J2_add : fk_N yJ2_add 1 := ⟨by decide +kernel, by decide +kernel, by decide +kernel, by decide +kernel⟩
def f_J2_add (g : Nat → Nat) (a0 : Option Nat) (a1 : Option Nat) (n1 k1 : Nat) (m0 : fk_M) : Option (Int32 × Nat × Nat × fk_M) :=
  (gI m0 a0 14 0).bind fun z1 => (pV m0 a0 14 0 (tI (z1 + 1))).bind fun m2 => (gR m2 a0 14 1).bind fun z3 => (gI m2 a0 14 2).bind fun z4 => (isO m2 a0 14).bind fun u5 => bn3 (f_J2_add_2 g a0 a1 z3 z4 n1 k1 m2) fun n7 k8 m6 => some (1, n7, k8, m6)
theorem mo_J2_add (g : Nat → Nat) (a0 : Option Nat) (a1 : Option Nat) (n1 k1 : Nat) (m0 : fk_M) : Mo4 n1 k1 (f_J2_add g a0 a1 n1 k1 m0) := by
  unfold f_J2_add
  exact Mo4.bind (fun z1 => Mo4.bind (fun m2 => Mo4.bind (fun z3 => Mo4.bind (fun z4 => Mo4.bind (fun u5 => Mo4.bn3 (mo_J2_add_2 g a0 a1 z3 z4 n1 k1 m2) (fun n7 k8 m6 => Mo4.ok (by omega) (by omega)))))))
set_option maxHeartbeats 4000000 in
theorem c_J2_add {l : Launch} {G : fk_G} {b0 : Nat} {n1 k1 nF kF : Nat} {a0 : Option Nat} {a1 : Option Nat} {m0 : fk_M} {r : Int32} {mF : fk_M} (hf : f_J2_add G.2.2 a0 a1 n1 k1 m0 = some (r, nF, kF, mF)) : fk_Ct l G b0 yJ2_add cJ2_add 2 (some .boolean) 6 170 [tR a0, tR a1] n1 m0 (some (tI r)) nF mF (nF - n1) (kF - k1) := by
  refine fk_enter n_J2_add.1 rfl ?_
  intro E X0 Y
  have X : fk_X E l G b0 "java/util/ArrayList" "add" cJ2_add 2 6 170 (nF - n1) (kF - k1) := X0
  show fk_W E 2 n1 m0 0 0 0 [(0, tR a0), (1, tR a1)] []
  refine fk_widen (cs2 := n1 - n1) (sl2 := k1 - k1) (Nat.zero_le _) (Nat.zero_le _) ?_
  unfold f_J2_add at hf
  have h01 : n1 ≤ n1 := Nat.le_refl _
  have h02 : k1 ≤ k1 := Nat.le_refl _
  refine fk_aload_n X 0 dJ2_add_0 rfl ?_
  refine fk_dup X dJ2_add_1 rfl ?_
  refine fk_getIs' X fd_14_0 q181 q180 dJ2_add_2 hf (fun z1 hf => ?_)
  refine fk_iconst (v := 1) X dJ2_add_5 rfl ?_
  refine fk_iadd X dJ2_add_6 ?_
  refine fk_putIs' X fd_14_0 q181 q180 dJ2_add_7 (fit_I _) hf (fun m2 hf => ?_)
  refine fk_aload_n X 0 dJ2_add_10 rfl ?_
  refine fk_aload_n X 1 dJ2_add_11 rfl ?_
  refine fk_aload_n X 0 dJ2_add_12 rfl ?_
  refine fk_getR' X fd_14_1 q177 dJ2_add_13 hf (fun z3 hf => ?_)
  refine fk_aload_n X 0 dJ2_add_16 rfl ?_
  refine fk_getI' X fd_14_2 q178 dJ2_add_17 hf (fun z4 hf => ?_)
  obtain ⟨u5, hq, hf⟩ := bI hf
  obtain ⟨n7, k8, m6, hv, hf⟩ := bn3_eq hf
  have hmc := mo_J2_add_2 G.2.2 a0 a1 z3 z4 n1 k1 m2 _ _ _ hv
  have hm : n7 ≤ nF ∧ k8 ≤ kF := Mo4.use hf (Mo4.ok (by omega) (by omega))
  refine fk_callV1V (ci := 14) (rest := []) (cs2 := n7 - n1) (sl2 := k8 - k1) X hq rfl (c_J2_add_2 hv) n_J2_add_2 q824 q826 qs14 q125 q827 rfl dJ2_add_20 rfl rfl rfl rfl rfl (by omega) (by omega) (by omega) (by omega) ?_
  refine fk_iconst (v := 1) X dJ2_add_23 rfl ?_
  cases hf
  exact fk_ireturn X Y dJ2_add_24 (by decide +kernel)
/-! java/util/ArrayList isEmpty ()Z -/
theorem n_J2_isEmpty : fk_N yJ2_isEmpty 0 := ⟨by decide +kernel, by decide +kernel, by decide +kernel, by decide +kernel⟩
def f_J2_isEmpty (a0 : Option Nat) (m : fk_M) : Option Int32 :=
  (gI m a0 14 2).bind fun z1 => some (if z1 = 0 then (1 : Int32) else 0)
set_option maxHeartbeats 4000000 in
theorem c_J2_isEmpty {l : Launch} {G : fk_G} {b0 : Nat} {n : Nat} {a0 : Option Nat} {m : fk_M} {r : Int32} (hf : f_J2_isEmpty a0 m = some r) : fk_Ct l G b0 yJ2_isEmpty cJ2_isEmpty 1 (some .boolean) 1 60 [tR a0] n m (some (tI r)) n m 0 0 := by
  refine fk_enter n_J2_isEmpty.1 rfl ?_
  intro E X0 Y
  have X : fk_X E l G b0 "java/util/ArrayList" "isEmpty" cJ2_isEmpty 1 1 60 0 0 := X0
  show fk_W E 1 n m 0 0 0 [(0, tR a0)] []
  unfold f_J2_isEmpty at hf
  refine fk_aload_n X 0 dJ2_isEmpty_0 rfl ?_
  refine fk_getI' X fd_14_2 q178 dJ2_isEmpty_1 hf (fun z1 hf => ?_)
  have J1 : fk_W E 1 n m 0 0 12 [] [tI (if z1 = 0 then (1 : Int32) else 0)] := by
    cases hf
    exact fk_ireturn X Y dJ2_isEmpty_12 (by (repeat' split) <;> decide +kernel)
  refine fk_if_ne X 11 dJ2_isEmpty_4 rfl (fun hc2 => ?_) (fun hc2 => ?_)
  · refine fk_iconst (v := 0) X dJ2_isEmpty_11 rfl ?_
    simp only [if_neg hc2] at J1
    exact fk_cut' J1 [] rfl
  · refine fk_iconst (v := 1) X dJ2_isEmpty_7 rfl ?_
    refine fk_goto X 12 dJ2_isEmpty_8 rfl ?_
    simp only [if_pos hc2] at J1
    exact fk_cut' J1 [] rfl
/-! java/util/ArrayList clear ()V -/
theorem n_J2_clear : fk_N yJ2_clear 0 := ⟨by decide +kernel, by decide +kernel, by decide +kernel, by decide +kernel⟩
def f_J2_clear_L27 (x1 : Option Nat) (x2 : Int32) : Nat → Int32 → fk_M → Option fk_M
  | 0, _, _ => none
  | N + 1, x3, m0 =>
  if x2 ≤ x3 then (some m0) else ((sR m0 x1 x3 none).bind fun m1 => f_J2_clear_L27 x1 x2 N (x3 + 1) m1)
set_option maxHeartbeats 4000000 in
theorem w_J2_clear_L27 {E : fk_E} {l : Launch} {G : fk_G} {b0 n : Nat} {mF : fk_M} (X : fk_X E l G b0 "java/util/ArrayList" "clear" cJ2_clear 4 1 60 0 0) (Y : fk_Y E none none n mF 0 0) (x1 : Option Nat) (x2 : Int32) : ∀ (N : Nat) (x3 : Int32) (m0 : fk_M), f_J2_clear_L27 x1 x2 N x3 m0 = some mF → fk_W E 4 n m0 0 0 27 [(1, tR x1), (2, tI x2), (3, tI x3)] [] := by
  intro N
  induction N with
  | zero =>
    intro x3 m0 hf
    have hf : (none : Option fk_M) = some _ := hf
    cases hf
  | succ N ih =>
    intro x3 m0 hf
    rw [f_J2_clear_L27] at hf
    refine fk_iload_n X 2 dJ2_clear_27 rfl ?_
    refine fk_iload_n X 1 dJ2_clear_28 rfl ?_
    refine fk_icmp_ge' X 42 dJ2_clear_29 rfl hf (fun hf => ?_) (fun hf => ?_)
    · cases hf
      exact fk_return X Y dJ2_clear_42
    · refine fk_aload_n X 0 dJ2_clear_32 rfl ?_
      refine fk_iload_n X 2 dJ2_clear_33 rfl ?_
      refine fk_null X dJ2_clear_34 ?_
      refine fk_aastore' X dJ2_clear_35 hf (fun m1 hf => ?_)
      refine fk_iinc X 2 [(3, tI (x3 + 1)), (1, tR x1), (2, tI x2)] dJ2_clear_36 rfl rfl rfl rfl ?_
      refine fk_goto X 27 dJ2_clear_39 rfl ?_
      exact fk_cut' (ih (x3 + 1) m1  hf) [1, 2, 0] rfl
def f_J2_clear (a0 : Option Nat) (m0 : fk_M) : Option fk_M :=
  (gI m0 a0 14 0).bind fun z1 => (pV m0 a0 14 0 (tI (z1 + 1))).bind fun m2 => (gR m2 a0 14 1).bind fun z3 => (gI m2 a0 14 2).bind fun z4 => (pV m2 a0 14 2 (tI 0)).bind fun m5 => f_J2_clear_L27 z3 z4 fk_fuel 0 m5
set_option maxHeartbeats 4000000 in
theorem c_J2_clear {l : Launch} {G : fk_G} {b0 : Nat} {n : Nat} {a0 : Option Nat} {m0 : fk_M} {mF : fk_M} (hf : f_J2_clear a0 m0 = some mF) : fk_Ct l G b0 yJ2_clear cJ2_clear 4 none 1 60 [tR a0] n m0 none n mF 0 0 := by
  refine fk_enter n_J2_clear.1 rfl ?_
  intro E X0 Y
  have X : fk_X E l G b0 "java/util/ArrayList" "clear" cJ2_clear 4 1 60 0 0 := X0
  show fk_W E 4 n m0 0 0 0 [(0, tR a0)] []
  unfold f_J2_clear at hf
  refine fk_aload_n X 0 dJ2_clear_0 rfl ?_
  refine fk_dup X dJ2_clear_1 rfl ?_
  refine fk_getIs' X fd_14_0 q181 q180 dJ2_clear_2 hf (fun z1 hf => ?_)
  refine fk_iconst (v := 1) X dJ2_clear_5 rfl ?_
  refine fk_iadd X dJ2_clear_6 ?_
  refine fk_putIs' X fd_14_0 q181 q180 dJ2_clear_7 (fit_I _) hf (fun m2 hf => ?_)
  refine fk_aload_n X 0 dJ2_clear_10 rfl ?_
  refine fk_getR' X fd_14_1 q177 dJ2_clear_11 hf (fun z3 hf => ?_)
  refine fk_astore_n X [(1, tR z3), (0, tR a0)] dJ2_clear_14 rfl rfl ?_
  refine fk_aload_n X 1 dJ2_clear_15 rfl ?_
  refine fk_getI' X fd_14_2 q178 dJ2_clear_16 hf (fun z4 hf => ?_)
  refine fk_istore_n X [(2, tI z4), (1, tR z3), (0, tR a0)] dJ2_clear_19 rfl rfl ?_
  refine fk_aload_n X 2 dJ2_clear_20 rfl ?_
  refine fk_iconst (v := 0) X dJ2_clear_21 rfl ?_
  refine fk_dup_x1 X dJ2_clear_22 rfl rfl ?_
  refine fk_putI' X fd_14_2 q178 dJ2_clear_23 (fit_I _) hf (fun m5 hf => ?_)
  refine fk_istore_n X [(3, tI 0), (2, tI z4), (1, tR z3), (0, tR a0)] dJ2_clear_26 rfl rfl ?_
  exact fk_cut' (w_J2_clear_L27 X Y z3 z4 fk_fuel 0 m5 hf) [2, 1, 0] rfl
/-! java/util/ArrayList fastRemove ([Ljava/lang/Object;I)V -/
theorem n_J2_fastRemove : fk_N yJ2_fastRemove 2 := ⟨by decide +kernel, by decide +kernel, by decide +kernel, by decide +kernel⟩
def f_J2_fastRemove_J34 (x0 : Option Nat) (x1 : Option Nat) (x3 : Int32) (m0 : fk_M) : Option fk_M :=
  (pV m0 x0 14 2 (tI x3)).bind fun m1 => (sR m1 x1 x3 none).bind fun m2 => some m2
set_option maxHeartbeats 4000000 in
theorem w_J2_fastRemove_J34 {E : fk_E} {l : Launch} {G : fk_G} {b0 n : Nat} {mF : fk_M} (X : fk_X E l G b0 "java/util/ArrayList" "fastRemove" cJ2_fastRemove 4 1 60 0 0) (Y : fk_Y E none none n mF 0 0) (x0 : Option Nat) (x1 : Option Nat) (x3 : Int32)  (m0 : fk_M) (hf : f_J2_fastRemove_J34 x0 x1 x3 m0 = some mF) : fk_W E 4 n m0 0 0 34 [(0, tR x0), (1, tR x1), (3, tI x3)] [] := by
  unfold f_J2_fastRemove_J34 at hf
  refine fk_aload_n X 1 dJ2_fastRemove_34 rfl ?_
  refine fk_aload_n X 0 dJ2_fastRemove_35 rfl ?_
  refine fk_iload_n X 2 dJ2_fastRemove_36 rfl ?_
  refine fk_dup_x1 X dJ2_fastRemove_37 rfl rfl ?_
  refine fk_putI' X fd_14_2 q178 dJ2_fastRemove_38 (fit_I _) hf (fun m1 hf => ?_)
  refine fk_null X dJ2_fastRemove_41 ?_
  refine fk_aastore' X dJ2_fastRemove_42 hf (fun m2 hf => ?_)
  cases hf
  exact fk_return X Y dJ2_fastRemove_43
def f_J2_fastRemove (a0 : Option Nat) (a1 : Option Nat) (a2 : Int32) (m0 : fk_M) : Option fk_M :=
  (gI m0 a0 14 0).bind fun z1 => (pV m0 a0 14 0 (tI (z1 + 1))).bind fun m2 => (gI m2 a0 14 2).bind fun z3 => if (z3 - 1) ≤ a2 then (f_J2_fastRemove_J34 a0 a1 (z3 - 1) m2) else ((cpR m2 a1 (a2 + 1) a1 a2 ((z3 - 1) - a2)).bind fun m4 => f_J2_fastRemove_J34 a0 a1 (z3 - 1) m4)
set_option maxHeartbeats 4000000 in
theorem c_J2_fastRemove {l : Launch} {G : fk_G} {b0 : Nat} {n : Nat} {a0 : Option Nat} {a1 : Option Nat} {a2 : Int32} {m0 : fk_M} {mF : fk_M} (hf : f_J2_fastRemove a0 a1 a2 m0 = some mF) : fk_Ct l G b0 yJ2_fastRemove cJ2_fastRemove 4 none 1 60 [tR a0, tR a1, tI a2] n m0 none n mF 0 0 := by
  refine fk_enter n_J2_fastRemove.1 rfl ?_
  intro E X0 Y
  have X : fk_X E l G b0 "java/util/ArrayList" "fastRemove" cJ2_fastRemove 4 1 60 0 0 := X0
  show fk_W E 4 n m0 0 0 0 [(0, tR a0), (1, tR a1), (2, tI a2)] []
  unfold f_J2_fastRemove at hf
  refine fk_aload_n X 0 dJ2_fastRemove_0 rfl ?_
  refine fk_dup X dJ2_fastRemove_1 rfl ?_
  refine fk_getIs' X fd_14_0 q181 q180 dJ2_fastRemove_2 hf (fun z1 hf => ?_)
  refine fk_iconst (v := 1) X dJ2_fastRemove_5 rfl ?_
  refine fk_iadd X dJ2_fastRemove_6 ?_
  refine fk_putIs' X fd_14_0 q181 q180 dJ2_fastRemove_7 (fit_I _) hf (fun m2 hf => ?_)
  refine fk_aload_n X 0 dJ2_fastRemove_10 rfl ?_
  refine fk_getI' X fd_14_2 q178 dJ2_fastRemove_11 hf (fun z3 hf => ?_)
  refine fk_iconst (v := 1) X dJ2_fastRemove_14 rfl ?_
  refine fk_isub X dJ2_fastRemove_15 ?_
  refine fk_dup X dJ2_fastRemove_16 rfl ?_
  refine fk_istore_n X [(3, tI (z3 - 1)), (0, tR a0), (1, tR a1), (2, tI a2)] dJ2_fastRemove_17 rfl rfl ?_
  refine fk_iload_n X 3 dJ2_fastRemove_18 rfl ?_
  refine fk_icmp_le' X 34 dJ2_fastRemove_19 rfl hf (fun hf => ?_) (fun hf => ?_)
  · exact fk_cut' (w_J2_fastRemove_J34 X Y a0 a1 (z3 - 1) m2 hf) [1, 2, 0] rfl
  · refine fk_aload_n X 2 dJ2_fastRemove_22 rfl ?_
    refine fk_iload_n X 3 dJ2_fastRemove_23 rfl ?_
    refine fk_iconst (v := 1) X dJ2_fastRemove_24 rfl ?_
    refine fk_iadd X dJ2_fastRemove_25 ?_
    refine fk_aload_n X 2 dJ2_fastRemove_26 rfl ?_
    refine fk_iload_n X 3 dJ2_fastRemove_27 rfl ?_
    refine fk_iload_n X 0 dJ2_fastRemove_28 rfl ?_
    refine fk_iload_n X 3 dJ2_fastRemove_29 rfl ?_
    refine fk_isub X dJ2_fastRemove_30 ?_
    refine fk_copyR' X q1401 q443 q442 q138 dJ2_fastRemove_31 rfl rfl hf (fun m4 hf => ?_)
    exact fk_cut' (w_J2_fastRemove_J34 X Y a0 a1 (z3 - 1) m4 hf) [1, 2, 0] rfl
/-! java/util/ArrayList remove (I)Ljava/lang/Object; -/
theorem n_J2_remove : fk_N yJ2_remove 1 := ⟨by decide +kernel, by decide +kernel, by decide +kernel, by decide +kernel⟩
def f_J2_remove (a0 : Option Nat) (a1 : Int32) (m0 : fk_M) : Option ((Option Nat) × fk_M) :=
  (gI m0 a0 14 2).bind fun z1 => (f_J12_checkIndex a1 z1 m0).bind fun z2 => (gR m0 a0 14 1).bind fun z3 => (aR m0 z3 a1).bind fun z4 => (isO m0 a0 14).bind fun u5 => (f_J2_fastRemove a0 z3 a1 m0).bind fun m6 => some (z4, m6)
set_option maxHeartbeats 4000000 in
theorem c_J2_remove {l : Launch} {G : fk_G} {b0 : Nat} {n : Nat} {a0 : Option Nat} {a1 : Int32} {m0 : fk_M} {r : Option Nat} {mF : fk_M} (hf : f_J2_remove a0 a1 m0 = some (r, mF)) : fk_Ct l G b0 yJ2_remove cJ2_remove 4 (some (.object "java/lang/Object")) 3 103 [tR a0, tI a1] n m0 (some (tR r)) n mF 0 0 := by
  refine fk_enter n_J2_remove.1 rfl ?_
  intro E X0 Y
  have X : fk_X E l G b0 "java/util/ArrayList" "remove" cJ2_remove 4 3 103 0 0 := X0
  show fk_W E 4 n m0 0 0 0 [(0, tR a0), (1, tI a1)] []
  unfold f_J2_remove at hf
  refine fk_iload_n X 1 dJ2_remove_0 rfl ?_
  refine fk_aload_n X 0 dJ2_remove_1 rfl ?_
  refine fk_getI' X fd_14_2 q178 dJ2_remove_2 hf (fun z1 hf => ?_)
  obtain ⟨z2, hv, hf⟩ := bI hf
  refine fk_callS0I (rest := []) X (c_J12_checkIndex hv) n_J12_checkIndex q726 q727 q141 q728 dJ2_remove_5 rfl rfl rfl rfl rfl (Nat.le_refl _) (Nat.le_refl _) ?_
  refine fk_pop X dJ2_remove_8 rfl ?_
  refine fk_aload_n X 0 dJ2_remove_9 rfl ?_
  refine fk_getR' X fd_14_1 q177 dJ2_remove_10 hf (fun z3 hf => ?_)
  refine fk_astore_n X [(2, tR z3), (0, tR a0), (1, tI a1)] dJ2_remove_13 rfl rfl ?_
  refine fk_aload_n X 0 dJ2_remove_14 rfl ?_
  refine fk_iload_n X 2 dJ2_remove_15 rfl ?_
  refine fk_aaload' X dJ2_remove_16 hf (fun z4 hf => ?_)
  refine fk_astore_n X [(3, tR z4), (2, tR z3), (0, tR a0), (1, tI a1)] dJ2_remove_17 rfl rfl ?_
  refine fk_aload_n X 2 dJ2_remove_18 rfl ?_
  refine fk_aload_n X 1 dJ2_remove_19 rfl ?_
  refine fk_iload_n X 3 dJ2_remove_20 rfl ?_
  obtain ⟨u5, hq, hf⟩ := bI hf
  obtain ⟨m6, hv, hf⟩ := bI hf
  refine fk_callV0V (ci := 14) (rest := []) X hq rfl (c_J2_fastRemove hv) n_J2_fastRemove q1397 q1399 qs59 q125 q1400 rfl dJ2_remove_21 rfl rfl rfl rfl rfl (Nat.le_refl _) (Nat.le_refl _) ?_
  refine fk_aload_n X 0 dJ2_remove_24 rfl ?_
  cases hf
  exact fk_areturn X Y dJ2_remove_25 (by first | exact Or.inl ⟨_, rfl⟩ | exact Or.inr ⟨_, rfl⟩)
/-! java/lang/String coder ()B -/
theorem n_J5_coder : fk_N yJ5_coder 0 := ⟨by decide +kernel, by decide +kernel, by decide +kernel, by decide +kernel⟩
def f_J5_coder (a0 : Option Nat) (m : fk_M) : Option Int32 :=
  (gI m a0 16 1).bind fun z1 => if i_b z1 = z1 then (some z1) else none
set_option maxHeartbeats 4000000 in
theorem c_J5_coder {l : Launch} {G : fk_G} {b0 : Nat} {n : Nat} {a0 : Option Nat} {m : fk_M} {r : Int32} (hf : f_J5_coder a0 m = some r) : fk_Ct l G b0 yJ5_coder cJ5_coder 1 (some .byte) 1 60 [tR a0] n m (some (tI r)) n m 0 0 := by
  refine fk_enter n_J5_coder.1 rfl ?_
  intro E X0 Y
  have X : fk_X E l G b0 "java/lang/String" "coder" cJ5_coder 1 1 60 0 0 := X0
  show fk_W E 1 n m 0 0 0 [(0, tR a0)] []
  unfold f_J5_coder at hf
  refine fk_gets (x := tI 1) X (List.mem_of_getElem? (i := 0) rfl) rfl q533 dJ5_coder_0 ?_
  refine fk_if_eq X 13 dJ5_coder_3 rfl (fun h => absurd h (by decide)) (fun _ => ?_)
  refine fk_aload_n X 0 dJ5_coder_6 rfl ?_
  refine fk_getI' X fd_16_1 q548 dJ5_coder_7 hf (fun z1 hf => ?_)
  refine fk_goto X 14 dJ5_coder_10 rfl ?_
  by_cases hz : i_b z1 = z1
  · rw [if_pos hz] at hf
    cases hf
    exact fk_ireturn X Y dJ5_coder_14 (fit_B hz).1
  · rw [if_neg hz] at hf
    cases hf
/-! java/lang/String length ()I -/
theorem n_J5_length : fk_N yJ5_length 0 := ⟨by decide +kernel, by decide +kernel, by decide +kernel, by decide +kernel⟩
def f_J5_length (a0 : Option Nat) (m : fk_M) : Option Int32 :=
  (gR m a0 16 0).bind fun z1 => (aLn m z1).bind fun z2 => (isO m a0 16).bind fun u3 => (f_J5_coder a0 m).bind fun z4 => some (i_shr z2 z4)
set_option maxHeartbeats 4000000 in
theorem c_J5_length {l : Launch} {G : fk_G} {b0 : Nat} {n : Nat} {a0 : Option Nat} {m : fk_M} {r : Int32} (hf : f_J5_length a0 m = some r) : fk_Ct l G b0 yJ5_length cJ5_length 1 (some .int) 2 80 [tR a0] n m (some (tI r)) n m 0 0 := by
  refine fk_enter n_J5_length.1 rfl ?_
  intro E X0 Y
  have X : fk_X E l G b0 "java/lang/String" "length" cJ5_length 1 2 80 0 0 := X0
  show fk_W E 1 n m 0 0 0 [(0, tR a0)] []
  unfold f_J5_length at hf
  refine fk_aload_n X 0 dJ5_length_0 rfl ?_
  refine fk_getR' X fd_16_0 q547 dJ5_length_1 hf (fun z1 hf => ?_)
  refine fk_alen' X dJ5_length_4 hf (fun z2 hf => ?_)
  refine fk_aload_n X 0 dJ5_length_5 rfl ?_
  obtain ⟨u3, hq, hf⟩ := bI hf
  obtain ⟨z4, hv, hf⟩ := bI hf
  refine fk_callV0I (ci := 16) (rest := [tI z2]) X hq rfl (c_J5_coder hv) n_J5_coder q1703 q1704 q1705 q133 q1706 rfl dJ5_length_6 rfl rfl rfl rfl rfl (Nat.le_refl _) (Nat.le_refl _) ?_
  refine fk_ishr X dJ5_length_9 ?_
  cases hf
  exact fk_ireturn X Y dJ5_length_10 rfl
/-! java/lang/String checkIndex (II)V -/
theorem n_J5_checkIndex : fk_N yJ5_checkIndex 2 := ⟨by decide +kernel, by decide +kernel, by decide +kernel, by decide +kernel⟩
def f_J5_checkIndex (g : Nat → Nat) (a0 : Int32) (a1 : Int32) (m : fk_M) : Option Unit :=
  (f_J11_checkIndex a0 a1 (fk_oo (g 42)) m).bind fun z1 => some ()
set_option maxHeartbeats 4000000 in
theorem c_J5_checkIndex {l : Launch} {G : fk_G} {b0 : Nat} {n : Nat} {a0 : Int32} {a1 : Int32} {m : fk_M} (hf : f_J5_checkIndex G.2.2 a0 a1 m = some ()) : fk_Ct l G b0 yJ5_checkIndex cJ5_checkIndex 2 none 2 82 [tI a0, tI a1] n m none n m 0 0 := by
  refine fk_enter n_J5_checkIndex.1 rfl ?_
  intro E X0 Y
  have X : fk_X E l G b0 "java/lang/String" "checkIndex" cJ5_checkIndex 2 2 82 0 0 := X0
  show fk_W E 2 n m 0 0 0 [(0, tI a0), (1, tI a1)] []
  unfold f_J5_checkIndex at hf
  refine fk_iload_n X 0 dJ5_checkIndex_0 rfl ?_
  refine fk_iload_n X 1 dJ5_checkIndex_1 rfl ?_
  refine fk_gets (x := tR (fk_oo (G.2.2 42))) X (List.mem_of_getElem? (i := 2) rfl) rfl q471 dJ5_checkIndex_2 ?_
  obtain ⟨z1, hv, hf⟩ := bI hf
  refine fk_callS0I (rest := []) X (c_J11_checkIndex hv) n_J11_checkIndex q494 q495 q140 q496 dJ5_checkIndex_5 rfl rfl rfl rfl rfl (Nat.le_refl _) (Nat.le_refl _) ?_
  refine fk_pop X dJ5_checkIndex_8 rfl ?_
  cases hf
  exact fk_return X Y dJ5_checkIndex_9
/-! java/lang/StringLatin1 charAt ([BI)C -/
theorem n_J10_charAt : fk_N yJ10_charAt 2 := ⟨by decide +kernel, by decide +kernel, by decide +kernel, by decide +kernel⟩
def f_J10_charAt (g : Nat → Nat) (a0 : Option Nat) (a1 : Int32) (m : fk_M) : Option Int32 :=
  (aLn m a0).bind fun z1 => (f_J5_checkIndex g a1 z1 m).bind fun _ => (aI m a0 1 a1).bind fun z2 => if i_c (i_c (z2 &&& 255)) = (i_c (z2 &&& 255)) then (some (i_c (z2 &&& 255))) else none
set_option maxHeartbeats 4000000 in
theorem c_J10_charAt {l : Launch} {G : fk_G} {b0 : Nat} {n : Nat} {a0 : Option Nat} {a1 : Int32} {m : fk_M} {r : Int32} (hf : f_J10_charAt G.2.2 a0 a1 m = some r) : fk_Ct l G b0 yJ10_charAt cJ10_charAt 2 (some .char) 3 103 [tR a0, tI a1] n m (some (tI r)) n m 0 0 := by
  refine fk_enter n_J10_charAt.1 rfl ?_
  intro E X0 Y
  have X : fk_X E l G b0 "java/lang/StringLatin1" "charAt" cJ10_charAt 2 3 103 0 0 := X0
  show fk_W E 2 n m 0 0 0 [(0, tR a0), (1, tI a1)] []
  unfold f_J10_charAt at hf
  refine fk_iload_n X 1 dJ10_charAt_0 rfl ?_
  refine fk_aload_n X 0 dJ10_charAt_1 rfl ?_
  refine fk_alen' X dJ10_charAt_2 hf (fun z1 hf => ?_)
  obtain ⟨u9, hv, hf⟩ := bI hf
  refine fk_callS0V (rest := []) X (c_J5_checkIndex hv) n_J5_checkIndex q1714 q492 q133 q493 dJ10_charAt_3 rfl rfl rfl rfl rfl (Nat.le_refl _) (Nat.le_refl _) ?_
  refine fk_aload_n X 0 dJ10_charAt_6 rfl ?_
  refine fk_iload_n X 1 dJ10_charAt_7 rfl ?_
  refine fk_baload' X dJ10_charAt_8 hf (fun z2 hf => ?_)
  refine fk_sipush (v := 255) X dJ10_charAt_9 rfl ?_
  refine fk_iand X dJ10_charAt_12 ?_
  refine fk_i2c X dJ10_charAt_13 ?_
  by_cases hz : i_c (i_c (z2 &&& 255)) = (i_c (z2 &&& 255))
  · rw [if_pos hz] at hf
    cases hf
    exact fk_ireturn X Y dJ10_charAt_14 (fit_C hz)
  · rw [if_neg hz] at hf
    cases hf
/-! java/lang/String charAt (I)C -/
theorem n_J5_charAt : fk_N yJ5_charAt 1 := ⟨by decide +kernel, by decide +kernel, by decide +kernel, by decide +kernel⟩
def f_J5_charAt (g : Nat → Nat) (a0 : Option Nat) (a1 : Int32) (m : fk_M) : Option Int32 :=
  (isO m a0 16).bind fun u1 => (f_J5_isLatin1 a0 m).bind fun z2 => if z2 = 0 then (none) else ((gR m a0 16 0).bind fun z3 => (f_J10_charAt g z3 a1 m).bind fun z4 => if i_c z4 = z4 then (some z4) else none)
set_option maxHeartbeats 4000000 in
theorem c_J5_charAt {l : Launch} {G : fk_G} {b0 : Nat} {n : Nat} {a0 : Option Nat} {a1 : Int32} {m : fk_M} {r : Int32} (hf : f_J5_charAt G.2.2 a0 a1 m = some r) : fk_Ct l G b0 yJ5_charAt cJ5_charAt 2 (some .char) 4 124 [tR a0, tI a1] n m (some (tI r)) n m 0 0 := by
  refine fk_enter n_J5_charAt.1 rfl ?_
  intro E X0 Y
  have X : fk_X E l G b0 "java/lang/String" "charAt" cJ5_charAt 2 4 124 0 0 := X0
  show fk_W E 2 n m 0 0 0 [(0, tR a0), (1, tI a1)] []
  unfold f_J5_charAt at hf
  refine fk_aload_n X 0 dJ5_charAt_0 rfl ?_
  obtain ⟨u1, hq, hf⟩ := bI hf
  obtain ⟨z2, hv, hf⟩ := bI hf
  refine fk_callV0I (ci := 16) (rest := []) X hq rfl (c_J5_isLatin1 hv) n_J5_isLatin1 q591 q592 q593 q133 q594 rfl dJ5_charAt_1 rfl rfl rfl rfl rfl (Nat.le_refl _) (Nat.le_refl _) ?_
  refine fk_if_eq' X 16 dJ5_charAt_4 rfl hf (fun hf => ?_) (fun hf => ?_)
  · cases hf
  · refine fk_aload_n X 0 dJ5_charAt_7 rfl ?_
    refine fk_getR' X fd_16_0 q547 dJ5_charAt_8 hf (fun z3 hf => ?_)
    refine fk_iload_n X 1 dJ5_charAt_11 rfl ?_
    obtain ⟨z4, hv, hf⟩ := bI hf
    refine fk_callS0I (rest := []) X (c_J10_charAt hv) n_J10_charAt q1711 q1712 q139 q1713 dJ5_charAt_12 rfl rfl rfl rfl rfl (Nat.le_refl _) (Nat.le_refl _) ?_
    by_cases hz : i_c z4 = z4
    · rw [if_pos hz] at hf
      cases hf
      exact fk_ireturn X Y dJ5_charAt_15 (fit_C hz)
    · rw [if_neg hz] at hf
      cases hf
