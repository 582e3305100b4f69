set_option maxRecDepth 100000
set_option maxHeartbeats 4000000 in
theorem w_L_law {E : fk_E} {l : Launch} {G : fk_G} {b0 : Nat} {n1 k1 nF kF : Nat} {a0 : Option Nat} {m0 : fk_M} {r : Int32} {mF : fk_M} (X : fk_X E l G b0 "FigureKneeLaw" "law" cL_law 7 8192 100000 1200128 5501098) (hB : nF - n1 ≤ 1200128 ∧ kF - k1 ≤ 5501098) (Y : fk_YL E r) (hf : f_L_law G.2.2 a0 n1 k1 m0 = some (r, nF, kF, mF)) : fk_W E 7 n1 m0 0 0 0 [(0, tR a0)] [] := by
  refine fk_widen (cs2 := n1 - n1) (sl2 := k1 - k1) (Nat.zero_le _) (Nat.zero_le _) ?_
  have h01 : n1 ≤ n1 := Nat.le_refl _
  have h02 : k1 ≤ k1 := Nat.le_refl _
  unfold f_L_law at hf
  have h01 : n1 ≤ n1 := Nat.le_refl _
  have h02 : k1 ≤ k1 := Nat.le_refl _
  have hm : (n1 + 1) ≤ nF ∧ (k1 + 20) ≤ kF := Mo4.use hf (Mo4.bind (fun u2 => Mo4.bn3 (mo_X1_init G.2.2 (some n1) (n1 + 1) (k1 + 20) (fk_up m0 n1 (oB 0 V1_))) (fun n4 k5 m3 => Mo4.le (n1 := (n4 + 1)) (k1 := (k5 + 42)) (Mo4.bind (fun u7 => Mo4.bn3 (mo_X2_init (some n4) (n4 + 1) (k5 + 42) (fk_up m3 n4 (oB 1 V2_))) (fun n9 k10 m8 => Mo4.bind (fun m11 => Mo4.le (n1 := (n9 + 1)) (k1 := (k10 + (Int32.toNatClampNeg 1))) ((mo_L_law_L23 G.2.2 a0 (some n1) (some n4) (some n9) fk_fuel 0 (n9 + 1) (k10 + (Int32.toNatClampNeg 1)) m11)) (by omega) (by omega))))) (by omega) (by omega))))
  refine fk_new (cs2 := (n1 + 1) - n1) (sl2 := (k1 + 20) - k1) X cl_0 q155 dL_law_0 (by omega) (by omega) (by omega) (by omega) ?_
  refine fk_sw1 ?_
  refine fk_dup X dL_law_3 rfl ?_
  obtain ⟨u2, hq, hf⟩ := bI hf
  obtain ⟨n4, k5, m3, hv, hf⟩ := bn3_eq hf
  have hmc := mo_X1_init G.2.2 (some n1) (n1 + 1) (k1 + 20) (fk_up m0 n1 (oB 0 V1_)) _ _ _ hv
  have hm : n4 ≤ nF ∧ k5 ≤ kF := Mo4.use hf (Mo4.le (n1 := (n4 + 1)) (k1 := (k5 + 42)) (Mo4.bind (fun u7 => Mo4.bn3 (mo_X2_init (some n4) (n4 + 1) (k5 + 42) (fk_up m3 n4 (oB 1 V2_))) (fun n9 k10 m8 => Mo4.bind (fun m11 => Mo4.le (n1 := (n9 + 1)) (k1 := (k10 + (Int32.toNatClampNeg 1))) ((mo_L_law_L23 G.2.2 a0 (some n1) (some n4) (some n9) fk_fuel 0 (n9 + 1) (k10 + (Int32.toNatClampNeg 1)) m11)) (by omega) (by omega))))) (by omega) (by omega))
  refine fk_callI1V (rest := [tR (some n1)]) (cs2 := n4 - n1) (sl2 := k5 - k1) X hq (c_X1_init hv) n_X1_init rfl q157 q158 q122 q159 dL_law_4 rfl rfl rfl rfl rfl (by omega) (by omega) (by omega) (by omega) ?_
  refine fk_astore_n X [(1, tR (some n1)), (0, tR a0)] dL_law_7 rfl rfl ?_
  have hm : (n4 + 1) ≤ nF ∧ (k5 + 42) ≤ kF := Mo4.use hf (Mo4.bind (fun u7 => Mo4.bn3 (mo_X2_init (some n4) (n4 + 1) (k5 + 42) (fk_up m3 n4 (oB 1 V2_))) (fun n9 k10 m8 => Mo4.bind (fun m11 => Mo4.le (n1 := (n9 + 1)) (k1 := (k10 + (Int32.toNatClampNeg 1))) ((mo_L_law_L23 G.2.2 a0 (some n1) (some n4) (some n9) fk_fuel 0 (n9 + 1) (k10 + (Int32.toNatClampNeg 1)) m11)) (by omega) (by omega)))))
  refine fk_new (cs2 := (n4 + 1) - n1) (sl2 := (k5 + 42) - k1) X cl_1 q1520 dL_law_8 (by omega) (by omega) (by omega) (by omega) ?_
  refine fk_sw2 ?_
  refine fk_dup X dL_law_11 rfl ?_
  obtain ⟨u7, hq, hf⟩ := bI hf
  obtain ⟨n9, k10, m8, hv, hf⟩ := bn3_eq hf
  have hmc := mo_X2_init (some n4) (n4 + 1) (k5 + 42) (fk_up m3 n4 (oB 1 V2_)) _ _ _ hv
  have hm : n9 ≤ nF ∧ k10 ≤ kF := Mo4.use hf (Mo4.bind (fun m11 => Mo4.le (n1 := (n9 + 1)) (k1 := (k10 + (Int32.toNatClampNeg 1))) ((mo_L_law_L23 G.2.2 a0 (some n1) (some n4) (some n9) fk_fuel 0 (n9 + 1) (k10 + (Int32.toNatClampNeg 1)) m11)) (by omega) (by omega)))
  refine fk_callI1V (rest := [tR (some n4)]) (cs2 := n9 - n1) (sl2 := k10 - k1) X hq (c_X2_init hv) n_X2_init rfl q1522 q1523 q126 q1524 dL_law_12 rfl rfl rfl rfl rfl (by omega) (by omega) (by omega) (by omega) ?_
  refine fk_astore_n X [(2, tR (some n4)), (1, tR (some n1)), (0, tR a0)] dL_law_15 rfl rfl ?_
  refine fk_iconst (v := 1) X dL_law_16 rfl ?_
  obtain ⟨m11, hv, hf⟩ := bI hf
  have hm : (n9 + 1) ≤ nF ∧ (k10 + (Int32.toNatClampNeg 1)) ≤ kF := Mo4.use hf ((mo_L_law_L23 G.2.2 a0 (some n1) (some n4) (some n9) fk_fuel 0 (n9 + 1) (k10 + (Int32.toNatClampNeg 1)) m11))
  refine fk_newJ (cs2 := (n9 + 1) - n1) (sl2 := (k10 + (Int32.toNatClampNeg 1)) - k1) X q2189 dL_law_17 hv (by omega) (by omega) (by omega) (by omega) ?_
  refine fk_astore_n X [(3, tR (some n9)), (2, tR (some n4)), (1, tR (some n1)), (0, tR a0)] dL_law_19 rfl rfl ?_
  refine fk_iconst (v := 0) X dL_law_20 rfl ?_
  refine fk_istore X [(4, tI 0), (3, tR (some n9)), (2, tR (some n4)), (1, tR (some n1)), (0, tR a0)] dL_law_21 rfl rfl ?_
  have hn : n1 ≤ (n9 + 1) := by omega
  have hk : k1 ≤ (k10 + (Int32.toNatClampNeg 1)) := by omega
  exact fk_cut' (w_L_law_L23 X hB Y a0 (some n1) (some n4) (some n9) fk_fuel 0 (n9 + 1) (k10 + (Int32.toNatClampNeg 1)) m11 hn hk hf) [4, 3, 2, 1, 0] rfl
