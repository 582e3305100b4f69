set_option maxRecDepth 100000
set_option maxHeartbeats 4000000 in
theorem w_L_law_J2112 {E : fk_E} {l : Launch} {G : fk_G} {b0 n0 k0 nF kF : Nat} {r : Int32} {mF : fk_M} (X : fk_X E l G b0 "FigureKneeLaw" "law" cL_law 7 8192 100000 1200128 5501098) (hB : nF - n0 ≤ 1200128 ∧ kF - k0 ≤ 5501098) (Y : fk_YL E r) (x0 : Option Nat) (x1 : Option Nat) (x2 : Option Nat) (x3 : Option Nat) (x4 : Int32)  (n1 k1 : Nat) (hn1 : n0 ≤ n1) (hk1 : k0 ≤ k1) (m0 : fk_M) {R23 : Int32 → Nat → Nat → fk_M → Option (Int32 × Nat × Nat × fk_M)} (hR23 : ∀ (v4 : Int32) (n9 k9 : Nat) (m9 : fk_M), n0 ≤ n9 → k0 ≤ k9 → R23 v4 n9 k9 m9 = some (r, nF, kF, mF) → fk_W E 7 n9 m9 (n9 - n0) (k9 - k0) 23 [(0, tR x0), (1, tR x1), (2, tR x2), (3, tR x3), (4, tI v4)] []) (hM23 : ∀ (v4 : Int32) (n9 k9 : Nat) (m9 : fk_M), Mo4 n9 k9 (R23 v4 n9 k9 m9)) (hf : f_L_law_J2112 G.2.2 R23 x0 x1 x2 x3 x4 n1 k1 m0 = some (r, nF, kF, mF)) : fk_W E 7 n1 m0 (n1 - n0) (k1 - k0) 2112 [(0, tR x0), (1, tR x1), (2, tR x2), (3, tR x3), (4, tI x4)] [] := by
  unfold f_L_law_J2112 at hf
  refine fk_aload_n X 1 dL_law_2112 rfl ?_
  obtain ⟨u1, hq, hf⟩ := bI hf
  obtain ⟨z2, hv, hf⟩ := bI hf
  have hm : n1 ≤ nF ∧ k1 ≤ kF := Mo4.use hf (Mo4.bind (fun u3 => Mo4.bn2 (fun z4 m5 => Mo4.ite ((mo_L_law_J2125 G.2.2 R23 x0 x1 x2 x3 x4 n1 k1 m5 hM23)) (Mo4.ok (by omega) (by omega)))))
  refine fk_callV0I (ci := 0) (rest := []) X hq rfl (c_X1_trouble hv) n_X1_trouble q1447 q1448 q1449 q122 q1450 rfl dL_law_2113 rfl rfl rfl rfl rfl (by omega) (by omega) ?_
  refine fk_aload_n X 2 dL_law_2116 rfl ?_
  obtain ⟨u3, hq, hf⟩ := bI hf
  obtain ⟨z4, m5, hv, hf⟩ := bn2_eq hf
  have hm : n1 ≤ nF ∧ k1 ≤ kF := Mo4.use hf (Mo4.ite ((mo_L_law_J2125 G.2.2 R23 x0 x1 x2 x3 x4 n1 k1 m5 hM23)) (Mo4.ok (by omega) (by omega)))
  refine fk_callV0I (ci := 1) (rest := [tI z2]) X hq rfl (c_X2_trouble hv) n_X2_trouble q2185 q2186 q2187 q126 q2188 rfl dL_law_2117 rfl rfl rfl rfl rfl (by omega) (by omega) ?_
  refine fk_icmp_eq' X 2125 dL_law_2120 rfl hf (fun hf => ?_) (fun hf => ?_)
  · have hn : n0 ≤ n1 := by omega
    have hk : k0 ≤ k1 := by omega
    exact fk_cut' (w_L_law_J2125 X hB Y x0 x1 x2 x3 x4 n1 k1 hn hk m5 hR23 hM23 hf) [0, 1, 2, 3, 4] rfl
  · refine fk_iconst (v := 0) X dL_law_2123 rfl ?_
    cases hf
    exact fk_lawret X Y dL_law_2124 (by omega) (by omega)
set_option maxHeartbeats 4000000 in
theorem w_L_law_L23 {E : fk_E} {l : Launch} {G : fk_G} {b0 n0 k0 nF kF : Nat} {r : Int32} {mF : fk_M} (X : fk_X E l G b0 "FigureKneeLaw" "law" cL_law 7 8192 100000 1200128 5501098) (hB : nF - n0 ≤ 1200128 ∧ kF - k0 ≤ 5501098) (Y : fk_YL E r) (x0 : Option Nat) (x1 : Option Nat) (x2 : Option Nat) (x3 : Option Nat) : ∀ (N : Nat) (x4 : Int32) (n1 k1 : Nat) (m0 : fk_M), n0 ≤ n1 → k0 ≤ k1 → f_L_law_L23 G.2.2 x0 x1 x2 x3 N x4 n1 k1 m0 = some (r, nF, kF, mF) → fk_W E 7 n1 m0 (n1 - n0) (k1 - k0) 23 [(0, tR x0), (1, tR x1), (2, tR x2), (3, tR x3), (4, tI x4)] [] := by
  intro N
  induction N with
  | zero =>
    intro x4 n1 k1 m0 hn1 hk1 hf
    have hf : (none : Option (Int32 × Nat × Nat × fk_M)) = some _ := hf
    cases hf
  | succ N ih =>
    intro x4 n1 k1 m0 hn1 hk1 hf
    rw [f_L_law_L23] at hf
    refine fk_iload X 4 dL_law_23 rfl ?_
    refine fk_aload_n X 0 dL_law_25 rfl ?_
    refine fk_alen' X dL_law_26 hf (fun z1 hf => ?_)
    refine fk_bipush (v := 6) X dL_law_27 rfl ?_
    refine fk_isub X dL_law_29 ?_
    refine fk_icmp_gt' X 2131 dL_law_30 rfl hf (fun hf => ?_) (fun hf => ?_)
    · refine fk_iconst (v := 1) X dL_law_2131 rfl ?_
      cases hf
      exact fk_lawret X Y dL_law_2132 (by omega) (by omega)
    · refine fk_aload_n X 0 dL_law_33 rfl ?_
      refine fk_iload X 4 dL_law_34 rfl ?_
      refine fk_iaload' X dL_law_36 hf (fun z2 hf => ?_)
      refine fk_bipush (v := 63) X dL_law_37 rfl ?_
      refine fk_iand X dL_law_39 ?_
      by_cases hs1 : (z2 &&& 63) = 0
      · rw [if_pos hs1] at hf
        refine fk_tableIn X 292 dL_law_40 (by rw [hs1]; decide) (by rw [hs1]; decide) (by rw [hs1]; rfl) rfl ?_
        have hn : n0 ≤ n1 := by omega
        have hk : k0 ≤ k1 := by omega
        exact fk_cut' (w_L_law_J292 X hB Y x0 x1 x2 x3 x4 n1 k1 hn hk m0 ih (mo_L_law_L23 G.2.2 x0 x1 x2 x3 N) hf) [0, 1, 2, 3, 4] rfl
      rw [if_neg hs1] at hf
      by_cases hs2 : (z2 &&& 63) = 1
      · rw [if_pos hs2] at hf
        refine fk_tableIn X 365 dL_law_40 (by rw [hs2]; decide) (by rw [hs2]; decide) (by rw [hs2]; rfl) rfl ?_
        have hn : n0 ≤ n1 := by omega
        have hk : k0 ≤ k1 := by omega
        exact fk_cut' (w_L_law_J365 X hB Y x0 x1 x2 x3 x4 n1 k1 hn hk m0 ih (mo_L_law_L23 G.2.2 x0 x1 x2 x3 N) hf) [0, 1, 2, 3, 4] rfl
      rw [if_neg hs2] at hf
      by_cases hs3 : (z2 &&& 63) = 2
      · rw [if_pos hs3] at hf
        refine fk_tableIn X 390 dL_law_40 (by rw [hs3]; decide) (by rw [hs3]; decide) (by rw [hs3]; rfl) rfl ?_
        have hn : n0 ≤ n1 := by omega
        have hk : k0 ≤ k1 := by omega
        exact fk_cut' (w_L_law_J390 X hB Y x0 x1 x2 x3 x4 n1 k1 hn hk m0 ih (mo_L_law_L23 G.2.2 x0 x1 x2 x3 N) hf) [0, 1, 2, 3, 4] rfl
      rw [if_neg hs3] at hf
      by_cases hs4 : (z2 &&& 63) = 3
      · rw [if_pos hs4] at hf
        refine fk_tableIn X 403 dL_law_40 (by rw [hs4]; decide) (by rw [hs4]; decide) (by rw [hs4]; rfl) rfl ?_
        have hn : n0 ≤ n1 := by omega
        have hk : k0 ≤ k1 := by omega
        exact fk_cut' (w_L_law_J403 X hB Y x0 x1 x2 x3 x4 n1 k1 hn hk m0 ih (mo_L_law_L23 G.2.2 x0 x1 x2 x3 N) hf) [0, 1, 2, 3, 4] rfl
      rw [if_neg hs4] at hf
      by_cases hs5 : (z2 &&& 63) = 4
      · rw [if_pos hs5] at hf
        refine fk_tableIn X 416 dL_law_40 (by rw [hs5]; decide) (by rw [hs5]; decide) (by rw [hs5]; rfl) rfl ?_
        have hn : n0 ≤ n1 := by omega
        have hk : k0 ≤ k1 := by omega
        exact fk_cut' (w_L_law_J416 X hB Y x0 x1 x2 x3 x4 n1 k1 hn hk m0 ih (mo_L_law_L23 G.2.2 x0 x1 x2 x3 N) hf) [0, 1, 2, 3, 4] rfl
      rw [if_neg hs5] at hf
      by_cases hs6 : (z2 &&& 63) = 5
      · rw [if_pos hs6] at hf
        refine fk_tableIn X 453 dL_law_40 (by rw [hs6]; decide) (by rw [hs6]; decide) (by rw [hs6]; rfl) rfl ?_
        have hn : n0 ≤ n1 := by omega
        have hk : k0 ≤ k1 := by omega
        exact fk_cut' (w_L_law_J453 X hB Y x0 x1 x2 x3 x4 n1 k1 hn hk m0 ih (mo_L_law_L23 G.2.2 x0 x1 x2 x3 N) hf) [0, 1, 2, 3, 4] rfl
      rw [if_neg hs6] at hf
      by_cases hs7 : (z2 &&& 63) = 6
      · rw [if_pos hs7] at hf
        refine fk_tableIn X 490 dL_law_40 (by rw [hs7]; decide) (by rw [hs7]; decide) (by rw [hs7]; rfl) rfl ?_
        have hn : n0 ≤ n1 := by omega
        have hk : k0 ≤ k1 := by omega
        exact fk_cut' (w_L_law_J490 X hB Y x0 x1 x2 x3 x4 n1 k1 hn hk m0 ih (mo_L_law_L23 G.2.2 x0 x1 x2 x3 N) hf) [0, 1, 2, 3, 4] rfl
      rw [if_neg hs7] at hf
      by_cases hs8 : (z2 &&& 63) = 7
      · rw [if_pos hs8] at hf
        refine fk_tableIn X 527 dL_law_40 (by rw [hs8]; decide) (by rw [hs8]; decide) (by rw [hs8]; rfl) rfl ?_
        have hn : n0 ≤ n1 := by omega
        have hk : k0 ≤ k1 := by omega
        exact fk_cut' (w_L_law_J527 X hB Y x0 x1 x2 x3 x4 n1 k1 hn hk m0 ih (mo_L_law_L23 G.2.2 x0 x1 x2 x3 N) hf) [0, 1, 2, 3, 4] rfl
      rw [if_neg hs8] at hf
      by_cases hs9 : (z2 &&& 63) = 8
      · rw [if_pos hs9] at hf
        refine fk_tableIn X 552 dL_law_40 (by rw [hs9]; decide) (by rw [hs9]; decide) (by rw [hs9]; rfl) rfl ?_
        have hn : n0 ≤ n1 := by omega
        have hk : k0 ≤ k1 := by omega
        exact fk_cut' (w_L_law_J552 X hB Y x0 x1 x2 x3 x4 n1 k1 hn hk m0 ih (mo_L_law_L23 G.2.2 x0 x1 x2 x3 N) hf) [0, 1, 2, 3, 4] rfl
      rw [if_neg hs9] at hf
      by_cases hs10 : (z2 &&& 63) = 9
      · rw [if_pos hs10] at hf
        refine fk_tableIn X 589 dL_law_40 (by rw [hs10]; decide) (by rw [hs10]; decide) (by rw [hs10]; rfl) rfl ?_
        have hn : n0 ≤ n1 := by omega
        have hk : k0 ≤ k1 := by omega
        exact fk_cut' (w_L_law_J589 X hB Y x0 x1 x2 x3 x4 n1 k1 hn hk m0 ih (mo_L_law_L23 G.2.2 x0 x1 x2 x3 N) hf) [0, 1, 2, 3, 4] rfl
      rw [if_neg hs10] at hf
      by_cases hs11 : (z2 &&& 63) = 10
      · rw [if_pos hs11] at hf
        refine fk_tableIn X 614 dL_law_40 (by rw [hs11]; decide) (by rw [hs11]; decide) (by rw [hs11]; rfl) rfl ?_
        have hn : n0 ≤ n1 := by omega
        have hk : k0 ≤ k1 := by omega
        exact fk_cut' (w_L_law_J614 X hB Y x0 x1 x2 x3 x4 n1 k1 hn hk m0 ih (mo_L_law_L23 G.2.2 x0 x1 x2 x3 N) hf) [0, 1, 2, 3, 4] rfl
      rw [if_neg hs11] at hf
      by_cases hs12 : (z2 &&& 63) = 11
      · rw [if_pos hs12] at hf
        refine fk_tableIn X 639 dL_law_40 (by rw [hs12]; decide) (by rw [hs12]; decide) (by rw [hs12]; rfl) rfl ?_
        have hn : n0 ≤ n1 := by omega
        have hk : k0 ≤ k1 := by omega
        exact fk_cut' (w_L_law_J639 X hB Y x0 x1 x2 x3 x4 n1 k1 hn hk m0 ih (mo_L_law_L23 G.2.2 x0 x1 x2 x3 N) hf) [0, 1, 2, 3, 4] rfl
      rw [if_neg hs12] at hf
      by_cases hs13 : (z2 &&& 63) = 12
      · rw [if_pos hs13] at hf
        refine fk_tableIn X 676 dL_law_40 (by rw [hs13]; decide) (by rw [hs13]; decide) (by rw [hs13]; rfl) rfl ?_
        have hn : n0 ≤ n1 := by omega
        have hk : k0 ≤ k1 := by omega
        exact fk_cut' (w_L_law_J676 X hB Y x0 x1 x2 x3 x4 n1 k1 hn hk m0 ih (mo_L_law_L23 G.2.2 x0 x1 x2 x3 N) hf) [0, 1, 2, 3, 4] rfl
      rw [if_neg hs13] at hf
      by_cases hs14 : (z2 &&& 63) = 13
      · rw [if_pos hs14] at hf
        refine fk_tableIn X 701 dL_law_40 (by rw [hs14]; decide) (by rw [hs14]; decide) (by rw [hs14]; rfl) rfl ?_
        have hn : n0 ≤ n1 := by omega
        have hk : k0 ≤ k1 := by omega
        exact fk_cut' (w_L_law_J701 X hB Y x0 x1 x2 x3 x4 n1 k1 hn hk m0 ih (mo_L_law_L23 G.2.2 x0 x1 x2 x3 N) hf) [0, 1, 2, 3, 4] rfl
      rw [if_neg hs14] at hf
      by_cases hs15 : (z2 &&& 63) = 14
      · rw [if_pos hs15] at hf
        refine fk_tableIn X 726 dL_law_40 (by rw [hs15]; decide) (by rw [hs15]; decide) (by rw [hs15]; rfl) rfl ?_
        have hn : n0 ≤ n1 := by omega
        have hk : k0 ≤ k1 := by omega
        exact fk_cut' (w_L_law_J726 X hB Y x0 x1 x2 x3 x4 n1 k1 hn hk m0 ih (mo_L_law_L23 G.2.2 x0 x1 x2 x3 N) hf) [0, 1, 2, 3, 4] rfl
      rw [if_neg hs15] at hf
      by_cases hs16 : (z2 &&& 63) = 15
      · rw [if_pos hs16] at hf
        refine fk_tableIn X 751 dL_law_40 (by rw [hs16]; decide) (by rw [hs16]; decide) (by rw [hs16]; rfl) rfl ?_
        have hn : n0 ≤ n1 := by omega
        have hk : k0 ≤ k1 := by omega
        exact fk_cut' (w_L_law_J751 X hB Y x0 x1 x2 x3 x4 n1 k1 hn hk m0 ih (mo_L_law_L23 G.2.2 x0 x1 x2 x3 N) hf) [0, 1, 2, 3, 4] rfl
      rw [if_neg hs16] at hf
      by_cases hs17 : (z2 &&& 63) = 16
      · rw [if_pos hs17] at hf
        refine fk_tableIn X 788 dL_law_40 (by rw [hs17]; decide) (by rw [hs17]; decide) (by rw [hs17]; rfl) rfl ?_
        have hn : n0 ≤ n1 := by omega
        have hk : k0 ≤ k1 := by omega
        exact fk_cut' (w_L_law_J788 X hB Y x0 x1 x2 x3 x4 n1 k1 hn hk m0 ih (mo_L_law_L23 G.2.2 x0 x1 x2 x3 N) hf) [0, 1, 2, 3, 4] rfl
      rw [if_neg hs17] at hf
      by_cases hs18 : (z2 &&& 63) = 17
      · rw [if_pos hs18] at hf
        refine fk_tableIn X 813 dL_law_40 (by rw [hs18]; decide) (by rw [hs18]; decide) (by rw [hs18]; rfl) rfl ?_
        have hn : n0 ≤ n1 := by omega
        have hk : k0 ≤ k1 := by omega
        exact fk_cut' (w_L_law_J813 X hB Y x0 x1 x2 x3 x4 n1 k1 hn hk m0 ih (mo_L_law_L23 G.2.2 x0 x1 x2 x3 N) hf) [0, 1, 2, 3, 4] rfl
      rw [if_neg hs18] at hf
      by_cases hs19 : (z2 &&& 63) = 18
      · rw [if_pos hs19] at hf
        refine fk_tableIn X 850 dL_law_40 (by rw [hs19]; decide) (by rw [hs19]; decide) (by rw [hs19]; rfl) rfl ?_
        have hn : n0 ≤ n1 := by omega
        have hk : k0 ≤ k1 := by omega
        exact fk_cut' (w_L_law_J850 X hB Y x0 x1 x2 x3 x4 n1 k1 hn hk m0 ih (mo_L_law_L23 G.2.2 x0 x1 x2 x3 N) hf) [0, 1, 2, 3, 4] rfl
      rw [if_neg hs19] at hf
      by_cases hs20 : (z2 &&& 63) = 19
      · rw [if_pos hs20] at hf
        refine fk_tableIn X 875 dL_law_40 (by rw [hs20]; decide) (by rw [hs20]; decide) (by rw [hs20]; rfl) rfl ?_
        have hn : n0 ≤ n1 := by omega
        have hk : k0 ≤ k1 := by omega
        exact fk_cut' (w_L_law_J875 X hB Y x0 x1 x2 x3 x4 n1 k1 hn hk m0 ih (mo_L_law_L23 G.2.2 x0 x1 x2 x3 N) hf) [0, 1, 2, 3, 4] rfl
      rw [if_neg hs20] at hf
      by_cases hs21 : (z2 &&& 63) = 20
      · rw [if_pos hs21] at hf
        refine fk_tableIn X 900 dL_law_40 (by rw [hs21]; decide) (by rw [hs21]; decide) (by rw [hs21]; rfl) rfl ?_
        have hn : n0 ≤ n1 := by omega
        have hk : k0 ≤ k1 := by omega
        exact fk_cut' (w_L_law_J900 X hB Y x0 x1 x2 x3 x4 n1 k1 hn hk m0 ih (mo_L_law_L23 G.2.2 x0 x1 x2 x3 N) hf) [0, 1, 2, 3, 4] rfl
      rw [if_neg hs21] at hf
      by_cases hs22 : (z2 &&& 63) = 21
      · rw [if_pos hs22] at hf
        refine fk_tableIn X 925 dL_law_40 (by rw [hs22]; decide) (by rw [hs22]; decide) (by rw [hs22]; rfl) rfl ?_
        have hn : n0 ≤ n1 := by omega
        have hk : k0 ≤ k1 := by omega
        exact fk_cut' (w_L_law_J925 X hB Y x0 x1 x2 x3 x4 n1 k1 hn hk m0 ih (mo_L_law_L23 G.2.2 x0 x1 x2 x3 N) hf) [0, 1, 2, 3, 4] rfl
      rw [if_neg hs22] at hf
      by_cases hs23 : (z2 &&& 63) = 22
      · rw [if_pos hs23] at hf
        refine fk_tableIn X 962 dL_law_40 (by rw [hs23]; decide) (by rw [hs23]; decide) (by rw [hs23]; rfl) rfl ?_
        have hn : n0 ≤ n1 := by omega
        have hk : k0 ≤ k1 := by omega
        exact fk_cut' (w_L_law_J962 X hB Y x0 x1 x2 x3 x4 n1 k1 hn hk m0 ih (mo_L_law_L23 G.2.2 x0 x1 x2 x3 N) hf) [0, 1, 2, 3, 4] rfl
      rw [if_neg hs23] at hf
      by_cases hs24 : (z2 &&& 63) = 23
      · rw [if_pos hs24] at hf
        refine fk_tableIn X 999 dL_law_40 (by rw [hs24]; decide) (by rw [hs24]; decide) (by rw [hs24]; rfl) rfl ?_
        have hn : n0 ≤ n1 := by omega
        have hk : k0 ≤ k1 := by omega
        exact fk_cut' (w_L_law_J999 X hB Y x0 x1 x2 x3 x4 n1 k1 hn hk m0 ih (mo_L_law_L23 G.2.2 x0 x1 x2 x3 N) hf) [0, 1, 2, 3, 4] rfl
      rw [if_neg hs24] at hf
      by_cases hs25 : (z2 &&& 63) = 24
      · rw [if_pos hs25] at hf
        refine fk_tableIn X 1024 dL_law_40 (by rw [hs25]; decide) (by rw [hs25]; decide) (by rw [hs25]; rfl) rfl ?_
        have hn : n0 ≤ n1 := by omega
        have hk : k0 ≤ k1 := by omega
        exact fk_cut' (w_L_law_J1024 X hB Y x0 x1 x2 x3 x4 n1 k1 hn hk m0 ih (mo_L_law_L23 G.2.2 x0 x1 x2 x3 N) hf) [0, 1, 2, 3, 4] rfl
      rw [if_neg hs25] at hf
      by_cases hs26 : (z2 &&& 63) = 25
      · rw [if_pos hs26] at hf
        refine fk_tableIn X 1061 dL_law_40 (by rw [hs26]; decide) (by rw [hs26]; decide) (by rw [hs26]; rfl) rfl ?_
        have hn : n0 ≤ n1 := by omega
        have hk : k0 ≤ k1 := by omega
        exact fk_cut' (w_L_law_J1061 X hB Y x0 x1 x2 x3 x4 n1 k1 hn hk m0 ih (mo_L_law_L23 G.2.2 x0 x1 x2 x3 N) hf) [0, 1, 2, 3, 4] rfl
      rw [if_neg hs26] at hf
      by_cases hs27 : (z2 &&& 63) = 26
      · rw [if_pos hs27] at hf
        refine fk_tableIn X 1074 dL_law_40 (by rw [hs27]; decide) (by rw [hs27]; decide) (by rw [hs27]; rfl) rfl ?_
        have hn : n0 ≤ n1 := by omega
        have hk : k0 ≤ k1 := by omega
        exact fk_cut' (w_L_law_J1074 X hB Y x0 x1 x2 x3 x4 n1 k1 hn hk m0 ih (mo_L_law_L23 G.2.2 x0 x1 x2 x3 N) hf) [0, 1, 2, 3, 4] rfl
      rw [if_neg hs27] at hf
      by_cases hs28 : (z2 &&& 63) = 27
      · rw [if_pos hs28] at hf
        refine fk_tableIn X 1099 dL_law_40 (by rw [hs28]; decide) (by rw [hs28]; decide) (by rw [hs28]; rfl) rfl ?_
        have hn : n0 ≤ n1 := by omega
        have hk : k0 ≤ k1 := by omega
        exact fk_cut' (w_L_law_J1099 X hB Y x0 x1 x2 x3 x4 n1 k1 hn hk m0 ih (mo_L_law_L23 G.2.2 x0 x1 x2 x3 N) hf) [0, 1, 2, 3, 4] rfl
      rw [if_neg hs28] at hf
      by_cases hs29 : (z2 &&& 63) = 28
      · rw [if_pos hs29] at hf
        refine fk_tableIn X 1112 dL_law_40 (by rw [hs29]; decide) (by rw [hs29]; decide) (by rw [hs29]; rfl) rfl ?_
        have hn : n0 ≤ n1 := by omega
        have hk : k0 ≤ k1 := by omega
        exact fk_cut' (w_L_law_J1112 X hB Y x0 x1 x2 x3 x4 n1 k1 hn hk m0 ih (mo_L_law_L23 G.2.2 x0 x1 x2 x3 N) hf) [0, 1, 2, 3, 4] rfl
      rw [if_neg hs29] at hf
      by_cases hs30 : (z2 &&& 63) = 29
      · rw [if_pos hs30] at hf
        refine fk_tableIn X 1125 dL_law_40 (by rw [hs30]; decide) (by rw [hs30]; decide) (by rw [hs30]; rfl) rfl ?_
        have hn : n0 ≤ n1 := by omega
        have hk : k0 ≤ k1 := by omega
        exact fk_cut' (w_L_law_J1125 X hB Y x0 x1 x2 x3 x4 n1 k1 hn hk m0 ih (mo_L_law_L23 G.2.2 x0 x1 x2 x3 N) hf) [0, 1, 2, 3, 4] rfl
      rw [if_neg hs30] at hf
      by_cases hs31 : (z2 &&& 63) = 30
      · rw [if_pos hs31] at hf
        refine fk_tableIn X 1138 dL_law_40 (by rw [hs31]; decide) (by rw [hs31]; decide) (by rw [hs31]; rfl) rfl ?_
        have hn : n0 ≤ n1 := by omega
        have hk : k0 ≤ k1 := by omega
        exact fk_cut' (w_L_law_J1138 X hB Y x0 x1 x2 x3 x4 n1 k1 hn hk m0 ih (mo_L_law_L23 G.2.2 x0 x1 x2 x3 N) hf) [0, 1, 2, 3, 4] rfl
      rw [if_neg hs31] at hf
      by_cases hs32 : (z2 &&& 63) = 31
      · rw [if_pos hs32] at hf
        refine fk_tableIn X 1151 dL_law_40 (by rw [hs32]; decide) (by rw [hs32]; decide) (by rw [hs32]; rfl) rfl ?_
        have hn : n0 ≤ n1 := by omega
        have hk : k0 ≤ k1 := by omega
        exact fk_cut' (w_L_law_J1151 X hB Y x0 x1 x2 x3 x4 n1 k1 hn hk m0 ih (mo_L_law_L23 G.2.2 x0 x1 x2 x3 N) hf) [0, 1, 2, 3, 4] rfl
      rw [if_neg hs32] at hf
      by_cases hs33 : (z2 &&& 63) = 32
      · rw [if_pos hs33] at hf
        refine fk_tableIn X 1164 dL_law_40 (by rw [hs33]; decide) (by rw [hs33]; decide) (by rw [hs33]; rfl) rfl ?_
        have hn : n0 ≤ n1 := by omega
        have hk : k0 ≤ k1 := by omega
        exact fk_cut' (w_L_law_J1164 X hB Y x0 x1 x2 x3 x4 n1 k1 hn hk m0 ih (mo_L_law_L23 G.2.2 x0 x1 x2 x3 N) hf) [0, 1, 2, 3, 4] rfl
      rw [if_neg hs33] at hf
      by_cases hs34 : (z2 &&& 63) = 33
      · rw [if_pos hs34] at hf
        refine fk_tableIn X 1189 dL_law_40 (by rw [hs34]; decide) (by rw [hs34]; decide) (by rw [hs34]; rfl) rfl ?_
        have hn : n0 ≤ n1 := by omega
        have hk : k0 ≤ k1 := by omega
        exact fk_cut' (w_L_law_J1189 X hB Y x0 x1 x2 x3 x4 n1 k1 hn hk m0 ih (mo_L_law_L23 G.2.2 x0 x1 x2 x3 N) hf) [0, 1, 2, 3, 4] rfl
      rw [if_neg hs34] at hf
      by_cases hs35 : (z2 &&& 63) = 34
      · rw [if_pos hs35] at hf
        refine fk_tableIn X 1226 dL_law_40 (by rw [hs35]; decide) (by rw [hs35]; decide) (by rw [hs35]; rfl) rfl ?_
        have hn : n0 ≤ n1 := by omega
        have hk : k0 ≤ k1 := by omega
        exact fk_cut' (w_L_law_J1226 X hB Y x0 x1 x2 x3 x4 n1 k1 hn hk m0 ih (mo_L_law_L23 G.2.2 x0 x1 x2 x3 N) hf) [0, 1, 2, 3, 4] rfl
      rw [if_neg hs35] at hf
      by_cases hs36 : (z2 &&& 63) = 35
      · rw [if_pos hs36] at hf
        refine fk_tableIn X 1251 dL_law_40 (by rw [hs36]; decide) (by rw [hs36]; decide) (by rw [hs36]; rfl) rfl ?_
        have hn : n0 ≤ n1 := by omega
        have hk : k0 ≤ k1 := by omega
        exact fk_cut' (w_L_law_J1251 X hB Y x0 x1 x2 x3 x4 n1 k1 hn hk m0 ih (mo_L_law_L23 G.2.2 x0 x1 x2 x3 N) hf) [0, 1, 2, 3, 4] rfl
      rw [if_neg hs36] at hf
      by_cases hs37 : (z2 &&& 63) = 36
      · rw [if_pos hs37] at hf
        refine fk_tableIn X 1264 dL_law_40 (by rw [hs37]; decide) (by rw [hs37]; decide) (by rw [hs37]; rfl) rfl ?_
        have hn : n0 ≤ n1 := by omega
        have hk : k0 ≤ k1 := by omega
        exact fk_cut' (w_L_law_J1264 X hB Y x0 x1 x2 x3 x4 n1 k1 hn hk m0 ih (mo_L_law_L23 G.2.2 x0 x1 x2 x3 N) hf) [0, 1, 2, 3, 4] rfl
      rw [if_neg hs37] at hf
      by_cases hs38 : (z2 &&& 63) = 37
      · rw [if_pos hs38] at hf
        refine fk_tableIn X 1277 dL_law_40 (by rw [hs38]; decide) (by rw [hs38]; decide) (by rw [hs38]; rfl) rfl ?_
        have hn : n0 ≤ n1 := by omega
        have hk : k0 ≤ k1 := by omega
        exact fk_cut' (w_L_law_J1277 X hB Y x0 x1 x2 x3 x4 n1 k1 hn hk m0 ih (mo_L_law_L23 G.2.2 x0 x1 x2 x3 N) hf) [0, 1, 2, 3, 4] rfl
      rw [if_neg hs38] at hf
      by_cases hs39 : (z2 &&& 63) = 38
      · rw [if_pos hs39] at hf
        refine fk_tableIn X 1290 dL_law_40 (by rw [hs39]; decide) (by rw [hs39]; decide) (by rw [hs39]; rfl) rfl ?_
        have hn : n0 ≤ n1 := by omega
        have hk : k0 ≤ k1 := by omega
        exact fk_cut' (w_L_law_J1290 X hB Y x0 x1 x2 x3 x4 n1 k1 hn hk m0 ih (mo_L_law_L23 G.2.2 x0 x1 x2 x3 N) hf) [0, 1, 2, 3, 4] rfl
      rw [if_neg hs39] at hf
      by_cases hs40 : (z2 &&& 63) = 39
      · rw [if_pos hs40] at hf
        refine fk_tableIn X 1315 dL_law_40 (by rw [hs40]; decide) (by rw [hs40]; decide) (by rw [hs40]; rfl) rfl ?_
        have hn : n0 ≤ n1 := by omega
        have hk : k0 ≤ k1 := by omega
        exact fk_cut' (w_L_law_J1315 X hB Y x0 x1 x2 x3 x4 n1 k1 hn hk m0 ih (mo_L_law_L23 G.2.2 x0 x1 x2 x3 N) hf) [0, 1, 2, 3, 4] rfl
      rw [if_neg hs40] at hf
      by_cases hs41 : (z2 &&& 63) = 40
      · rw [if_pos hs41] at hf
        refine fk_tableIn X 1352 dL_law_40 (by rw [hs41]; decide) (by rw [hs41]; decide) (by rw [hs41]; rfl) rfl ?_
        have hn : n0 ≤ n1 := by omega
        have hk : k0 ≤ k1 := by omega
        exact fk_cut' (w_L_law_J1352 X hB Y x0 x1 x2 x3 x4 n1 k1 hn hk m0 ih (mo_L_law_L23 G.2.2 x0 x1 x2 x3 N) hf) [0, 1, 2, 3, 4] rfl
      rw [if_neg hs41] at hf
      by_cases hs42 : (z2 &&& 63) = 41
      · rw [if_pos hs42] at hf
        refine fk_tableIn X 1461 dL_law_40 (by rw [hs42]; decide) (by rw [hs42]; decide) (by rw [hs42]; rfl) rfl ?_
        have hn : n0 ≤ n1 := by omega
        have hk : k0 ≤ k1 := by omega
        exact fk_cut' (w_L_law_J1461 X hB Y x0 x1 x2 x3 x4 n1 k1 hn hk m0 ih (mo_L_law_L23 G.2.2 x0 x1 x2 x3 N) hf) [0, 1, 2, 3, 4] rfl
      rw [if_neg hs42] at hf
      by_cases hs43 : (z2 &&& 63) = 42
      · rw [if_pos hs43] at hf
        refine fk_tableIn X 1486 dL_law_40 (by rw [hs43]; decide) (by rw [hs43]; decide) (by rw [hs43]; rfl) rfl ?_
        have hn : n0 ≤ n1 := by omega
        have hk : k0 ≤ k1 := by omega
        exact fk_cut' (w_L_law_J1486 X hB Y x0 x1 x2 x3 x4 n1 k1 hn hk m0 ih (mo_L_law_L23 G.2.2 x0 x1 x2 x3 N) hf) [0, 1, 2, 3, 4] rfl
      rw [if_neg hs43] at hf
      by_cases hs44 : (z2 &&& 63) = 43
      · rw [if_pos hs44] at hf
        refine fk_tableIn X 1511 dL_law_40 (by rw [hs44]; decide) (by rw [hs44]; decide) (by rw [hs44]; rfl) rfl ?_
        have hn : n0 ≤ n1 := by omega
        have hk : k0 ≤ k1 := by omega
        exact fk_cut' (w_L_law_J1511 X hB Y x0 x1 x2 x3 x4 n1 k1 hn hk m0 ih (mo_L_law_L23 G.2.2 x0 x1 x2 x3 N) hf) [0, 1, 2, 3, 4] rfl
      rw [if_neg hs44] at hf
      by_cases hs45 : (z2 &&& 63) = 44
      · rw [if_pos hs45] at hf
        refine fk_tableIn X 1577 dL_law_40 (by rw [hs45]; decide) (by rw [hs45]; decide) (by rw [hs45]; rfl) rfl ?_
        have hn : n0 ≤ n1 := by omega
        have hk : k0 ≤ k1 := by omega
        exact fk_cut' (w_L_law_J1577 X hB Y x0 x1 x2 x3 x4 n1 k1 hn hk m0 ih (mo_L_law_L23 G.2.2 x0 x1 x2 x3 N) hf) [0, 1, 2, 3, 4] rfl
      rw [if_neg hs45] at hf
      by_cases hs46 : (z2 &&& 63) = 45
      · rw [if_pos hs46] at hf
        refine fk_tableIn X 1626 dL_law_40 (by rw [hs46]; decide) (by rw [hs46]; decide) (by rw [hs46]; rfl) rfl ?_
        have hn : n0 ≤ n1 := by omega
        have hk : k0 ≤ k1 := by omega
        exact fk_cut' (w_L_law_J1626 X hB Y x0 x1 x2 x3 x4 n1 k1 hn hk m0 ih (mo_L_law_L23 G.2.2 x0 x1 x2 x3 N) hf) [0, 1, 2, 3, 4] rfl
      rw [if_neg hs46] at hf
      by_cases hs47 : (z2 &&& 63) = 46
      · rw [if_pos hs47] at hf
        refine fk_tableIn X 1663 dL_law_40 (by rw [hs47]; decide) (by rw [hs47]; decide) (by rw [hs47]; rfl) rfl ?_
        have hn : n0 ≤ n1 := by omega
        have hk : k0 ≤ k1 := by omega
        exact fk_cut' (w_L_law_J1663 X hB Y x0 x1 x2 x3 x4 n1 k1 hn hk m0 ih (mo_L_law_L23 G.2.2 x0 x1 x2 x3 N) hf) [0, 1, 2, 3, 4] rfl
      rw [if_neg hs47] at hf
      by_cases hs48 : (z2 &&& 63) = 47
      · rw [if_pos hs48] at hf
        refine fk_tableIn X 1741 dL_law_40 (by rw [hs48]; decide) (by rw [hs48]; decide) (by rw [hs48]; rfl) rfl ?_
        have hn : n0 ≤ n1 := by omega
        have hk : k0 ≤ k1 := by omega
        exact fk_cut' (w_L_law_J1741 X hB Y x0 x1 x2 x3 x4 n1 k1 hn hk m0 ih (mo_L_law_L23 G.2.2 x0 x1 x2 x3 N) hf) [0, 1, 2, 3, 4] rfl
      rw [if_neg hs48] at hf
      by_cases hs49 : (z2 &&& 63) = 48
      · rw [if_pos hs49] at hf
        refine fk_tableIn X 1807 dL_law_40 (by rw [hs49]; decide) (by rw [hs49]; decide) (by rw [hs49]; rfl) rfl ?_
        have hn : n0 ≤ n1 := by omega
        have hk : k0 ≤ k1 := by omega
        exact fk_cut' (w_L_law_J1807 X hB Y x0 x1 x2 x3 x4 n1 k1 hn hk m0 ih (mo_L_law_L23 G.2.2 x0 x1 x2 x3 N) hf) [0, 1, 2, 3, 4] rfl
      rw [if_neg hs49] at hf
      by_cases hs50 : (z2 &&& 63) = 49
      · rw [if_pos hs50] at hf
        refine fk_tableIn X 1856 dL_law_40 (by rw [hs50]; decide) (by rw [hs50]; decide) (by rw [hs50]; rfl) rfl ?_
        have hn : n0 ≤ n1 := by omega
        have hk : k0 ≤ k1 := by omega
        exact fk_cut' (w_L_law_J1856 X hB Y x0 x1 x2 x3 x4 n1 k1 hn hk m0 ih (mo_L_law_L23 G.2.2 x0 x1 x2 x3 N) hf) [0, 1, 2, 3, 4] rfl
      rw [if_neg hs50] at hf
      by_cases hs51 : (z2 &&& 63) = 50
      · rw [if_pos hs51] at hf
        refine fk_tableIn X 1869 dL_law_40 (by rw [hs51]; decide) (by rw [hs51]; decide) (by rw [hs51]; rfl) rfl ?_
        have hn : n0 ≤ n1 := by omega
        have hk : k0 ≤ k1 := by omega
        exact fk_cut' (w_L_law_J1869 X hB Y x0 x1 x2 x3 x4 n1 k1 hn hk m0 ih (mo_L_law_L23 G.2.2 x0 x1 x2 x3 N) hf) [0, 1, 2, 3, 4] rfl
      rw [if_neg hs51] at hf
      by_cases hs52 : (z2 &&& 63) = 51
      · rw [if_pos hs52] at hf
        refine fk_tableIn X 1894 dL_law_40 (by rw [hs52]; decide) (by rw [hs52]; decide) (by rw [hs52]; rfl) rfl ?_
        have hn : n0 ≤ n1 := by omega
        have hk : k0 ≤ k1 := by omega
        exact fk_cut' (w_L_law_J1894 X hB Y x0 x1 x2 x3 x4 n1 k1 hn hk m0 ih (mo_L_law_L23 G.2.2 x0 x1 x2 x3 N) hf) [0, 1, 2, 3, 4] rfl
      rw [if_neg hs52] at hf
      by_cases hs53 : (z2 &&& 63) = 52
      · rw [if_pos hs53] at hf
        refine fk_tableIn X 1931 dL_law_40 (by rw [hs53]; decide) (by rw [hs53]; decide) (by rw [hs53]; rfl) rfl ?_
        have hn : n0 ≤ n1 := by omega
        have hk : k0 ≤ k1 := by omega
        exact fk_cut' (w_L_law_J1931 X hB Y x0 x1 x2 x3 x4 n1 k1 hn hk m0 ih (mo_L_law_L23 G.2.2 x0 x1 x2 x3 N) hf) [0, 1, 2, 3, 4] rfl
      rw [if_neg hs53] at hf
      by_cases hs54 : (z2 &&& 63) = 53
      · rw [if_pos hs54] at hf
        refine fk_tableIn X 1980 dL_law_40 (by rw [hs54]; decide) (by rw [hs54]; decide) (by rw [hs54]; rfl) rfl ?_
        have hn : n0 ≤ n1 := by omega
        have hk : k0 ≤ k1 := by omega
        exact fk_cut' (w_L_law_J1980 X hB Y x0 x1 x2 x3 x4 n1 k1 hn hk m0 ih (mo_L_law_L23 G.2.2 x0 x1 x2 x3 N) hf) [0, 1, 2, 3, 4] rfl
      rw [if_neg hs54] at hf
      by_cases hs55 : (z2 &&& 63) = 54
      · rw [if_pos hs55] at hf
        refine fk_tableIn X 1993 dL_law_40 (by rw [hs55]; decide) (by rw [hs55]; decide) (by rw [hs55]; rfl) rfl ?_
        have hn : n0 ≤ n1 := by omega
        have hk : k0 ≤ k1 := by omega
        exact fk_cut' (w_L_law_J1993 X hB Y x0 x1 x2 x3 x4 n1 k1 hn hk m0 ih (mo_L_law_L23 G.2.2 x0 x1 x2 x3 N) hf) [0, 1, 2, 3, 4] rfl
      rw [if_neg hs55] at hf
      by_cases hs56 : (z2 &&& 63) = 55
      · rw [if_pos hs56] at hf
        refine fk_tableIn X 2006 dL_law_40 (by rw [hs56]; decide) (by rw [hs56]; decide) (by rw [hs56]; rfl) rfl ?_
        have hn : n0 ≤ n1 := by omega
        have hk : k0 ≤ k1 := by omega
        exact fk_cut' (w_L_law_J2006 X hB Y x0 x1 x2 x3 x4 n1 k1 hn hk m0 ih (mo_L_law_L23 G.2.2 x0 x1 x2 x3 N) hf) [0, 1, 2, 3, 4] rfl
      rw [if_neg hs56] at hf
      by_cases hs57 : (z2 &&& 63) = 56
      · rw [if_pos hs57] at hf
        refine fk_tableIn X 2031 dL_law_40 (by rw [hs57]; decide) (by rw [hs57]; decide) (by rw [hs57]; rfl) rfl ?_
        have hn : n0 ≤ n1 := by omega
        have hk : k0 ≤ k1 := by omega
        exact fk_cut' (w_L_law_J2031 X hB Y x0 x1 x2 x3 x4 n1 k1 hn hk m0 ih (mo_L_law_L23 G.2.2 x0 x1 x2 x3 N) hf) [0, 1, 2, 3, 4] rfl
      rw [if_neg hs57] at hf
      by_cases hs58 : (z2 &&& 63) = 57
      · rw [if_pos hs58] at hf
        refine fk_tableIn X 2087 dL_law_40 (by rw [hs58]; decide) (by rw [hs58]; decide) (by rw [hs58]; rfl) rfl ?_
        have hn : n0 ≤ n1 := by omega
        have hk : k0 ≤ k1 := by omega
        exact fk_cut' (w_L_law_J2087 X hB Y x0 x1 x2 x3 x4 n1 k1 hn hk m0 ih (mo_L_law_L23 G.2.2 x0 x1 x2 x3 N) hf) [0, 1, 2, 3, 4] rfl
      rw [if_neg hs58] at hf
      by_cases hs59 : (z2 &&& 63) = 58
      · rw [if_pos hs59] at hf
        refine fk_tableIn X 2112 dL_law_40 (by rw [hs59]; decide) (by rw [hs59]; decide) (by rw [hs59]; rfl) rfl ?_
        have hn : n0 ≤ n1 := by omega
        have hk : k0 ≤ k1 := by omega
        exact fk_cut' (w_L_law_J2112 X hB Y x0 x1 x2 x3 x4 n1 k1 hn hk m0 ih (mo_L_law_L23 G.2.2 x0 x1 x2 x3 N) hf) [0, 1, 2, 3, 4] rfl
      rw [if_neg hs59] at hf
      refine fk_tableOut X 2125 dL_law_40 (by have e0 := lv_neT hs1 (show (0 : Int32).toInt = 0 from by decide); have e1 := lv_neT hs2 (show (1 : Int32).toInt = 1 from by decide); have e2 := lv_neT hs3 (show (2 : Int32).toInt = 2 from by decide); have e3 := lv_neT hs4 (show (3 : Int32).toInt = 3 from by decide); have e4 := lv_neT hs5 (show (4 : Int32).toInt = 4 from by decide); have e5 := lv_neT hs6 (show (5 : Int32).toInt = 5 from by decide); have e6 := lv_neT hs7 (show (6 : Int32).toInt = 6 from by decide); have e7 := lv_neT hs8 (show (7 : Int32).toInt = 7 from by decide); have e8 := lv_neT hs9 (show (8 : Int32).toInt = 8 from by decide); have e9 := lv_neT hs10 (show (9 : Int32).toInt = 9 from by decide); have e10 := lv_neT hs11 (show (10 : Int32).toInt = 10 from by decide); have e11 := lv_neT hs12 (show (11 : Int32).toInt = 11 from by decide); have e12 := lv_neT hs13 (show (12 : Int32).toInt = 12 from by decide); have e13 := lv_neT hs14 (show (13 : Int32).toInt = 13 from by decide); have e14 := lv_neT hs15 (show (14 : Int32).toInt = 14 from by decide); have e15 := lv_neT hs16 (show (15 : Int32).toInt = 15 from by decide); have e16 := lv_neT hs17 (show (16 : Int32).toInt = 16 from by decide); have e17 := lv_neT hs18 (show (17 : Int32).toInt = 17 from by decide); have e18 := lv_neT hs19 (show (18 : Int32).toInt = 18 from by decide); have e19 := lv_neT hs20 (show (19 : Int32).toInt = 19 from by decide); have e20 := lv_neT hs21 (show (20 : Int32).toInt = 20 from by decide); have e21 := lv_neT hs22 (show (21 : Int32).toInt = 21 from by decide); have e22 := lv_neT hs23 (show (22 : Int32).toInt = 22 from by decide); have e23 := lv_neT hs24 (show (23 : Int32).toInt = 23 from by decide); have e24 := lv_neT hs25 (show (24 : Int32).toInt = 24 from by decide); have e25 := lv_neT hs26 (show (25 : Int32).toInt = 25 from by decide); have e26 := lv_neT hs27 (show (26 : Int32).toInt = 26 from by decide); have e27 := lv_neT hs28 (show (27 : Int32).toInt = 27 from by decide); have e28 := lv_neT hs29 (show (28 : Int32).toInt = 28 from by decide); have e29 := lv_neT hs30 (show (29 : Int32).toInt = 29 from by decide); have e30 := lv_neT hs31 (show (30 : Int32).toInt = 30 from by decide); have e31 := lv_neT hs32 (show (31 : Int32).toInt = 31 from by decide); have e32 := lv_neT hs33 (show (32 : Int32).toInt = 32 from by decide); have e33 := lv_neT hs34 (show (33 : Int32).toInt = 33 from by decide); have e34 := lv_neT hs35 (show (34 : Int32).toInt = 34 from by decide); have e35 := lv_neT hs36 (show (35 : Int32).toInt = 35 from by decide); have e36 := lv_neT hs37 (show (36 : Int32).toInt = 36 from by decide); have e37 := lv_neT hs38 (show (37 : Int32).toInt = 37 from by decide); have e38 := lv_neT hs39 (show (38 : Int32).toInt = 38 from by decide); have e39 := lv_neT hs40 (show (39 : Int32).toInt = 39 from by decide); have e40 := lv_neT hs41 (show (40 : Int32).toInt = 40 from by decide); have e41 := lv_neT hs42 (show (41 : Int32).toInt = 41 from by decide); have e42 := lv_neT hs43 (show (42 : Int32).toInt = 42 from by decide); have e43 := lv_neT hs44 (show (43 : Int32).toInt = 43 from by decide); have e44 := lv_neT hs45 (show (44 : Int32).toInt = 44 from by decide); have e45 := lv_neT hs46 (show (45 : Int32).toInt = 45 from by decide); have e46 := lv_neT hs47 (show (46 : Int32).toInt = 46 from by decide); have e47 := lv_neT hs48 (show (47 : Int32).toInt = 47 from by decide); have e48 := lv_neT hs49 (show (48 : Int32).toInt = 48 from by decide); have e49 := lv_neT hs50 (show (49 : Int32).toInt = 49 from by decide); have e50 := lv_neT hs51 (show (50 : Int32).toInt = 50 from by decide); have e51 := lv_neT hs52 (show (51 : Int32).toInt = 51 from by decide); have e52 := lv_neT hs53 (show (52 : Int32).toInt = 52 from by decide); have e53 := lv_neT hs54 (show (53 : Int32).toInt = 53 from by decide); have e54 := lv_neT hs55 (show (54 : Int32).toInt = 54 from by decide); have e55 := lv_neT hs56 (show (55 : Int32).toInt = 55 from by decide); have e56 := lv_neT hs57 (show (56 : Int32).toInt = 56 from by decide); have e57 := lv_neT hs58 (show (57 : Int32).toInt = 57 from by decide); have e58 := lv_neT hs59 (show (58 : Int32).toInt = 58 from by decide); omega) rfl ?_
      have hn : n0 ≤ n1 := by omega
      have hk : k0 ≤ k1 := by omega
      exact fk_cut' (w_L_law_J2125 X hB Y x0 x1 x2 x3 x4 n1 k1 hn hk m0 ih (mo_L_law_L23 G.2.2 x0 x1 x2 x3 N) hf) [0, 1, 2, 3, 4] rfl
