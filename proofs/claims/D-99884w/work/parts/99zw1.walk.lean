set_option maxRecDepth 100000
set_option maxHeartbeats 4000000 in
theorem w_L_law_J726 {E : fk_E} {l : Launch} {G : fk_G} {b0 n0 k0 nF kF : Nat} {r : Int32} {mF : fk_M} (X : fk_X E l G b0 "FigureKneeLaw" "law" cL_law 7 8192 100000 1200128 5501098) (hB : nF - n0 ≤ 1200128 ∧ kF - k0 ≤ 5501098) (Y : fk_YL E r) (x0 : Option Nat) (x1 : Option Nat) (x2 : Option Nat) (x3 : Option Nat) (x4 : Int32)  (n1 k1 : Nat) (hn1 : n0 ≤ n1) (hk1 : k0 ≤ k1) (m0 : fk_M) {R23 : Int32 → Nat → Nat → fk_M → Option (Int32 × Nat × Nat × fk_M)} (hR23 : ∀ (v4 : Int32) (n9 k9 : Nat) (m9 : fk_M), n0 ≤ n9 → k0 ≤ k9 → R23 v4 n9 k9 m9 = some (r, nF, kF, mF) → fk_W E 7 n9 m9 (n9 - n0) (k9 - k0) 23 [(0, tR x0), (1, tR x1), (2, tR x2), (3, tR x3), (4, tI v4)] []) (hM23 : ∀ (v4 : Int32) (n9 k9 : Nat) (m9 : fk_M), Mo4 n9 k9 (R23 v4 n9 k9 m9)) (hf : f_L_law_J726 G.2.2 R23 x0 x1 x2 x3 x4 n1 k1 m0 = some (r, nF, kF, mF)) : fk_W E 7 n1 m0 (n1 - n0) (k1 - k0) 726 [(0, tR x0), (1, tR x1), (2, tR x2), (3, tR x3), (4, tI x4)] [] := by
  unfold f_L_law_J726 at hf
  refine fk_aload_n X 1 dL_law_726 rfl ?_
  refine fk_aload_n X 0 dL_law_727 rfl ?_
  refine fk_iload X 4 dL_law_728 rfl ?_
  refine fk_iconst (v := 1) X dL_law_730 rfl ?_
  refine fk_iadd X dL_law_731 ?_
  refine fk_iaload' X dL_law_732 hf (fun z1 hf => ?_)
  obtain ⟨u2, hq, hf⟩ := bI hf
  obtain ⟨z3, m4, hv, hf⟩ := bn2_eq hf
  have hm : n1 ≤ nF ∧ k1 ≤ kF := Mo4.use hf (Mo4.bind (fun z5 => Mo4.bind (fun u6 => Mo4.bn2 (fun z7 m8 => Mo4.ite ((mo_L_law_J2125 G.2.2 R23 x0 x1 x2 x3 x4 n1 k1 m8 hM23)) (Mo4.ok (by omega) (by omega))))))
  refine fk_callV0I (ci := 0) (rest := []) X hq rfl (c_X1_turnsAbout hv) n_X1_turnsAbout q1126 q1127 q1128 q122 q1129 rfl dL_law_733 rfl rfl rfl rfl rfl (by omega) (by omega) ?_
  refine fk_aload_n X 2 dL_law_736 rfl ?_
  refine fk_aload_n X 0 dL_law_737 rfl ?_
  refine fk_iload X 4 dL_law_738 rfl ?_
  refine fk_iconst (v := 1) X dL_law_740 rfl ?_
  refine fk_iadd X dL_law_741 ?_
  refine fk_iaload' X dL_law_742 hf (fun z5 hf => ?_)
  obtain ⟨u6, hq, hf⟩ := bI hf
  obtain ⟨z7, m8, hv, hf⟩ := bn2_eq hf
  have hm : n1 ≤ nF ∧ k1 ≤ kF := Mo4.use hf (Mo4.ite ((mo_L_law_J2125 G.2.2 R23 x0 x1 x2 x3 x4 n1 k1 m8 hM23)) (Mo4.ok (by omega) (by omega)))
  refine fk_callV0I (ci := 1) (rest := [tI z3]) X hq rfl (c_X2_turnsAbout hv) n_X2_turnsAbout q1905 q1906 q1907 q126 q1908 rfl dL_law_743 rfl rfl rfl rfl rfl (by omega) (by omega) ?_
  refine fk_icmp_eq' X 2125 dL_law_746 rfl hf (fun hf => ?_) (fun hf => ?_)
  · have hn : n0 ≤ n1 := by omega
    have hk : k0 ≤ k1 := by omega
    exact fk_cut' (w_L_law_J2125 X hB Y x0 x1 x2 x3 x4 n1 k1 hn hk m8 hR23 hM23 hf) [0, 1, 2, 3, 4] rfl
  · refine fk_iconst (v := 0) X dL_law_749 rfl ?_
    cases hf
    exact fk_lawret X Y dL_law_750 (by omega) (by omega)
set_option maxHeartbeats 4000000 in
theorem w_L_law_J751 {E : fk_E} {l : Launch} {G : fk_G} {b0 n0 k0 nF kF : Nat} {r : Int32} {mF : fk_M} (X : fk_X E l G b0 "FigureKneeLaw" "law" cL_law 7 8192 100000 1200128 5501098) (hB : nF - n0 ≤ 1200128 ∧ kF - k0 ≤ 5501098) (Y : fk_YL E r) (x0 : Option Nat) (x1 : Option Nat) (x2 : Option Nat) (x3 : Option Nat) (x4 : Int32)  (n1 k1 : Nat) (hn1 : n0 ≤ n1) (hk1 : k0 ≤ k1) (m0 : fk_M) {R23 : Int32 → Nat → Nat → fk_M → Option (Int32 × Nat × Nat × fk_M)} (hR23 : ∀ (v4 : Int32) (n9 k9 : Nat) (m9 : fk_M), n0 ≤ n9 → k0 ≤ k9 → R23 v4 n9 k9 m9 = some (r, nF, kF, mF) → fk_W E 7 n9 m9 (n9 - n0) (k9 - k0) 23 [(0, tR x0), (1, tR x1), (2, tR x2), (3, tR x3), (4, tI v4)] []) (hM23 : ∀ (v4 : Int32) (n9 k9 : Nat) (m9 : fk_M), Mo4 n9 k9 (R23 v4 n9 k9 m9)) (hf : f_L_law_J751 G.2.2 R23 x0 x1 x2 x3 x4 n1 k1 m0 = some (r, nF, kF, mF)) : fk_W E 7 n1 m0 (n1 - n0) (k1 - k0) 751 [(0, tR x0), (1, tR x1), (2, tR x2), (3, tR x3), (4, tI x4)] [] := by
  unfold f_L_law_J751 at hf
  refine fk_aload_n X 1 dL_law_751 rfl ?_
  refine fk_aload_n X 0 dL_law_752 rfl ?_
  refine fk_iload X 4 dL_law_753 rfl ?_
  refine fk_iconst (v := 1) X dL_law_755 rfl ?_
  refine fk_iadd X dL_law_756 ?_
  refine fk_iaload' X dL_law_757 hf (fun z1 hf => ?_)
  refine fk_aload_n X 0 dL_law_758 rfl ?_
  refine fk_iload X 4 dL_law_759 rfl ?_
  refine fk_iconst (v := 2) X dL_law_761 rfl ?_
  refine fk_iadd X dL_law_762 ?_
  refine fk_iaload' X dL_law_763 hf (fun z2 hf => ?_)
  obtain ⟨u3, hq, hf⟩ := bI hf
  obtain ⟨z4, m5, hv, hf⟩ := bn2_eq hf
  have hm : n1 ≤ nF ∧ k1 ≤ kF := Mo4.use hf (Mo4.bind (fun z6 => Mo4.bind (fun z7 => Mo4.bind (fun u8 => Mo4.bn2 (fun z9 m10 => Mo4.ite ((mo_L_law_J2125 G.2.2 R23 x0 x1 x2 x3 x4 n1 k1 m10 hM23)) (Mo4.ok (by omega) (by omega)))))))
  refine fk_callV0I (ci := 0) (rest := []) X hq rfl (c_X1_alikeIn hv) n_X1_alikeIn q1130 q1131 q1132 q122 q1133 rfl dL_law_764 rfl rfl rfl rfl rfl (by omega) (by omega) ?_
  refine fk_aload_n X 2 dL_law_767 rfl ?_
  refine fk_aload_n X 0 dL_law_768 rfl ?_
  refine fk_iload X 4 dL_law_769 rfl ?_
  refine fk_iconst (v := 1) X dL_law_771 rfl ?_
  refine fk_iadd X dL_law_772 ?_
  refine fk_iaload' X dL_law_773 hf (fun z6 hf => ?_)
  refine fk_aload_n X 0 dL_law_774 rfl ?_
  refine fk_iload X 4 dL_law_775 rfl ?_
  refine fk_iconst (v := 2) X dL_law_777 rfl ?_
  refine fk_iadd X dL_law_778 ?_
  refine fk_iaload' X dL_law_779 hf (fun z7 hf => ?_)
  obtain ⟨u8, hq, hf⟩ := bI hf
  obtain ⟨z9, m10, hv, hf⟩ := bn2_eq hf
  have hm : n1 ≤ nF ∧ k1 ≤ kF := Mo4.use hf (Mo4.ite ((mo_L_law_J2125 G.2.2 R23 x0 x1 x2 x3 x4 n1 k1 m10 hM23)) (Mo4.ok (by omega) (by omega)))
  refine fk_callV0I (ci := 1) (rest := [tI z4]) X hq rfl (c_X2_alikeIn hv) n_X2_alikeIn q1909 q1910 q1911 q126 q1912 rfl dL_law_780 rfl rfl rfl rfl rfl (by omega) (by omega) ?_
  refine fk_icmp_eq' X 2125 dL_law_783 rfl hf (fun hf => ?_) (fun hf => ?_)
  · have hn : n0 ≤ n1 := by omega
    have hk : k0 ≤ k1 := by omega
    exact fk_cut' (w_L_law_J2125 X hB Y x0 x1 x2 x3 x4 n1 k1 hn hk m10 hR23 hM23 hf) [0, 1, 2, 3, 4] rfl
  · refine fk_iconst (v := 0) X dL_law_786 rfl ?_
    cases hf
    exact fk_lawret X Y dL_law_787 (by omega) (by omega)
set_option maxHeartbeats 4000000 in
theorem w_L_law_J788 {E : fk_E} {l : Launch} {G : fk_G} {b0 n0 k0 nF kF : Nat} {r : Int32} {mF : fk_M} (X : fk_X E l G b0 "FigureKneeLaw" "law" cL_law 7 8192 100000 1200128 5501098) (hB : nF - n0 ≤ 1200128 ∧ kF - k0 ≤ 5501098) (Y : fk_YL E r) (x0 : Option Nat) (x1 : Option Nat) (x2 : Option Nat) (x3 : Option Nat) (x4 : Int32)  (n1 k1 : Nat) (hn1 : n0 ≤ n1) (hk1 : k0 ≤ k1) (m0 : fk_M) {R23 : Int32 → Nat → Nat → fk_M → Option (Int32 × Nat × Nat × fk_M)} (hR23 : ∀ (v4 : Int32) (n9 k9 : Nat) (m9 : fk_M), n0 ≤ n9 → k0 ≤ k9 → R23 v4 n9 k9 m9 = some (r, nF, kF, mF) → fk_W E 7 n9 m9 (n9 - n0) (k9 - k0) 23 [(0, tR x0), (1, tR x1), (2, tR x2), (3, tR x3), (4, tI v4)] []) (hM23 : ∀ (v4 : Int32) (n9 k9 : Nat) (m9 : fk_M), Mo4 n9 k9 (R23 v4 n9 k9 m9)) (hf : f_L_law_J788 G.2.2 R23 x0 x1 x2 x3 x4 n1 k1 m0 = some (r, nF, kF, mF)) : fk_W E 7 n1 m0 (n1 - n0) (k1 - k0) 788 [(0, tR x0), (1, tR x1), (2, tR x2), (3, tR x3), (4, tI x4)] [] := by
  unfold f_L_law_J788 at hf
  refine fk_aload_n X 1 dL_law_788 rfl ?_
  refine fk_aload_n X 0 dL_law_789 rfl ?_
  refine fk_iload X 4 dL_law_790 rfl ?_
  refine fk_iconst (v := 1) X dL_law_792 rfl ?_
  refine fk_iadd X dL_law_793 ?_
  refine fk_iaload' X dL_law_794 hf (fun z1 hf => ?_)
  obtain ⟨u2, hq, hf⟩ := bI hf
  obtain ⟨z3, m4, hv, hf⟩ := bn2_eq hf
  have hm : n1 ≤ nF ∧ k1 ≤ kF := Mo4.use hf (Mo4.bind (fun z5 => Mo4.bind (fun u6 => Mo4.bn2 (fun z7 m8 => Mo4.ite ((mo_L_law_J2125 G.2.2 R23 x0 x1 x2 x3 x4 n1 k1 m8 hM23)) (Mo4.ok (by omega) (by omega))))))
  refine fk_callV0I (ci := 0) (rest := []) X hq rfl (c_X1_loudest hv) n_X1_loudest q1138 q1139 q1140 q122 q1141 rfl dL_law_795 rfl rfl rfl rfl rfl (by omega) (by omega) ?_
  refine fk_aload_n X 2 dL_law_798 rfl ?_
  refine fk_aload_n X 0 dL_law_799 rfl ?_
  refine fk_iload X 4 dL_law_800 rfl ?_
  refine fk_iconst (v := 1) X dL_law_802 rfl ?_
  refine fk_iadd X dL_law_803 ?_
  refine fk_iaload' X dL_law_804 hf (fun z5 hf => ?_)
  obtain ⟨u6, hq, hf⟩ := bI hf
  obtain ⟨z7, m8, hv, hf⟩ := bn2_eq hf
  have hm : n1 ≤ nF ∧ k1 ≤ kF := Mo4.use hf (Mo4.ite ((mo_L_law_J2125 G.2.2 R23 x0 x1 x2 x3 x4 n1 k1 m8 hM23)) (Mo4.ok (by omega) (by omega)))
  refine fk_callV0I (ci := 1) (rest := [tI z3]) X hq rfl (c_X2_loudest hv) n_X2_loudest q1917 q1918 q1919 q126 q1920 rfl dL_law_805 rfl rfl rfl rfl rfl (by omega) (by omega) ?_
  refine fk_icmp_eq' X 2125 dL_law_808 rfl hf (fun hf => ?_) (fun hf => ?_)
  · have hn : n0 ≤ n1 := by omega
    have hk : k0 ≤ k1 := by omega
    exact fk_cut' (w_L_law_J2125 X hB Y x0 x1 x2 x3 x4 n1 k1 hn hk m8 hR23 hM23 hf) [0, 1, 2, 3, 4] rfl
  · refine fk_iconst (v := 0) X dL_law_811 rfl ?_
    cases hf
    exact fk_lawret X Y dL_law_812 (by omega) (by omega)
set_option maxHeartbeats 4000000 in
theorem w_L_law_J813 {E : fk_E} {l : Launch} {G : fk_G} {b0 n0 k0 nF kF : Nat} {r : Int32} {mF : fk_M} (X : fk_X E l G b0 "FigureKneeLaw" "law" cL_law 7 8192 100000 1200128 5501098) (hB : nF - n0 ≤ 1200128 ∧ kF - k0 ≤ 5501098) (Y : fk_YL E r) (x0 : Option Nat) (x1 : Option Nat) (x2 : Option Nat) (x3 : Option Nat) (x4 : Int32)  (n1 k1 : Nat) (hn1 : n0 ≤ n1) (hk1 : k0 ≤ k1) (m0 : fk_M) {R23 : Int32 → Nat → Nat → fk_M → Option (Int32 × Nat × Nat × fk_M)} (hR23 : ∀ (v4 : Int32) (n9 k9 : Nat) (m9 : fk_M), n0 ≤ n9 → k0 ≤ k9 → R23 v4 n9 k9 m9 = some (r, nF, kF, mF) → fk_W E 7 n9 m9 (n9 - n0) (k9 - k0) 23 [(0, tR x0), (1, tR x1), (2, tR x2), (3, tR x3), (4, tI v4)] []) (hM23 : ∀ (v4 : Int32) (n9 k9 : Nat) (m9 : fk_M), Mo4 n9 k9 (R23 v4 n9 k9 m9)) (hf : f_L_law_J813 G.2.2 R23 x0 x1 x2 x3 x4 n1 k1 m0 = some (r, nF, kF, mF)) : fk_W E 7 n1 m0 (n1 - n0) (k1 - k0) 813 [(0, tR x0), (1, tR x1), (2, tR x2), (3, tR x3), (4, tI x4)] [] := by
  unfold f_L_law_J813 at hf
  refine fk_aload_n X 1 dL_law_813 rfl ?_
  refine fk_aload_n X 0 dL_law_814 rfl ?_
  refine fk_iload X 4 dL_law_815 rfl ?_
  refine fk_iconst (v := 1) X dL_law_817 rfl ?_
  refine fk_iadd X dL_law_818 ?_
  refine fk_iaload' X dL_law_819 hf (fun z1 hf => ?_)
  refine fk_aload_n X 0 dL_law_820 rfl ?_
  refine fk_iload X 4 dL_law_821 rfl ?_
  refine fk_iconst (v := 2) X dL_law_823 rfl ?_
  refine fk_iadd X dL_law_824 ?_
  refine fk_iaload' X dL_law_825 hf (fun z2 hf => ?_)
  obtain ⟨u3, hq, hf⟩ := bI hf
  obtain ⟨z4, m5, hv, hf⟩ := bn2_eq hf
  have hm : n1 ≤ nF ∧ k1 ≤ kF := Mo4.use hf (Mo4.bind (fun z6 => Mo4.bind (fun z7 => Mo4.bind (fun u8 => Mo4.bn2 (fun z9 m10 => Mo4.ite ((mo_L_law_J2125 G.2.2 R23 x0 x1 x2 x3 x4 n1 k1 m10 hM23)) (Mo4.ok (by omega) (by omega)))))))
  refine fk_callV0I (ci := 0) (rest := []) X hq rfl (c_X1_overtakes hv) n_X1_overtakes q1142 q1143 q1144 q122 q1145 rfl dL_law_826 rfl rfl rfl rfl rfl (by omega) (by omega) ?_
  refine fk_aload_n X 2 dL_law_829 rfl ?_
  refine fk_aload_n X 0 dL_law_830 rfl ?_
  refine fk_iload X 4 dL_law_831 rfl ?_
  refine fk_iconst (v := 1) X dL_law_833 rfl ?_
  refine fk_iadd X dL_law_834 ?_
  refine fk_iaload' X dL_law_835 hf (fun z6 hf => ?_)
  refine fk_aload_n X 0 dL_law_836 rfl ?_
  refine fk_iload X 4 dL_law_837 rfl ?_
  refine fk_iconst (v := 2) X dL_law_839 rfl ?_
  refine fk_iadd X dL_law_840 ?_
  refine fk_iaload' X dL_law_841 hf (fun z7 hf => ?_)
  obtain ⟨u8, hq, hf⟩ := bI hf
  obtain ⟨z9, m10, hv, hf⟩ := bn2_eq hf
  have hm : n1 ≤ nF ∧ k1 ≤ kF := Mo4.use hf (Mo4.ite ((mo_L_law_J2125 G.2.2 R23 x0 x1 x2 x3 x4 n1 k1 m10 hM23)) (Mo4.ok (by omega) (by omega)))
  refine fk_callV0I (ci := 1) (rest := [tI z4]) X hq rfl (c_X2_overtakes hv) n_X2_overtakes q1929 q1930 q1931 q126 q1932 rfl dL_law_842 rfl rfl rfl rfl rfl (by omega) (by omega) ?_
  refine fk_icmp_eq' X 2125 dL_law_845 rfl hf (fun hf => ?_) (fun hf => ?_)
  · have hn : n0 ≤ n1 := by omega
    have hk : k0 ≤ k1 := by omega
    exact fk_cut' (w_L_law_J2125 X hB Y x0 x1 x2 x3 x4 n1 k1 hn hk m10 hR23 hM23 hf) [0, 1, 2, 3, 4] rfl
  · refine fk_iconst (v := 0) X dL_law_848 rfl ?_
    cases hf
    exact fk_lawret X Y dL_law_849 (by omega) (by omega)
set_option maxHeartbeats 4000000 in
theorem w_L_law_J850 {E : fk_E} {l : Launch} {G : fk_G} {b0 n0 k0 nF kF : Nat} {r : Int32} {mF : fk_M} (X : fk_X E l G b0 "FigureKneeLaw" "law" cL_law 7 8192 100000 1200128 5501098) (hB : nF - n0 ≤ 1200128 ∧ kF - k0 ≤ 5501098) (Y : fk_YL E r) (x0 : Option Nat) (x1 : Option Nat) (x2 : Option Nat) (x3 : Option Nat) (x4 : Int32)  (n1 k1 : Nat) (hn1 : n0 ≤ n1) (hk1 : k0 ≤ k1) (m0 : fk_M) {R23 : Int32 → Nat → Nat → fk_M → Option (Int32 × Nat × Nat × fk_M)} (hR23 : ∀ (v4 : Int32) (n9 k9 : Nat) (m9 : fk_M), n0 ≤ n9 → k0 ≤ k9 → R23 v4 n9 k9 m9 = some (r, nF, kF, mF) → fk_W E 7 n9 m9 (n9 - n0) (k9 - k0) 23 [(0, tR x0), (1, tR x1), (2, tR x2), (3, tR x3), (4, tI v4)] []) (hM23 : ∀ (v4 : Int32) (n9 k9 : Nat) (m9 : fk_M), Mo4 n9 k9 (R23 v4 n9 k9 m9)) (hf : f_L_law_J850 G.2.2 R23 x0 x1 x2 x3 x4 n1 k1 m0 = some (r, nF, kF, mF)) : fk_W E 7 n1 m0 (n1 - n0) (k1 - k0) 850 [(0, tR x0), (1, tR x1), (2, tR x2), (3, tR x3), (4, tI x4)] [] := by
  unfold f_L_law_J850 at hf
  refine fk_aload_n X 1 dL_law_850 rfl ?_
  refine fk_aload_n X 0 dL_law_851 rfl ?_
  refine fk_iload X 4 dL_law_852 rfl ?_
  refine fk_iconst (v := 1) X dL_law_854 rfl ?_
  refine fk_iadd X dL_law_855 ?_
  refine fk_iaload' X dL_law_856 hf (fun z1 hf => ?_)
  obtain ⟨u2, hq, hf⟩ := bI hf
  obtain ⟨z3, m4, hv, hf⟩ := bn2_eq hf
  have hm : n1 ≤ nF ∧ k1 ≤ kF := Mo4.use hf (Mo4.bind (fun z5 => Mo4.bind (fun u6 => Mo4.bn2 (fun z7 m8 => Mo4.ite ((mo_L_law_J2125 G.2.2 R23 x0 x1 x2 x3 x4 n1 k1 m8 hM23)) (Mo4.ok (by omega) (by omega))))))
  refine fk_callV0I (ci := 0) (rest := []) X hq rfl (c_X1_widest hv) n_X1_widest q1146 q1147 q1148 q122 q1149 rfl dL_law_857 rfl rfl rfl rfl rfl (by omega) (by omega) ?_
  refine fk_aload_n X 2 dL_law_860 rfl ?_
  refine fk_aload_n X 0 dL_law_861 rfl ?_
  refine fk_iload X 4 dL_law_862 rfl ?_
  refine fk_iconst (v := 1) X dL_law_864 rfl ?_
  refine fk_iadd X dL_law_865 ?_
  refine fk_iaload' X dL_law_866 hf (fun z5 hf => ?_)
  obtain ⟨u6, hq, hf⟩ := bI hf
  obtain ⟨z7, m8, hv, hf⟩ := bn2_eq hf
  have hm : n1 ≤ nF ∧ k1 ≤ kF := Mo4.use hf (Mo4.ite ((mo_L_law_J2125 G.2.2 R23 x0 x1 x2 x3 x4 n1 k1 m8 hM23)) (Mo4.ok (by omega) (by omega)))
  refine fk_callV0I (ci := 1) (rest := [tI z3]) X hq rfl (c_X2_widest hv) n_X2_widest q1933 q1934 q1935 q126 q1936 rfl dL_law_867 rfl rfl rfl rfl rfl (by omega) (by omega) ?_
  refine fk_icmp_eq' X 2125 dL_law_870 rfl hf (fun hf => ?_) (fun hf => ?_)
  · have hn : n0 ≤ n1 := by omega
    have hk : k0 ≤ k1 := by omega
    exact fk_cut' (w_L_law_J2125 X hB Y x0 x1 x2 x3 x4 n1 k1 hn hk m8 hR23 hM23 hf) [0, 1, 2, 3, 4] rfl
  · refine fk_iconst (v := 0) X dL_law_873 rfl ?_
    cases hf
    exact fk_lawret X Y dL_law_874 (by omega) (by omega)
set_option maxHeartbeats 4000000 in
theorem w_L_law_J875 {E : fk_E} {l : Launch} {G : fk_G} {b0 n0 k0 nF kF : Nat} {r : Int32} {mF : fk_M} (X : fk_X E l G b0 "FigureKneeLaw" "law" cL_law 7 8192 100000 1200128 5501098) (hB : nF - n0 ≤ 1200128 ∧ kF - k0 ≤ 5501098) (Y : fk_YL E r) (x0 : Option Nat) (x1 : Option Nat) (x2 : Option Nat) (x3 : Option Nat) (x4 : Int32)  (n1 k1 : Nat) (hn1 : n0 ≤ n1) (hk1 : k0 ≤ k1) (m0 : fk_M) {R23 : Int32 → Nat → Nat → fk_M → Option (Int32 × Nat × Nat × fk_M)} (hR23 : ∀ (v4 : Int32) (n9 k9 : Nat) (m9 : fk_M), n0 ≤ n9 → k0 ≤ k9 → R23 v4 n9 k9 m9 = some (r, nF, kF, mF) → fk_W E 7 n9 m9 (n9 - n0) (k9 - k0) 23 [(0, tR x0), (1, tR x1), (2, tR x2), (3, tR x3), (4, tI v4)] []) (hM23 : ∀ (v4 : Int32) (n9 k9 : Nat) (m9 : fk_M), Mo4 n9 k9 (R23 v4 n9 k9 m9)) (hf : f_L_law_J875 G.2.2 R23 x0 x1 x2 x3 x4 n1 k1 m0 = some (r, nF, kF, mF)) : fk_W E 7 n1 m0 (n1 - n0) (k1 - k0) 875 [(0, tR x0), (1, tR x1), (2, tR x2), (3, tR x3), (4, tI x4)] [] := by
  unfold f_L_law_J875 at hf
  refine fk_aload_n X 1 dL_law_875 rfl ?_
  refine fk_aload_n X 0 dL_law_876 rfl ?_
  refine fk_iload X 4 dL_law_877 rfl ?_
  refine fk_iconst (v := 1) X dL_law_879 rfl ?_
  refine fk_iadd X dL_law_880 ?_
  refine fk_iaload' X dL_law_881 hf (fun z1 hf => ?_)
  obtain ⟨u2, hq, hf⟩ := bI hf
  obtain ⟨z3, m4, hv, hf⟩ := bn2_eq hf
  have hm : n1 ≤ nF ∧ k1 ≤ kF := Mo4.use hf (Mo4.bind (fun z5 => Mo4.bind (fun u6 => Mo4.bn2 (fun z7 m8 => Mo4.ite ((mo_L_law_J2125 G.2.2 R23 x0 x1 x2 x3 x4 n1 k1 m8 hM23)) (Mo4.ok (by omega) (by omega))))))
  refine fk_callV0I (ci := 0) (rest := []) X hq rfl (c_X1_sumAll hv) n_X1_sumAll q1157 q1158 q1159 q122 q1160 rfl dL_law_882 rfl rfl rfl rfl rfl (by omega) (by omega) ?_
  refine fk_aload_n X 2 dL_law_885 rfl ?_
  refine fk_aload_n X 0 dL_law_886 rfl ?_
  refine fk_iload X 4 dL_law_887 rfl ?_
  refine fk_iconst (v := 1) X dL_law_889 rfl ?_
  refine fk_iadd X dL_law_890 ?_
  refine fk_iaload' X dL_law_891 hf (fun z5 hf => ?_)
  obtain ⟨u6, hq, hf⟩ := bI hf
  obtain ⟨z7, m8, hv, hf⟩ := bn2_eq hf
  have hm : n1 ≤ nF ∧ k1 ≤ kF := Mo4.use hf (Mo4.ite ((mo_L_law_J2125 G.2.2 R23 x0 x1 x2 x3 x4 n1 k1 m8 hM23)) (Mo4.ok (by omega) (by omega)))
  refine fk_callV0I (ci := 1) (rest := [tI z3]) X hq rfl (c_X2_sumAll hv) n_X2_sumAll q1937 q1938 q1939 q126 q1940 rfl dL_law_892 rfl rfl rfl rfl rfl (by omega) (by omega) ?_
  refine fk_icmp_eq' X 2125 dL_law_895 rfl hf (fun hf => ?_) (fun hf => ?_)
  · have hn : n0 ≤ n1 := by omega
    have hk : k0 ≤ k1 := by omega
    exact fk_cut' (w_L_law_J2125 X hB Y x0 x1 x2 x3 x4 n1 k1 hn hk m8 hR23 hM23 hf) [0, 1, 2, 3, 4] rfl
  · refine fk_iconst (v := 0) X dL_law_898 rfl ?_
    cases hf
    exact fk_lawret X Y dL_law_899 (by omega) (by omega)
set_option maxHeartbeats 4000000 in
theorem w_L_law_J900 {E : fk_E} {l : Launch} {G : fk_G} {b0 n0 k0 nF kF : Nat} {r : Int32} {mF : fk_M} (X : fk_X E l G b0 "FigureKneeLaw" "law" cL_law 7 8192 100000 1200128 5501098) (hB : nF - n0 ≤ 1200128 ∧ kF - k0 ≤ 5501098) (Y : fk_YL E r) (x0 : Option Nat) (x1 : Option Nat) (x2 : Option Nat) (x3 : Option Nat) (x4 : Int32)  (n1 k1 : Nat) (hn1 : n0 ≤ n1) (hk1 : k0 ≤ k1) (m0 : fk_M) {R23 : Int32 → Nat → Nat → fk_M → Option (Int32 × Nat × Nat × fk_M)} (hR23 : ∀ (v4 : Int32) (n9 k9 : Nat) (m9 : fk_M), n0 ≤ n9 → k0 ≤ k9 → R23 v4 n9 k9 m9 = some (r, nF, kF, mF) → fk_W E 7 n9 m9 (n9 - n0) (k9 - k0) 23 [(0, tR x0), (1, tR x1), (2, tR x2), (3, tR x3), (4, tI v4)] []) (hM23 : ∀ (v4 : Int32) (n9 k9 : Nat) (m9 : fk_M), Mo4 n9 k9 (R23 v4 n9 k9 m9)) (hf : f_L_law_J900 G.2.2 R23 x0 x1 x2 x3 x4 n1 k1 m0 = some (r, nF, kF, mF)) : fk_W E 7 n1 m0 (n1 - n0) (k1 - k0) 900 [(0, tR x0), (1, tR x1), (2, tR x2), (3, tR x3), (4, tI x4)] [] := by
  unfold f_L_law_J900 at hf
  refine fk_aload_n X 1 dL_law_900 rfl ?_
  refine fk_aload_n X 0 dL_law_901 rfl ?_
  refine fk_iload X 4 dL_law_902 rfl ?_
  refine fk_iconst (v := 1) X dL_law_904 rfl ?_
  refine fk_iadd X dL_law_905 ?_
  refine fk_iaload' X dL_law_906 hf (fun z1 hf => ?_)
  obtain ⟨u2, hq, hf⟩ := bI hf
  obtain ⟨z3, m4, hv, hf⟩ := bn2_eq hf
  have hm : n1 ≤ nF ∧ k1 ≤ kF := Mo4.use hf (Mo4.bind (fun z5 => Mo4.bind (fun u6 => Mo4.bn2 (fun z7 m8 => Mo4.ite ((mo_L_law_J2125 G.2.2 R23 x0 x1 x2 x3 x4 n1 k1 m8 hM23)) (Mo4.ok (by omega) (by omega))))))
  refine fk_callV0I (ci := 0) (rest := []) X hq rfl (c_X1_masters hv) n_X1_masters q1161 q1162 q1163 q122 q1164 rfl dL_law_907 rfl rfl rfl rfl rfl (by omega) (by omega) ?_
  refine fk_aload_n X 2 dL_law_910 rfl ?_
  refine fk_aload_n X 0 dL_law_911 rfl ?_
  refine fk_iload X 4 dL_law_912 rfl ?_
  refine fk_iconst (v := 1) X dL_law_914 rfl ?_
  refine fk_iadd X dL_law_915 ?_
  refine fk_iaload' X dL_law_916 hf (fun z5 hf => ?_)
  obtain ⟨u6, hq, hf⟩ := bI hf
  obtain ⟨z7, m8, hv, hf⟩ := bn2_eq hf
  have hm : n1 ≤ nF ∧ k1 ≤ kF := Mo4.use hf (Mo4.ite ((mo_L_law_J2125 G.2.2 R23 x0 x1 x2 x3 x4 n1 k1 m8 hM23)) (Mo4.ok (by omega) (by omega)))
  refine fk_callV0I (ci := 1) (rest := [tI z3]) X hq rfl (c_X2_masters hv) n_X2_masters q1921 q1922 q1923 q126 q1924 rfl dL_law_917 rfl rfl rfl rfl rfl (by omega) (by omega) ?_
  refine fk_icmp_eq' X 2125 dL_law_920 rfl hf (fun hf => ?_) (fun hf => ?_)
  · have hn : n0 ≤ n1 := by omega
    have hk : k0 ≤ k1 := by omega
    exact fk_cut' (w_L_law_J2125 X hB Y x0 x1 x2 x3 x4 n1 k1 hn hk m8 hR23 hM23 hf) [0, 1, 2, 3, 4] rfl
  · refine fk_iconst (v := 0) X dL_law_923 rfl ?_
    cases hf
    exact fk_lawret X Y dL_law_924 (by omega) (by omega)
set_option maxHeartbeats 4000000 in
theorem w_L_law_J925 {E : fk_E} {l : Launch} {G : fk_G} {b0 n0 k0 nF kF : Nat} {r : Int32} {mF : fk_M} (X : fk_X E l G b0 "FigureKneeLaw" "law" cL_law 7 8192 100000 1200128 5501098) (hB : nF - n0 ≤ 1200128 ∧ kF - k0 ≤ 5501098) (Y : fk_YL E r) (x0 : Option Nat) (x1 : Option Nat) (x2 : Option Nat) (x3 : Option Nat) (x4 : Int32)  (n1 k1 : Nat) (hn1 : n0 ≤ n1) (hk1 : k0 ≤ k1) (m0 : fk_M) {R23 : Int32 → Nat → Nat → fk_M → Option (Int32 × Nat × Nat × fk_M)} (hR23 : ∀ (v4 : Int32) (n9 k9 : Nat) (m9 : fk_M), n0 ≤ n9 → k0 ≤ k9 → R23 v4 n9 k9 m9 = some (r, nF, kF, mF) → fk_W E 7 n9 m9 (n9 - n0) (k9 - k0) 23 [(0, tR x0), (1, tR x1), (2, tR x2), (3, tR x3), (4, tI v4)] []) (hM23 : ∀ (v4 : Int32) (n9 k9 : Nat) (m9 : fk_M), Mo4 n9 k9 (R23 v4 n9 k9 m9)) (hf : f_L_law_J925 G.2.2 R23 x0 x1 x2 x3 x4 n1 k1 m0 = some (r, nF, kF, mF)) : fk_W E 7 n1 m0 (n1 - n0) (k1 - k0) 925 [(0, tR x0), (1, tR x1), (2, tR x2), (3, tR x3), (4, tI x4)] [] := by
  unfold f_L_law_J925 at hf
  refine fk_aload_n X 1 dL_law_925 rfl ?_
  refine fk_aload_n X 0 dL_law_926 rfl ?_
  refine fk_iload X 4 dL_law_927 rfl ?_
  refine fk_iconst (v := 1) X dL_law_929 rfl ?_
  refine fk_iadd X dL_law_930 ?_
  refine fk_iaload' X dL_law_931 hf (fun z1 hf => ?_)
  refine fk_aload_n X 0 dL_law_932 rfl ?_
  refine fk_iload X 4 dL_law_933 rfl ?_
  refine fk_iconst (v := 2) X dL_law_935 rfl ?_
  refine fk_iadd X dL_law_936 ?_
  refine fk_iaload' X dL_law_937 hf (fun z2 hf => ?_)
  obtain ⟨u3, hq, hf⟩ := bI hf
  obtain ⟨z4, m5, hv, hf⟩ := bn2_eq hf
  have hm : n1 ≤ nF ∧ k1 ≤ kF := Mo4.use hf (Mo4.bind (fun z6 => Mo4.bind (fun z7 => Mo4.bind (fun u8 => Mo4.bn2 (fun z9 m10 => Mo4.ite ((mo_L_law_J2125 G.2.2 R23 x0 x1 x2 x3 x4 n1 k1 m10 hM23)) (Mo4.ok (by omega) (by omega)))))))
  refine fk_callV0I (ci := 0) (rest := []) X hq rfl (c_X1_everyFor hv) n_X1_everyFor q1169 q1170 q1171 q122 q1172 rfl dL_law_938 rfl rfl rfl rfl rfl (by omega) (by omega) ?_
  refine fk_aload_n X 2 dL_law_941 rfl ?_
  refine fk_aload_n X 0 dL_law_942 rfl ?_
  refine fk_iload X 4 dL_law_943 rfl ?_
  refine fk_iconst (v := 1) X dL_law_945 rfl ?_
  refine fk_iadd X dL_law_946 ?_
  refine fk_iaload' X dL_law_947 hf (fun z6 hf => ?_)
  refine fk_aload_n X 0 dL_law_948 rfl ?_
  refine fk_iload X 4 dL_law_949 rfl ?_
  refine fk_iconst (v := 2) X dL_law_951 rfl ?_
  refine fk_iadd X dL_law_952 ?_
  refine fk_iaload' X dL_law_953 hf (fun z7 hf => ?_)
  obtain ⟨u8, hq, hf⟩ := bI hf
  obtain ⟨z9, m10, hv, hf⟩ := bn2_eq hf
  have hm : n1 ≤ nF ∧ k1 ≤ kF := Mo4.use hf (Mo4.ite ((mo_L_law_J2125 G.2.2 R23 x0 x1 x2 x3 x4 n1 k1 m10 hM23)) (Mo4.ok (by omega) (by omega)))
  refine fk_callV0I (ci := 1) (rest := [tI z4]) X hq rfl (c_X2_everyFor hv) n_X2_everyFor q1941 q1942 q1943 q126 q1944 rfl dL_law_954 rfl rfl rfl rfl rfl (by omega) (by omega) ?_
  refine fk_icmp_eq' X 2125 dL_law_957 rfl hf (fun hf => ?_) (fun hf => ?_)
  · have hn : n0 ≤ n1 := by omega
    have hk : k0 ≤ k1 := by omega
    exact fk_cut' (w_L_law_J2125 X hB Y x0 x1 x2 x3 x4 n1 k1 hn hk m10 hR23 hM23 hf) [0, 1, 2, 3, 4] rfl
  · refine fk_iconst (v := 0) X dL_law_960 rfl ?_
    cases hf
    exact fk_lawret X Y dL_law_961 (by omega) (by omega)
set_option maxHeartbeats 4000000 in
theorem w_L_law_J962 {E : fk_E} {l : Launch} {G : fk_G} {b0 n0 k0 nF kF : Nat} {r : Int32} {mF : fk_M} (X : fk_X E l G b0 "FigureKneeLaw" "law" cL_law 7 8192 100000 1200128 5501098) (hB : nF - n0 ≤ 1200128 ∧ kF - k0 ≤ 5501098) (Y : fk_YL E r) (x0 : Option Nat) (x1 : Option Nat) (x2 : Option Nat) (x3 : Option Nat) (x4 : Int32)  (n1 k1 : Nat) (hn1 : n0 ≤ n1) (hk1 : k0 ≤ k1) (m0 : fk_M) {R23 : Int32 → Nat → Nat → fk_M → Option (Int32 × Nat × Nat × fk_M)} (hR23 : ∀ (v4 : Int32) (n9 k9 : Nat) (m9 : fk_M), n0 ≤ n9 → k0 ≤ k9 → R23 v4 n9 k9 m9 = some (r, nF, kF, mF) → fk_W E 7 n9 m9 (n9 - n0) (k9 - k0) 23 [(0, tR x0), (1, tR x1), (2, tR x2), (3, tR x3), (4, tI v4)] []) (hM23 : ∀ (v4 : Int32) (n9 k9 : Nat) (m9 : fk_M), Mo4 n9 k9 (R23 v4 n9 k9 m9)) (hf : f_L_law_J962 G.2.2 R23 x0 x1 x2 x3 x4 n1 k1 m0 = some (r, nF, kF, mF)) : fk_W E 7 n1 m0 (n1 - n0) (k1 - k0) 962 [(0, tR x0), (1, tR x1), (2, tR x2), (3, tR x3), (4, tI x4)] [] := by
  unfold f_L_law_J962 at hf
  refine fk_aload_n X 1 dL_law_962 rfl ?_
  refine fk_aload_n X 0 dL_law_963 rfl ?_
  refine fk_iload X 4 dL_law_964 rfl ?_
  refine fk_iconst (v := 1) X dL_law_966 rfl ?_
  refine fk_iadd X dL_law_967 ?_
  refine fk_iaload' X dL_law_968 hf (fun z1 hf => ?_)
  refine fk_aload_n X 0 dL_law_969 rfl ?_
  refine fk_iload X 4 dL_law_970 rfl ?_
  refine fk_iconst (v := 2) X dL_law_972 rfl ?_
  refine fk_iadd X dL_law_973 ?_
  refine fk_iaload' X dL_law_974 hf (fun z2 hf => ?_)
  obtain ⟨u3, hq, hf⟩ := bI hf
  obtain ⟨z4, m5, hv, hf⟩ := bn2_eq hf
  have hm : n1 ≤ nF ∧ k1 ≤ kF := Mo4.use hf (Mo4.bind (fun z6 => Mo4.bind (fun z7 => Mo4.bind (fun u8 => Mo4.bn2 (fun z9 m10 => Mo4.ite ((mo_L_law_J2125 G.2.2 R23 x0 x1 x2 x3 x4 n1 k1 m10 hM23)) (Mo4.ok (by omega) (by omega)))))))
  refine fk_callV0I (ci := 0) (rest := []) X hq rfl (c_X1_everySays hv) n_X1_everySays q1177 q1178 q1179 q122 q1180 rfl dL_law_975 rfl rfl rfl rfl rfl (by omega) (by omega) ?_
  refine fk_aload_n X 2 dL_law_978 rfl ?_
  refine fk_aload_n X 0 dL_law_979 rfl ?_
  refine fk_iload X 4 dL_law_980 rfl ?_
  refine fk_iconst (v := 1) X dL_law_982 rfl ?_
  refine fk_iadd X dL_law_983 ?_
  refine fk_iaload' X dL_law_984 hf (fun z6 hf => ?_)
  refine fk_aload_n X 0 dL_law_985 rfl ?_
  refine fk_iload X 4 dL_law_986 rfl ?_
  refine fk_iconst (v := 2) X dL_law_988 rfl ?_
  refine fk_iadd X dL_law_989 ?_
  refine fk_iaload' X dL_law_990 hf (fun z7 hf => ?_)
  obtain ⟨u8, hq, hf⟩ := bI hf
  obtain ⟨z9, m10, hv, hf⟩ := bn2_eq hf
  have hm : n1 ≤ nF ∧ k1 ≤ kF := Mo4.use hf (Mo4.ite ((mo_L_law_J2125 G.2.2 R23 x0 x1 x2 x3 x4 n1 k1 m10 hM23)) (Mo4.ok (by omega) (by omega)))
  refine fk_callV0I (ci := 1) (rest := [tI z4]) X hq rfl (c_X2_everySays hv) n_X2_everySays q1949 q1950 q1951 q126 q1952 rfl dL_law_991 rfl rfl rfl rfl rfl (by omega) (by omega) ?_
  refine fk_icmp_eq' X 2125 dL_law_994 rfl hf (fun hf => ?_) (fun hf => ?_)
  · have hn : n0 ≤ n1 := by omega
    have hk : k0 ≤ k1 := by omega
    exact fk_cut' (w_L_law_J2125 X hB Y x0 x1 x2 x3 x4 n1 k1 hn hk m10 hR23 hM23 hf) [0, 1, 2, 3, 4] rfl
  · refine fk_iconst (v := 0) X dL_law_997 rfl ?_
    cases hf
    exact fk_lawret X Y dL_law_998 (by omega) (by omega)
set_option maxHeartbeats 4000000 in
theorem w_L_law_J999 {E : fk_E} {l : Launch} {G : fk_G} {b0 n0 k0 nF kF : Nat} {r : Int32} {mF : fk_M} (X : fk_X E l G b0 "FigureKneeLaw" "law" cL_law 7 8192 100000 1200128 5501098) (hB : nF - n0 ≤ 1200128 ∧ kF - k0 ≤ 5501098) (Y : fk_YL E r) (x0 : Option Nat) (x1 : Option Nat) (x2 : Option Nat) (x3 : Option Nat) (x4 : Int32)  (n1 k1 : Nat) (hn1 : n0 ≤ n1) (hk1 : k0 ≤ k1) (m0 : fk_M) {R23 : Int32 → Nat → Nat → fk_M → Option (Int32 × Nat × Nat × fk_M)} (hR23 : ∀ (v4 : Int32) (n9 k9 : Nat) (m9 : fk_M), n0 ≤ n9 → k0 ≤ k9 → R23 v4 n9 k9 m9 = some (r, nF, kF, mF) → fk_W E 7 n9 m9 (n9 - n0) (k9 - k0) 23 [(0, tR x0), (1, tR x1), (2, tR x2), (3, tR x3), (4, tI v4)] []) (hM23 : ∀ (v4 : Int32) (n9 k9 : Nat) (m9 : fk_M), Mo4 n9 k9 (R23 v4 n9 k9 m9)) (hf : f_L_law_J999 G.2.2 R23 x0 x1 x2 x3 x4 n1 k1 m0 = some (r, nF, kF, mF)) : fk_W E 7 n1 m0 (n1 - n0) (k1 - k0) 999 [(0, tR x0), (1, tR x1), (2, tR x2), (3, tR x3), (4, tI x4)] [] := by
  unfold f_L_law_J999 at hf
  refine fk_aload_n X 1 dL_law_999 rfl ?_
  refine fk_aload_n X 0 dL_law_1000 rfl ?_
  refine fk_iload X 4 dL_law_1001 rfl ?_
  refine fk_iconst (v := 1) X dL_law_1003 rfl ?_
  refine fk_iadd X dL_law_1004 ?_
  refine fk_iaload' X dL_law_1005 hf (fun z1 hf => ?_)
  obtain ⟨u2, hq, hf⟩ := bI hf
  obtain ⟨z3, m4, hv, hf⟩ := bn2_eq hf
  have hm : n1 ≤ nF ∧ k1 ≤ kF := Mo4.use hf (Mo4.bind (fun z5 => Mo4.bind (fun u6 => Mo4.bn2 (fun z7 m8 => Mo4.ite ((mo_L_law_J2125 G.2.2 R23 x0 x1 x2 x3 x4 n1 k1 m8 hM23)) (Mo4.ok (by omega) (by omega))))))
  refine fk_callV0I (ci := 0) (rest := []) X hq rfl (c_X1_everyNever hv) n_X1_everyNever q1181 q1182 q1183 q122 q1184 rfl dL_law_1006 rfl rfl rfl rfl rfl (by omega) (by omega) ?_
  refine fk_aload_n X 2 dL_law_1009 rfl ?_
  refine fk_aload_n X 0 dL_law_1010 rfl ?_
  refine fk_iload X 4 dL_law_1011 rfl ?_
  refine fk_iconst (v := 1) X dL_law_1013 rfl ?_
  refine fk_iadd X dL_law_1014 ?_
  refine fk_iaload' X dL_law_1015 hf (fun z5 hf => ?_)
  obtain ⟨u6, hq, hf⟩ := bI hf
  obtain ⟨z7, m8, hv, hf⟩ := bn2_eq hf
  have hm : n1 ≤ nF ∧ k1 ≤ kF := Mo4.use hf (Mo4.ite ((mo_L_law_J2125 G.2.2 R23 x0 x1 x2 x3 x4 n1 k1 m8 hM23)) (Mo4.ok (by omega) (by omega)))
  refine fk_callV0I (ci := 1) (rest := [tI z3]) X hq rfl (c_X2_everyNever hv) n_X2_everyNever q1953 q1954 q1955 q126 q1956 rfl dL_law_1016 rfl rfl rfl rfl rfl (by omega) (by omega) ?_
  refine fk_icmp_eq' X 2125 dL_law_1019 rfl hf (fun hf => ?_) (fun hf => ?_)
  · have hn : n0 ≤ n1 := by omega
    have hk : k0 ≤ k1 := by omega
    exact fk_cut' (w_L_law_J2125 X hB Y x0 x1 x2 x3 x4 n1 k1 hn hk m8 hR23 hM23 hf) [0, 1, 2, 3, 4] rfl
  · refine fk_iconst (v := 0) X dL_law_1022 rfl ?_
    cases hf
    exact fk_lawret X Y dL_law_1023 (by omega) (by omega)
set_option maxHeartbeats 4000000 in
theorem w_L_law_J1024 {E : fk_E} {l : Launch} {G : fk_G} {b0 n0 k0 nF kF : Nat} {r : Int32} {mF : fk_M} (X : fk_X E l G b0 "FigureKneeLaw" "law" cL_law 7 8192 100000 1200128 5501098) (hB : nF - n0 ≤ 1200128 ∧ kF - k0 ≤ 5501098) (Y : fk_YL E r) (x0 : Option Nat) (x1 : Option Nat) (x2 : Option Nat) (x3 : Option Nat) (x4 : Int32)  (n1 k1 : Nat) (hn1 : n0 ≤ n1) (hk1 : k0 ≤ k1) (m0 : fk_M) {R23 : Int32 → Nat → Nat → fk_M → Option (Int32 × Nat × Nat × fk_M)} (hR23 : ∀ (v4 : Int32) (n9 k9 : Nat) (m9 : fk_M), n0 ≤ n9 → k0 ≤ k9 → R23 v4 n9 k9 m9 = some (r, nF, kF, mF) → fk_W E 7 n9 m9 (n9 - n0) (k9 - k0) 23 [(0, tR x0), (1, tR x1), (2, tR x2), (3, tR x3), (4, tI v4)] []) (hM23 : ∀ (v4 : Int32) (n9 k9 : Nat) (m9 : fk_M), Mo4 n9 k9 (R23 v4 n9 k9 m9)) (hf : f_L_law_J1024 G.2.2 R23 x0 x1 x2 x3 x4 n1 k1 m0 = some (r, nF, kF, mF)) : fk_W E 7 n1 m0 (n1 - n0) (k1 - k0) 1024 [(0, tR x0), (1, tR x1), (2, tR x2), (3, tR x3), (4, tI x4)] [] := by
  unfold f_L_law_J1024 at hf
  refine fk_aload_n X 1 dL_law_1024 rfl ?_
  refine fk_aload_n X 0 dL_law_1025 rfl ?_
  refine fk_iload X 4 dL_law_1026 rfl ?_
  refine fk_iconst (v := 1) X dL_law_1028 rfl ?_
  refine fk_iadd X dL_law_1029 ?_
  refine fk_iaload' X dL_law_1030 hf (fun z1 hf => ?_)
  refine fk_aload_n X 0 dL_law_1031 rfl ?_
  refine fk_iload X 4 dL_law_1032 rfl ?_
  refine fk_iconst (v := 2) X dL_law_1034 rfl ?_
  refine fk_iadd X dL_law_1035 ?_
  refine fk_iaload' X dL_law_1036 hf (fun z2 hf => ?_)
  obtain ⟨u3, hq, hf⟩ := bI hf
  obtain ⟨z4, m5, hv, hf⟩ := bn2_eq hf
  have hm : n1 ≤ nF ∧ k1 ≤ kF := Mo4.use hf (Mo4.bind (fun z6 => Mo4.bind (fun z7 => Mo4.bind (fun u8 => Mo4.bn2 (fun z9 m10 => Mo4.ite ((mo_L_law_J2125 G.2.2 R23 x0 x1 x2 x3 x4 n1 k1 m10 hM23)) (Mo4.ok (by omega) (by omega)))))))
  refine fk_callV0I (ci := 0) (rest := []) X hq rfl (c_X1_stepFor hv) n_X1_stepFor q1185 q1186 q1187 q122 q1188 rfl dL_law_1037 rfl rfl rfl rfl rfl (by omega) (by omega) ?_
  refine fk_aload_n X 2 dL_law_1040 rfl ?_
  refine fk_aload_n X 0 dL_law_1041 rfl ?_
  refine fk_iload X 4 dL_law_1042 rfl ?_
  refine fk_iconst (v := 1) X dL_law_1044 rfl ?_
  refine fk_iadd X dL_law_1045 ?_
  refine fk_iaload' X dL_law_1046 hf (fun z6 hf => ?_)
  refine fk_aload_n X 0 dL_law_1047 rfl ?_
  refine fk_iload X 4 dL_law_1048 rfl ?_
  refine fk_iconst (v := 2) X dL_law_1050 rfl ?_
  refine fk_iadd X dL_law_1051 ?_
  refine fk_iaload' X dL_law_1052 hf (fun z7 hf => ?_)
  obtain ⟨u8, hq, hf⟩ := bI hf
  obtain ⟨z9, m10, hv, hf⟩ := bn2_eq hf
  have hm : n1 ≤ nF ∧ k1 ≤ kF := Mo4.use hf (Mo4.ite ((mo_L_law_J2125 G.2.2 R23 x0 x1 x2 x3 x4 n1 k1 m10 hM23)) (Mo4.ok (by omega) (by omega)))
  refine fk_callV0I (ci := 1) (rest := [tI z4]) X hq rfl (c_X2_stepFor hv) n_X2_stepFor q1961 q1962 q1963 q126 q1964 rfl dL_law_1053 rfl rfl rfl rfl rfl (by omega) (by omega) ?_
  refine fk_icmp_eq' X 2125 dL_law_1056 rfl hf (fun hf => ?_) (fun hf => ?_)
  · have hn : n0 ≤ n1 := by omega
    have hk : k0 ≤ k1 := by omega
    exact fk_cut' (w_L_law_J2125 X hB Y x0 x1 x2 x3 x4 n1 k1 hn hk m10 hR23 hM23 hf) [0, 1, 2, 3, 4] rfl
  · refine fk_iconst (v := 0) X dL_law_1059 rfl ?_
    cases hf
    exact fk_lawret X Y dL_law_1060 (by omega) (by omega)
set_option maxHeartbeats 4000000 in
theorem w_L_law_J1061 {E : fk_E} {l : Launch} {G : fk_G} {b0 n0 k0 nF kF : Nat} {r : Int32} {mF : fk_M} (X : fk_X E l G b0 "FigureKneeLaw" "law" cL_law 7 8192 100000 1200128 5501098) (hB : nF - n0 ≤ 1200128 ∧ kF - k0 ≤ 5501098) (Y : fk_YL E r) (x0 : Option Nat) (x1 : Option Nat) (x2 : Option Nat) (x3 : Option Nat) (x4 : Int32)  (n1 k1 : Nat) (hn1 : n0 ≤ n1) (hk1 : k0 ≤ k1) (m0 : fk_M) {R23 : Int32 → Nat → Nat → fk_M → Option (Int32 × Nat × Nat × fk_M)} (hR23 : ∀ (v4 : Int32) (n9 k9 : Nat) (m9 : fk_M), n0 ≤ n9 → k0 ≤ k9 → R23 v4 n9 k9 m9 = some (r, nF, kF, mF) → fk_W E 7 n9 m9 (n9 - n0) (k9 - k0) 23 [(0, tR x0), (1, tR x1), (2, tR x2), (3, tR x3), (4, tI v4)] []) (hM23 : ∀ (v4 : Int32) (n9 k9 : Nat) (m9 : fk_M), Mo4 n9 k9 (R23 v4 n9 k9 m9)) (hf : f_L_law_J1061 G.2.2 R23 x0 x1 x2 x3 x4 n1 k1 m0 = some (r, nF, kF, mF)) : fk_W E 7 n1 m0 (n1 - n0) (k1 - k0) 1061 [(0, tR x0), (1, tR x1), (2, tR x2), (3, tR x3), (4, tI x4)] [] := by
  unfold f_L_law_J1061 at hf
  refine fk_aload_n X 1 dL_law_1061 rfl ?_
  obtain ⟨u1, hq, hf⟩ := bI hf
  obtain ⟨z2, m3, hv, hf⟩ := bn2_eq hf
  have hm : n1 ≤ nF ∧ k1 ≤ kF := Mo4.use hf (Mo4.bind (fun u4 => Mo4.bn2 (fun z5 m6 => Mo4.ite ((mo_L_law_J2125 G.2.2 R23 x0 x1 x2 x3 x4 n1 k1 m6 hM23)) (Mo4.ok (by omega) (by omega)))))
  refine fk_callV0I (ci := 0) (rest := []) X hq rfl (c_X1_fits hv) n_X1_fits q1189 q1190 q1191 q122 q1192 rfl dL_law_1062 rfl rfl rfl rfl rfl (by omega) (by omega) ?_
  refine fk_aload_n X 2 dL_law_1065 rfl ?_
  obtain ⟨u4, hq, hf⟩ := bI hf
  obtain ⟨z5, m6, hv, hf⟩ := bn2_eq hf
  have hm : n1 ≤ nF ∧ k1 ≤ kF := Mo4.use hf (Mo4.ite ((mo_L_law_J2125 G.2.2 R23 x0 x1 x2 x3 x4 n1 k1 m6 hM23)) (Mo4.ok (by omega) (by omega)))
  refine fk_callV0I (ci := 1) (rest := [tI z2]) X hq rfl (c_X2_fits hv) n_X2_fits q1965 q1966 q1967 q126 q1968 rfl dL_law_1066 rfl rfl rfl rfl rfl (by omega) (by omega) ?_
  refine fk_icmp_eq' X 2125 dL_law_1069 rfl hf (fun hf => ?_) (fun hf => ?_)
  · have hn : n0 ≤ n1 := by omega
    have hk : k0 ≤ k1 := by omega
    exact fk_cut' (w_L_law_J2125 X hB Y x0 x1 x2 x3 x4 n1 k1 hn hk m6 hR23 hM23 hf) [0, 1, 2, 3, 4] rfl
  · refine fk_iconst (v := 0) X dL_law_1072 rfl ?_
    cases hf
    exact fk_lawret X Y dL_law_1073 (by omega) (by omega)
set_option maxHeartbeats 4000000 in
theorem w_L_law_J1074 {E : fk_E} {l : Launch} {G : fk_G} {b0 n0 k0 nF kF : Nat} {r : Int32} {mF : fk_M} (X : fk_X E l G b0 "FigureKneeLaw" "law" cL_law 7 8192 100000 1200128 5501098) (hB : nF - n0 ≤ 1200128 ∧ kF - k0 ≤ 5501098) (Y : fk_YL E r) (x0 : Option Nat) (x1 : Option Nat) (x2 : Option Nat) (x3 : Option Nat) (x4 : Int32)  (n1 k1 : Nat) (hn1 : n0 ≤ n1) (hk1 : k0 ≤ k1) (m0 : fk_M) {R23 : Int32 → Nat → Nat → fk_M → Option (Int32 × Nat × Nat × fk_M)} (hR23 : ∀ (v4 : Int32) (n9 k9 : Nat) (m9 : fk_M), n0 ≤ n9 → k0 ≤ k9 → R23 v4 n9 k9 m9 = some (r, nF, kF, mF) → fk_W E 7 n9 m9 (n9 - n0) (k9 - k0) 23 [(0, tR x0), (1, tR x1), (2, tR x2), (3, tR x3), (4, tI v4)] []) (hM23 : ∀ (v4 : Int32) (n9 k9 : Nat) (m9 : fk_M), Mo4 n9 k9 (R23 v4 n9 k9 m9)) (hf : f_L_law_J1074 G.2.2 R23 x0 x1 x2 x3 x4 n1 k1 m0 = some (r, nF, kF, mF)) : fk_W E 7 n1 m0 (n1 - n0) (k1 - k0) 1074 [(0, tR x0), (1, tR x1), (2, tR x2), (3, tR x3), (4, tI x4)] [] := by
  unfold f_L_law_J1074 at hf
  refine fk_aload_n X 1 dL_law_1074 rfl ?_
  refine fk_aload_n X 0 dL_law_1075 rfl ?_
  refine fk_iload X 4 dL_law_1076 rfl ?_
  refine fk_iconst (v := 1) X dL_law_1078 rfl ?_
  refine fk_iadd X dL_law_1079 ?_
  refine fk_iaload' X dL_law_1080 hf (fun z1 hf => ?_)
  obtain ⟨u2, hq, hf⟩ := bI hf
  obtain ⟨z3, m4, hv, hf⟩ := bn2_eq hf
  have hm : n1 ≤ nF ∧ k1 ≤ kF := Mo4.use hf (Mo4.bind (fun z5 => Mo4.bind (fun u6 => Mo4.bn2 (fun z7 m8 => Mo4.ite ((mo_L_law_J2125 G.2.2 R23 x0 x1 x2 x3 x4 n1 k1 m8 hM23)) (Mo4.ok (by omega) (by omega))))))
  refine fk_callV0I (ci := 0) (rest := []) X hq rfl (c_X1_fitAt hv) n_X1_fitAt q1213 q1214 q1215 q122 q1216 rfl dL_law_1081 rfl rfl rfl rfl rfl (by omega) (by omega) ?_
  refine fk_aload_n X 2 dL_law_1084 rfl ?_
  refine fk_aload_n X 0 dL_law_1085 rfl ?_
  refine fk_iload X 4 dL_law_1086 rfl ?_
  refine fk_iconst (v := 1) X dL_law_1088 rfl ?_
  refine fk_iadd X dL_law_1089 ?_
  refine fk_iaload' X dL_law_1090 hf (fun z5 hf => ?_)
  obtain ⟨u6, hq, hf⟩ := bI hf
  obtain ⟨z7, m8, hv, hf⟩ := bn2_eq hf
  have hm : n1 ≤ nF ∧ k1 ≤ kF := Mo4.use hf (Mo4.ite ((mo_L_law_J2125 G.2.2 R23 x0 x1 x2 x3 x4 n1 k1 m8 hM23)) (Mo4.ok (by omega) (by omega)))
  refine fk_callV0I (ci := 1) (rest := [tI z3]) X hq rfl (c_X2_fitAt hv) n_X2_fitAt q1988 q1989 q1990 q126 q1991 rfl dL_law_1091 rfl rfl rfl rfl rfl (by omega) (by omega) ?_
  refine fk_icmp_eq' X 2125 dL_law_1094 rfl hf (fun hf => ?_) (fun hf => ?_)
  · have hn : n0 ≤ n1 := by omega
    have hk : k0 ≤ k1 := by omega
    exact fk_cut' (w_L_law_J2125 X hB Y x0 x1 x2 x3 x4 n1 k1 hn hk m8 hR23 hM23 hf) [0, 1, 2, 3, 4] rfl
  · refine fk_iconst (v := 0) X dL_law_1097 rfl ?_
    cases hf
    exact fk_lawret X Y dL_law_1098 (by omega) (by omega)
set_option maxHeartbeats 4000000 in
theorem w_L_law_J1099 {E : fk_E} {l : Launch} {G : fk_G} {b0 n0 k0 nF kF : Nat} {r : Int32} {mF : fk_M} (X : fk_X E l G b0 "FigureKneeLaw" "law" cL_law 7 8192 100000 1200128 5501098) (hB : nF - n0 ≤ 1200128 ∧ kF - k0 ≤ 5501098) (Y : fk_YL E r) (x0 : Option Nat) (x1 : Option Nat) (x2 : Option Nat) (x3 : Option Nat) (x4 : Int32)  (n1 k1 : Nat) (hn1 : n0 ≤ n1) (hk1 : k0 ≤ k1) (m0 : fk_M) {R23 : Int32 → Nat → Nat → fk_M → Option (Int32 × Nat × Nat × fk_M)} (hR23 : ∀ (v4 : Int32) (n9 k9 : Nat) (m9 : fk_M), n0 ≤ n9 → k0 ≤ k9 → R23 v4 n9 k9 m9 = some (r, nF, kF, mF) → fk_W E 7 n9 m9 (n9 - n0) (k9 - k0) 23 [(0, tR x0), (1, tR x1), (2, tR x2), (3, tR x3), (4, tI v4)] []) (hM23 : ∀ (v4 : Int32) (n9 k9 : Nat) (m9 : fk_M), Mo4 n9 k9 (R23 v4 n9 k9 m9)) (hf : f_L_law_J1099 G.2.2 R23 x0 x1 x2 x3 x4 n1 k1 m0 = some (r, nF, kF, mF)) : fk_W E 7 n1 m0 (n1 - n0) (k1 - k0) 1099 [(0, tR x0), (1, tR x1), (2, tR x2), (3, tR x3), (4, tI x4)] [] := by
  unfold f_L_law_J1099 at hf
  refine fk_aload_n X 1 dL_law_1099 rfl ?_
  obtain ⟨u1, hq, hf⟩ := bI hf
  obtain ⟨z2, m3, hv, hf⟩ := bn2_eq hf
  have hm : n1 ≤ nF ∧ k1 ≤ kF := Mo4.use hf (Mo4.bind (fun u4 => Mo4.bn2 (fun z5 m6 => Mo4.ite ((mo_L_law_J2125 G.2.2 R23 x0 x1 x2 x3 x4 n1 k1 m6 hM23)) (Mo4.ok (by omega) (by omega)))))
  refine fk_callV0I (ci := 0) (rest := []) X hq rfl (c_X1_could hv) n_X1_could q1217 q1218 q1219 q122 q1220 rfl dL_law_1100 rfl rfl rfl rfl rfl (by omega) (by omega) ?_
  refine fk_aload_n X 2 dL_law_1103 rfl ?_
  obtain ⟨u4, hq, hf⟩ := bI hf
  obtain ⟨z5, m6, hv, hf⟩ := bn2_eq hf
  have hm : n1 ≤ nF ∧ k1 ≤ kF := Mo4.use hf (Mo4.ite ((mo_L_law_J2125 G.2.2 R23 x0 x1 x2 x3 x4 n1 k1 m6 hM23)) (Mo4.ok (by omega) (by omega)))
  refine fk_callV0I (ci := 1) (rest := [tI z2]) X hq rfl (c_X2_could hv) n_X2_could q1992 q1993 q1994 q126 q1995 rfl dL_law_1104 rfl rfl rfl rfl rfl (by omega) (by omega) ?_
  refine fk_icmp_eq' X 2125 dL_law_1107 rfl hf (fun hf => ?_) (fun hf => ?_)
  · have hn : n0 ≤ n1 := by omega
    have hk : k0 ≤ k1 := by omega
    exact fk_cut' (w_L_law_J2125 X hB Y x0 x1 x2 x3 x4 n1 k1 hn hk m6 hR23 hM23 hf) [0, 1, 2, 3, 4] rfl
  · refine fk_iconst (v := 0) X dL_law_1110 rfl ?_
    cases hf
    exact fk_lawret X Y dL_law_1111 (by omega) (by omega)
set_option maxHeartbeats 4000000 in
theorem w_L_law_J1112 {E : fk_E} {l : Launch} {G : fk_G} {b0 n0 k0 nF kF : Nat} {r : Int32} {mF : fk_M} (X : fk_X E l G b0 "FigureKneeLaw" "law" cL_law 7 8192 100000 1200128 5501098) (hB : nF - n0 ≤ 1200128 ∧ kF - k0 ≤ 5501098) (Y : fk_YL E r) (x0 : Option Nat) (x1 : Option Nat) (x2 : Option Nat) (x3 : Option Nat) (x4 : Int32)  (n1 k1 : Nat) (hn1 : n0 ≤ n1) (hk1 : k0 ≤ k1) (m0 : fk_M) {R23 : Int32 → Nat → Nat → fk_M → Option (Int32 × Nat × Nat × fk_M)} (hR23 : ∀ (v4 : Int32) (n9 k9 : Nat) (m9 : fk_M), n0 ≤ n9 → k0 ≤ k9 → R23 v4 n9 k9 m9 = some (r, nF, kF, mF) → fk_W E 7 n9 m9 (n9 - n0) (k9 - k0) 23 [(0, tR x0), (1, tR x1), (2, tR x2), (3, tR x3), (4, tI v4)] []) (hM23 : ∀ (v4 : Int32) (n9 k9 : Nat) (m9 : fk_M), Mo4 n9 k9 (R23 v4 n9 k9 m9)) (hf : f_L_law_J1112 G.2.2 R23 x0 x1 x2 x3 x4 n1 k1 m0 = some (r, nF, kF, mF)) : fk_W E 7 n1 m0 (n1 - n0) (k1 - k0) 1112 [(0, tR x0), (1, tR x1), (2, tR x2), (3, tR x3), (4, tI x4)] [] := by
  unfold f_L_law_J1112 at hf
  refine fk_aload_n X 1 dL_law_1112 rfl ?_
  obtain ⟨u1, hq, hf⟩ := bI hf
  obtain ⟨z2, m3, hv, hf⟩ := bn2_eq hf
  have hm : n1 ≤ nF ∧ k1 ≤ kF := Mo4.use hf (Mo4.bind (fun u4 => Mo4.bn2 (fun z5 m6 => Mo4.ite ((mo_L_law_J2125 G.2.2 R23 x0 x1 x2 x3 x4 n1 k1 m6 hM23)) (Mo4.ok (by omega) (by omega)))))
  refine fk_callV0I (ci := 0) (rest := []) X hq rfl (c_X1_surely hv) n_X1_surely q1221 q1222 q1223 q122 q1224 rfl dL_law_1113 rfl rfl rfl rfl rfl (by omega) (by omega) ?_
  refine fk_aload_n X 2 dL_law_1116 rfl ?_
  obtain ⟨u4, hq, hf⟩ := bI hf
  obtain ⟨z5, m6, hv, hf⟩ := bn2_eq hf
  have hm : n1 ≤ nF ∧ k1 ≤ kF := Mo4.use hf (Mo4.ite ((mo_L_law_J2125 G.2.2 R23 x0 x1 x2 x3 x4 n1 k1 m6 hM23)) (Mo4.ok (by omega) (by omega)))
  refine fk_callV0I (ci := 1) (rest := [tI z2]) X hq rfl (c_X2_surely hv) n_X2_surely q1996 q1997 q1998 q126 q1999 rfl dL_law_1117 rfl rfl rfl rfl rfl (by omega) (by omega) ?_
  refine fk_icmp_eq' X 2125 dL_law_1120 rfl hf (fun hf => ?_) (fun hf => ?_)
  · have hn : n0 ≤ n1 := by omega
    have hk : k0 ≤ k1 := by omega
    exact fk_cut' (w_L_law_J2125 X hB Y x0 x1 x2 x3 x4 n1 k1 hn hk m6 hR23 hM23 hf) [0, 1, 2, 3, 4] rfl
  · refine fk_iconst (v := 0) X dL_law_1123 rfl ?_
    cases hf
    exact fk_lawret X Y dL_law_1124 (by omega) (by omega)
