set_option maxRecDepth 100000
set_option maxHeartbeats 4000000 in
theorem w_L_law_J1125 {E : fk_E} {l : Launch} {G : fk_G} {b0 n0 k0 nF kF : Nat} {r : Int32} {mF : fk_M} (X : fk_X E l G b0 "FigureKneeLaw" "law" cL_law 7 8192 100000 1200128 5501098) (hB : nF - n0 ≤ 1200128 ∧ kF - k0 ≤ 5501098) (Y : fk_YL E r) (x0 : Option Nat) (x1 : Option Nat) (x2 : Option Nat) (x3 : Option Nat) (x4 : Int32)  (n1 k1 : Nat) (hn1 : n0 ≤ n1) (hk1 : k0 ≤ k1) (m0 : fk_M) {R23 : Int32 → Nat → Nat → fk_M → Option (Int32 × Nat × Nat × fk_M)} (hR23 : ∀ (v4 : Int32) (n9 k9 : Nat) (m9 : fk_M), n0 ≤ n9 → k0 ≤ k9 → R23 v4 n9 k9 m9 = some (r, nF, kF, mF) → fk_W E 7 n9 m9 (n9 - n0) (k9 - k0) 23 [(0, tR x0), (1, tR x1), (2, tR x2), (3, tR x3), (4, tI v4)] []) (hM23 : ∀ (v4 : Int32) (n9 k9 : Nat) (m9 : fk_M), Mo4 n9 k9 (R23 v4 n9 k9 m9)) (hf : f_L_law_J1125 G.2.2 R23 x0 x1 x2 x3 x4 n1 k1 m0 = some (r, nF, kF, mF)) : fk_W E 7 n1 m0 (n1 - n0) (k1 - k0) 1125 [(0, tR x0), (1, tR x1), (2, tR x2), (3, tR x3), (4, tI x4)] [] := by
  unfold f_L_law_J1125 at hf
  refine fk_aload_n X 1 dL_law_1125 rfl ?_
  obtain ⟨u1, hq, hf⟩ := bI hf
  obtain ⟨z2, m3, hv, hf⟩ := bn2_eq hf
  have hm : n1 ≤ nF ∧ k1 ≤ kF := Mo4.use hf (Mo4.bind (fun u4 => Mo4.bn2 (fun z5 m6 => Mo4.ite ((mo_L_law_J2125 G.2.2 R23 x0 x1 x2 x3 x4 n1 k1 m6 hM23)) (Mo4.ok (by omega) (by omega)))))
  refine fk_callV0I (ci := 0) (rest := []) X hq rfl (c_X1_ask hv) n_X1_ask q1225 q1226 q1227 q122 q1228 rfl dL_law_1126 rfl rfl rfl rfl rfl (by omega) (by omega) ?_
  refine fk_aload_n X 2 dL_law_1129 rfl ?_
  obtain ⟨u4, hq, hf⟩ := bI hf
  obtain ⟨z5, m6, hv, hf⟩ := bn2_eq hf
  have hm : n1 ≤ nF ∧ k1 ≤ kF := Mo4.use hf (Mo4.ite ((mo_L_law_J2125 G.2.2 R23 x0 x1 x2 x3 x4 n1 k1 m6 hM23)) (Mo4.ok (by omega) (by omega)))
  refine fk_callV0I (ci := 1) (rest := [tI z2]) X hq rfl (c_X2_ask hv) n_X2_ask q2000 q2001 q2002 q126 q2003 rfl dL_law_1130 rfl rfl rfl rfl rfl (by omega) (by omega) ?_
  refine fk_icmp_eq' X 2125 dL_law_1133 rfl hf (fun hf => ?_) (fun hf => ?_)
  · have hn : n0 ≤ n1 := by omega
    have hk : k0 ≤ k1 := by omega
    exact fk_cut' (w_L_law_J2125 X hB Y x0 x1 x2 x3 x4 n1 k1 hn hk m6 hR23 hM23 hf) [0, 1, 2, 3, 4] rfl
  · refine fk_iconst (v := 0) X dL_law_1136 rfl ?_
    cases hf
    exact fk_lawret X Y dL_law_1137 (by omega) (by omega)
set_option maxHeartbeats 4000000 in
theorem w_L_law_J1138 {E : fk_E} {l : Launch} {G : fk_G} {b0 n0 k0 nF kF : Nat} {r : Int32} {mF : fk_M} (X : fk_X E l G b0 "FigureKneeLaw" "law" cL_law 7 8192 100000 1200128 5501098) (hB : nF - n0 ≤ 1200128 ∧ kF - k0 ≤ 5501098) (Y : fk_YL E r) (x0 : Option Nat) (x1 : Option Nat) (x2 : Option Nat) (x3 : Option Nat) (x4 : Int32)  (n1 k1 : Nat) (hn1 : n0 ≤ n1) (hk1 : k0 ≤ k1) (m0 : fk_M) {R23 : Int32 → Nat → Nat → fk_M → Option (Int32 × Nat × Nat × fk_M)} (hR23 : ∀ (v4 : Int32) (n9 k9 : Nat) (m9 : fk_M), n0 ≤ n9 → k0 ≤ k9 → R23 v4 n9 k9 m9 = some (r, nF, kF, mF) → fk_W E 7 n9 m9 (n9 - n0) (k9 - k0) 23 [(0, tR x0), (1, tR x1), (2, tR x2), (3, tR x3), (4, tI v4)] []) (hM23 : ∀ (v4 : Int32) (n9 k9 : Nat) (m9 : fk_M), Mo4 n9 k9 (R23 v4 n9 k9 m9)) (hf : f_L_law_J1138 G.2.2 R23 x0 x1 x2 x3 x4 n1 k1 m0 = some (r, nF, kF, mF)) : fk_W E 7 n1 m0 (n1 - n0) (k1 - k0) 1138 [(0, tR x0), (1, tR x1), (2, tR x2), (3, tR x3), (4, tI x4)] [] := by
  unfold f_L_law_J1138 at hf
  refine fk_aload_n X 1 dL_law_1138 rfl ?_
  obtain ⟨u1, hq, hf⟩ := bI hf
  obtain ⟨z2, m3, hv, hf⟩ := bn2_eq hf
  have hm : n1 ≤ nF ∧ k1 ≤ kF := Mo4.use hf (Mo4.bind (fun u4 => Mo4.bn2 (fun z5 m6 => Mo4.ite ((mo_L_law_J2125 G.2.2 R23 x0 x1 x2 x3 x4 n1 k1 m6 hM23)) (Mo4.ok (by omega) (by omega)))))
  refine fk_callV0I (ci := 0) (rest := []) X hq rfl (c_X1_askLeaves hv) n_X1_askLeaves q1233 q1234 q1235 q122 q1236 rfl dL_law_1139 rfl rfl rfl rfl rfl (by omega) (by omega) ?_
  refine fk_aload_n X 2 dL_law_1142 rfl ?_
  obtain ⟨u4, hq, hf⟩ := bI hf
  obtain ⟨z5, m6, hv, hf⟩ := bn2_eq hf
  have hm : n1 ≤ nF ∧ k1 ≤ kF := Mo4.use hf (Mo4.ite ((mo_L_law_J2125 G.2.2 R23 x0 x1 x2 x3 x4 n1 k1 m6 hM23)) (Mo4.ok (by omega) (by omega)))
  refine fk_callV0I (ci := 1) (rest := [tI z2]) X hq rfl (c_X2_askLeaves hv) n_X2_askLeaves q2012 q2013 q2014 q126 q2015 rfl dL_law_1143 rfl rfl rfl rfl rfl (by omega) (by omega) ?_
  refine fk_icmp_eq' X 2125 dL_law_1146 rfl hf (fun hf => ?_) (fun hf => ?_)
  · have hn : n0 ≤ n1 := by omega
    have hk : k0 ≤ k1 := by omega
    exact fk_cut' (w_L_law_J2125 X hB Y x0 x1 x2 x3 x4 n1 k1 hn hk m6 hR23 hM23 hf) [0, 1, 2, 3, 4] rfl
  · refine fk_iconst (v := 0) X dL_law_1149 rfl ?_
    cases hf
    exact fk_lawret X Y dL_law_1150 (by omega) (by omega)
set_option maxHeartbeats 4000000 in
theorem w_L_law_J1151 {E : fk_E} {l : Launch} {G : fk_G} {b0 n0 k0 nF kF : Nat} {r : Int32} {mF : fk_M} (X : fk_X E l G b0 "FigureKneeLaw" "law" cL_law 7 8192 100000 1200128 5501098) (hB : nF - n0 ≤ 1200128 ∧ kF - k0 ≤ 5501098) (Y : fk_YL E r) (x0 : Option Nat) (x1 : Option Nat) (x2 : Option Nat) (x3 : Option Nat) (x4 : Int32)  (n1 k1 : Nat) (hn1 : n0 ≤ n1) (hk1 : k0 ≤ k1) (m0 : fk_M) {R23 : Int32 → Nat → Nat → fk_M → Option (Int32 × Nat × Nat × fk_M)} (hR23 : ∀ (v4 : Int32) (n9 k9 : Nat) (m9 : fk_M), n0 ≤ n9 → k0 ≤ k9 → R23 v4 n9 k9 m9 = some (r, nF, kF, mF) → fk_W E 7 n9 m9 (n9 - n0) (k9 - k0) 23 [(0, tR x0), (1, tR x1), (2, tR x2), (3, tR x3), (4, tI v4)] []) (hM23 : ∀ (v4 : Int32) (n9 k9 : Nat) (m9 : fk_M), Mo4 n9 k9 (R23 v4 n9 k9 m9)) (hf : f_L_law_J1151 G.2.2 R23 x0 x1 x2 x3 x4 n1 k1 m0 = some (r, nF, kF, mF)) : fk_W E 7 n1 m0 (n1 - n0) (k1 - k0) 1151 [(0, tR x0), (1, tR x1), (2, tR x2), (3, tR x3), (4, tI x4)] [] := by
  unfold f_L_law_J1151 at hf
  refine fk_aload_n X 1 dL_law_1151 rfl ?_
  obtain ⟨u1, hq, hf⟩ := bI hf
  obtain ⟨z2, m3, hv, hf⟩ := bn2_eq hf
  have hm : n1 ≤ nF ∧ k1 ≤ kF := Mo4.use hf (Mo4.bind (fun u4 => Mo4.bn2 (fun z5 m6 => Mo4.ite ((mo_L_law_J2125 G.2.2 R23 x0 x1 x2 x3 x4 n1 k1 m6 hM23)) (Mo4.ok (by omega) (by omega)))))
  refine fk_callV0I (ci := 0) (rest := []) X hq rfl (c_X1_judge hv) n_X1_judge q1237 q1238 q1239 q122 q1240 rfl dL_law_1152 rfl rfl rfl rfl rfl (by omega) (by omega) ?_
  refine fk_aload_n X 2 dL_law_1155 rfl ?_
  obtain ⟨u4, hq, hf⟩ := bI hf
  obtain ⟨z5, m6, hv, hf⟩ := bn2_eq hf
  have hm : n1 ≤ nF ∧ k1 ≤ kF := Mo4.use hf (Mo4.ite ((mo_L_law_J2125 G.2.2 R23 x0 x1 x2 x3 x4 n1 k1 m6 hM23)) (Mo4.ok (by omega) (by omega)))
  refine fk_callV0I (ci := 1) (rest := [tI z2]) X hq rfl (c_X2_judge hv) n_X2_judge q2016 q2017 q2018 q126 q2019 rfl dL_law_1156 rfl rfl rfl rfl rfl (by omega) (by omega) ?_
  refine fk_icmp_eq' X 2125 dL_law_1159 rfl hf (fun hf => ?_) (fun hf => ?_)
  · have hn : n0 ≤ n1 := by omega
    have hk : k0 ≤ k1 := by omega
    exact fk_cut' (w_L_law_J2125 X hB Y x0 x1 x2 x3 x4 n1 k1 hn hk m6 hR23 hM23 hf) [0, 1, 2, 3, 4] rfl
  · refine fk_iconst (v := 0) X dL_law_1162 rfl ?_
    cases hf
    exact fk_lawret X Y dL_law_1163 (by omega) (by omega)
set_option maxHeartbeats 4000000 in
theorem w_L_law_J1164 {E : fk_E} {l : Launch} {G : fk_G} {b0 n0 k0 nF kF : Nat} {r : Int32} {mF : fk_M} (X : fk_X E l G b0 "FigureKneeLaw" "law" cL_law 7 8192 100000 1200128 5501098) (hB : nF - n0 ≤ 1200128 ∧ kF - k0 ≤ 5501098) (Y : fk_YL E r) (x0 : Option Nat) (x1 : Option Nat) (x2 : Option Nat) (x3 : Option Nat) (x4 : Int32)  (n1 k1 : Nat) (hn1 : n0 ≤ n1) (hk1 : k0 ≤ k1) (m0 : fk_M) {R23 : Int32 → Nat → Nat → fk_M → Option (Int32 × Nat × Nat × fk_M)} (hR23 : ∀ (v4 : Int32) (n9 k9 : Nat) (m9 : fk_M), n0 ≤ n9 → k0 ≤ k9 → R23 v4 n9 k9 m9 = some (r, nF, kF, mF) → fk_W E 7 n9 m9 (n9 - n0) (k9 - k0) 23 [(0, tR x0), (1, tR x1), (2, tR x2), (3, tR x3), (4, tI v4)] []) (hM23 : ∀ (v4 : Int32) (n9 k9 : Nat) (m9 : fk_M), Mo4 n9 k9 (R23 v4 n9 k9 m9)) (hf : f_L_law_J1164 G.2.2 R23 x0 x1 x2 x3 x4 n1 k1 m0 = some (r, nF, kF, mF)) : fk_W E 7 n1 m0 (n1 - n0) (k1 - k0) 1164 [(0, tR x0), (1, tR x1), (2, tR x2), (3, tR x3), (4, tI x4)] [] := by
  unfold f_L_law_J1164 at hf
  refine fk_aload_n X 1 dL_law_1164 rfl ?_
  refine fk_aload_n X 0 dL_law_1165 rfl ?_
  refine fk_iload X 4 dL_law_1166 rfl ?_
  refine fk_iconst (v := 1) X dL_law_1168 rfl ?_
  refine fk_iadd X dL_law_1169 ?_
  refine fk_iaload' X dL_law_1170 hf (fun z1 hf => ?_)
  obtain ⟨u2, hq, hf⟩ := bI hf
  obtain ⟨z3, m4, hv, hf⟩ := bn2_eq hf
  have hm : n1 ≤ nF ∧ k1 ≤ kF := Mo4.use hf (Mo4.bind (fun z5 => Mo4.bind (fun u6 => Mo4.bn2 (fun z7 m8 => Mo4.ite ((mo_L_law_J2125 G.2.2 R23 x0 x1 x2 x3 x4 n1 k1 m8 hM23)) (Mo4.ok (by omega) (by omega))))))
  refine fk_callV0I (ci := 0) (rest := []) X hq rfl (c_X1_third hv) n_X1_third q1241 q1242 q1243 q122 q1244 rfl dL_law_1171 rfl rfl rfl rfl rfl (by omega) (by omega) ?_
  refine fk_aload_n X 2 dL_law_1174 rfl ?_
  refine fk_aload_n X 0 dL_law_1175 rfl ?_
  refine fk_iload X 4 dL_law_1176 rfl ?_
  refine fk_iconst (v := 1) X dL_law_1178 rfl ?_
  refine fk_iadd X dL_law_1179 ?_
  refine fk_iaload' X dL_law_1180 hf (fun z5 hf => ?_)
  obtain ⟨u6, hq, hf⟩ := bI hf
  obtain ⟨z7, m8, hv, hf⟩ := bn2_eq hf
  have hm : n1 ≤ nF ∧ k1 ≤ kF := Mo4.use hf (Mo4.ite ((mo_L_law_J2125 G.2.2 R23 x0 x1 x2 x3 x4 n1 k1 m8 hM23)) (Mo4.ok (by omega) (by omega)))
  refine fk_callV0I (ci := 1) (rest := [tI z3]) X hq rfl (c_X2_third hv) n_X2_third q2020 q2021 q2022 q126 q2023 rfl dL_law_1181 rfl rfl rfl rfl rfl (by omega) (by omega) ?_
  refine fk_icmp_eq' X 2125 dL_law_1184 rfl hf (fun hf => ?_) (fun hf => ?_)
  · have hn : n0 ≤ n1 := by omega
    have hk : k0 ≤ k1 := by omega
    exact fk_cut' (w_L_law_J2125 X hB Y x0 x1 x2 x3 x4 n1 k1 hn hk m8 hR23 hM23 hf) [0, 1, 2, 3, 4] rfl
  · refine fk_iconst (v := 0) X dL_law_1187 rfl ?_
    cases hf
    exact fk_lawret X Y dL_law_1188 (by omega) (by omega)
set_option maxHeartbeats 4000000 in
theorem w_L_law_J1189 {E : fk_E} {l : Launch} {G : fk_G} {b0 n0 k0 nF kF : Nat} {r : Int32} {mF : fk_M} (X : fk_X E l G b0 "FigureKneeLaw" "law" cL_law 7 8192 100000 1200128 5501098) (hB : nF - n0 ≤ 1200128 ∧ kF - k0 ≤ 5501098) (Y : fk_YL E r) (x0 : Option Nat) (x1 : Option Nat) (x2 : Option Nat) (x3 : Option Nat) (x4 : Int32)  (n1 k1 : Nat) (hn1 : n0 ≤ n1) (hk1 : k0 ≤ k1) (m0 : fk_M) {R23 : Int32 → Nat → Nat → fk_M → Option (Int32 × Nat × Nat × fk_M)} (hR23 : ∀ (v4 : Int32) (n9 k9 : Nat) (m9 : fk_M), n0 ≤ n9 → k0 ≤ k9 → R23 v4 n9 k9 m9 = some (r, nF, kF, mF) → fk_W E 7 n9 m9 (n9 - n0) (k9 - k0) 23 [(0, tR x0), (1, tR x1), (2, tR x2), (3, tR x3), (4, tI v4)] []) (hM23 : ∀ (v4 : Int32) (n9 k9 : Nat) (m9 : fk_M), Mo4 n9 k9 (R23 v4 n9 k9 m9)) (hf : f_L_law_J1189 G.2.2 R23 x0 x1 x2 x3 x4 n1 k1 m0 = some (r, nF, kF, mF)) : fk_W E 7 n1 m0 (n1 - n0) (k1 - k0) 1189 [(0, tR x0), (1, tR x1), (2, tR x2), (3, tR x3), (4, tI x4)] [] := by
  unfold f_L_law_J1189 at hf
  refine fk_aload_n X 1 dL_law_1189 rfl ?_
  refine fk_aload_n X 0 dL_law_1190 rfl ?_
  refine fk_iload X 4 dL_law_1191 rfl ?_
  refine fk_iconst (v := 1) X dL_law_1193 rfl ?_
  refine fk_iadd X dL_law_1194 ?_
  refine fk_iaload' X dL_law_1195 hf (fun z1 hf => ?_)
  refine fk_aload_n X 0 dL_law_1196 rfl ?_
  refine fk_iload X 4 dL_law_1197 rfl ?_
  refine fk_iconst (v := 2) X dL_law_1199 rfl ?_
  refine fk_iadd X dL_law_1200 ?_
  refine fk_iaload' X dL_law_1201 hf (fun z2 hf => ?_)
  obtain ⟨u3, hq, hf⟩ := bI hf
  obtain ⟨z4, m5, hv, hf⟩ := bn2_eq hf
  have hm : n1 ≤ nF ∧ k1 ≤ kF := Mo4.use hf (Mo4.bind (fun z6 => Mo4.bind (fun z7 => Mo4.bind (fun u8 => Mo4.bn2 (fun z9 m10 => Mo4.ite ((mo_L_law_J2125 G.2.2 R23 x0 x1 x2 x3 x4 n1 k1 m10 hM23)) (Mo4.ok (by omega) (by omega)))))))
  refine fk_callV0I (ci := 0) (rest := []) X hq rfl (c_X1_owes hv) n_X1_owes q1245 q1246 q1247 q122 q1248 rfl dL_law_1202 rfl rfl rfl rfl rfl (by omega) (by omega) ?_
  refine fk_aload_n X 2 dL_law_1205 rfl ?_
  refine fk_aload_n X 0 dL_law_1206 rfl ?_
  refine fk_iload X 4 dL_law_1207 rfl ?_
  refine fk_iconst (v := 1) X dL_law_1209 rfl ?_
  refine fk_iadd X dL_law_1210 ?_
  refine fk_iaload' X dL_law_1211 hf (fun z6 hf => ?_)
  refine fk_aload_n X 0 dL_law_1212 rfl ?_
  refine fk_iload X 4 dL_law_1213 rfl ?_
  refine fk_iconst (v := 2) X dL_law_1215 rfl ?_
  refine fk_iadd X dL_law_1216 ?_
  refine fk_iaload' X dL_law_1217 hf (fun z7 hf => ?_)
  obtain ⟨u8, hq, hf⟩ := bI hf
  obtain ⟨z9, m10, hv, hf⟩ := bn2_eq hf
  have hm : n1 ≤ nF ∧ k1 ≤ kF := Mo4.use hf (Mo4.ite ((mo_L_law_J2125 G.2.2 R23 x0 x1 x2 x3 x4 n1 k1 m10 hM23)) (Mo4.ok (by omega) (by omega)))
  refine fk_callV0I (ci := 1) (rest := [tI z4]) X hq rfl (c_X2_owes hv) n_X2_owes q2024 q2025 q2026 q126 q2027 rfl dL_law_1218 rfl rfl rfl rfl rfl (by omega) (by omega) ?_
  refine fk_icmp_eq' X 2125 dL_law_1221 rfl hf (fun hf => ?_) (fun hf => ?_)
  · have hn : n0 ≤ n1 := by omega
    have hk : k0 ≤ k1 := by omega
    exact fk_cut' (w_L_law_J2125 X hB Y x0 x1 x2 x3 x4 n1 k1 hn hk m10 hR23 hM23 hf) [0, 1, 2, 3, 4] rfl
  · refine fk_iconst (v := 0) X dL_law_1224 rfl ?_
    cases hf
    exact fk_lawret X Y dL_law_1225 (by omega) (by omega)
set_option maxHeartbeats 4000000 in
theorem w_L_law_J1226 {E : fk_E} {l : Launch} {G : fk_G} {b0 n0 k0 nF kF : Nat} {r : Int32} {mF : fk_M} (X : fk_X E l G b0 "FigureKneeLaw" "law" cL_law 7 8192 100000 1200128 5501098) (hB : nF - n0 ≤ 1200128 ∧ kF - k0 ≤ 5501098) (Y : fk_YL E r) (x0 : Option Nat) (x1 : Option Nat) (x2 : Option Nat) (x3 : Option Nat) (x4 : Int32)  (n1 k1 : Nat) (hn1 : n0 ≤ n1) (hk1 : k0 ≤ k1) (m0 : fk_M) {R23 : Int32 → Nat → Nat → fk_M → Option (Int32 × Nat × Nat × fk_M)} (hR23 : ∀ (v4 : Int32) (n9 k9 : Nat) (m9 : fk_M), n0 ≤ n9 → k0 ≤ k9 → R23 v4 n9 k9 m9 = some (r, nF, kF, mF) → fk_W E 7 n9 m9 (n9 - n0) (k9 - k0) 23 [(0, tR x0), (1, tR x1), (2, tR x2), (3, tR x3), (4, tI v4)] []) (hM23 : ∀ (v4 : Int32) (n9 k9 : Nat) (m9 : fk_M), Mo4 n9 k9 (R23 v4 n9 k9 m9)) (hf : f_L_law_J1226 G.2.2 R23 x0 x1 x2 x3 x4 n1 k1 m0 = some (r, nF, kF, mF)) : fk_W E 7 n1 m0 (n1 - n0) (k1 - k0) 1226 [(0, tR x0), (1, tR x1), (2, tR x2), (3, tR x3), (4, tI x4)] [] := by
  unfold f_L_law_J1226 at hf
  refine fk_aload_n X 1 dL_law_1226 rfl ?_
  refine fk_aload_n X 0 dL_law_1227 rfl ?_
  refine fk_iload X 4 dL_law_1228 rfl ?_
  refine fk_iconst (v := 1) X dL_law_1230 rfl ?_
  refine fk_iadd X dL_law_1231 ?_
  refine fk_iaload' X dL_law_1232 hf (fun z1 hf => ?_)
  obtain ⟨u2, hq, hf⟩ := bI hf
  obtain ⟨z3, m4, hv, hf⟩ := bn2_eq hf
  have hm : n1 ≤ nF ∧ k1 ≤ kF := Mo4.use hf (Mo4.bind (fun z5 => Mo4.bind (fun u6 => Mo4.bn2 (fun z7 m8 => Mo4.ite ((mo_L_law_J2125 G.2.2 R23 x0 x1 x2 x3 x4 n1 k1 m8 hM23)) (Mo4.ok (by omega) (by omega))))))
  refine fk_callV0I (ci := 0) (rest := []) X hq rfl (c_X1_net hv) n_X1_net q1253 q1254 q1255 q122 q1256 rfl dL_law_1233 rfl rfl rfl rfl rfl (by omega) (by omega) ?_
  refine fk_aload_n X 2 dL_law_1236 rfl ?_
  refine fk_aload_n X 0 dL_law_1237 rfl ?_
  refine fk_iload X 4 dL_law_1238 rfl ?_
  refine fk_iconst (v := 1) X dL_law_1240 rfl ?_
  refine fk_iadd X dL_law_1241 ?_
  refine fk_iaload' X dL_law_1242 hf (fun z5 hf => ?_)
  obtain ⟨u6, hq, hf⟩ := bI hf
  obtain ⟨z7, m8, hv, hf⟩ := bn2_eq hf
  have hm : n1 ≤ nF ∧ k1 ≤ kF := Mo4.use hf (Mo4.ite ((mo_L_law_J2125 G.2.2 R23 x0 x1 x2 x3 x4 n1 k1 m8 hM23)) (Mo4.ok (by omega) (by omega)))
  refine fk_callV0I (ci := 1) (rest := [tI z3]) X hq rfl (c_X2_net hv) n_X2_net q2032 q2033 q2034 q126 q2035 rfl dL_law_1243 rfl rfl rfl rfl rfl (by omega) (by omega) ?_
  refine fk_icmp_eq' X 2125 dL_law_1246 rfl hf (fun hf => ?_) (fun hf => ?_)
  · have hn : n0 ≤ n1 := by omega
    have hk : k0 ≤ k1 := by omega
    exact fk_cut' (w_L_law_J2125 X hB Y x0 x1 x2 x3 x4 n1 k1 hn hk m8 hR23 hM23 hf) [0, 1, 2, 3, 4] rfl
  · refine fk_iconst (v := 0) X dL_law_1249 rfl ?_
    cases hf
    exact fk_lawret X Y dL_law_1250 (by omega) (by omega)
set_option maxHeartbeats 4000000 in
theorem w_L_law_J1251 {E : fk_E} {l : Launch} {G : fk_G} {b0 n0 k0 nF kF : Nat} {r : Int32} {mF : fk_M} (X : fk_X E l G b0 "FigureKneeLaw" "law" cL_law 7 8192 100000 1200128 5501098) (hB : nF - n0 ≤ 1200128 ∧ kF - k0 ≤ 5501098) (Y : fk_YL E r) (x0 : Option Nat) (x1 : Option Nat) (x2 : Option Nat) (x3 : Option Nat) (x4 : Int32)  (n1 k1 : Nat) (hn1 : n0 ≤ n1) (hk1 : k0 ≤ k1) (m0 : fk_M) {R23 : Int32 → Nat → Nat → fk_M → Option (Int32 × Nat × Nat × fk_M)} (hR23 : ∀ (v4 : Int32) (n9 k9 : Nat) (m9 : fk_M), n0 ≤ n9 → k0 ≤ k9 → R23 v4 n9 k9 m9 = some (r, nF, kF, mF) → fk_W E 7 n9 m9 (n9 - n0) (k9 - k0) 23 [(0, tR x0), (1, tR x1), (2, tR x2), (3, tR x3), (4, tI v4)] []) (hM23 : ∀ (v4 : Int32) (n9 k9 : Nat) (m9 : fk_M), Mo4 n9 k9 (R23 v4 n9 k9 m9)) (hf : f_L_law_J1251 G.2.2 R23 x0 x1 x2 x3 x4 n1 k1 m0 = some (r, nF, kF, mF)) : fk_W E 7 n1 m0 (n1 - n0) (k1 - k0) 1251 [(0, tR x0), (1, tR x1), (2, tR x2), (3, tR x3), (4, tI x4)] [] := by
  unfold f_L_law_J1251 at hf
  refine fk_aload_n X 1 dL_law_1251 rfl ?_
  obtain ⟨u1, hq, hf⟩ := bI hf
  obtain ⟨z2, m3, hv, hf⟩ := bn2_eq hf
  have hm : n1 ≤ nF ∧ k1 ≤ kF := Mo4.use hf (Mo4.bind (fun u4 => Mo4.bn2 (fun z5 m6 => Mo4.ite ((mo_L_law_J2125 G.2.2 R23 x0 x1 x2 x3 x4 n1 k1 m6 hM23)) (Mo4.ok (by omega) (by omega)))))
  refine fk_callV0I (ci := 0) (rest := []) X hq rfl (c_X1_due hv) n_X1_due q1266 q1267 q1268 q122 q1269 rfl dL_law_1252 rfl rfl rfl rfl rfl (by omega) (by omega) ?_
  refine fk_aload_n X 2 dL_law_1255 rfl ?_
  obtain ⟨u4, hq, hf⟩ := bI hf
  obtain ⟨z5, m6, hv, hf⟩ := bn2_eq hf
  have hm : n1 ≤ nF ∧ k1 ≤ kF := Mo4.use hf (Mo4.ite ((mo_L_law_J2125 G.2.2 R23 x0 x1 x2 x3 x4 n1 k1 m6 hM23)) (Mo4.ok (by omega) (by omega)))
  refine fk_callV0I (ci := 1) (rest := [tI z2]) X hq rfl (c_X2_due hv) n_X2_due q2041 q2042 q2043 q126 q2044 rfl dL_law_1256 rfl rfl rfl rfl rfl (by omega) (by omega) ?_
  refine fk_icmp_eq' X 2125 dL_law_1259 rfl hf (fun hf => ?_) (fun hf => ?_)
  · have hn : n0 ≤ n1 := by omega
    have hk : k0 ≤ k1 := by omega
    exact fk_cut' (w_L_law_J2125 X hB Y x0 x1 x2 x3 x4 n1 k1 hn hk m6 hR23 hM23 hf) [0, 1, 2, 3, 4] rfl
  · refine fk_iconst (v := 0) X dL_law_1262 rfl ?_
    cases hf
    exact fk_lawret X Y dL_law_1263 (by omega) (by omega)
set_option maxHeartbeats 4000000 in
theorem w_L_law_J1264 {E : fk_E} {l : Launch} {G : fk_G} {b0 n0 k0 nF kF : Nat} {r : Int32} {mF : fk_M} (X : fk_X E l G b0 "FigureKneeLaw" "law" cL_law 7 8192 100000 1200128 5501098) (hB : nF - n0 ≤ 1200128 ∧ kF - k0 ≤ 5501098) (Y : fk_YL E r) (x0 : Option Nat) (x1 : Option Nat) (x2 : Option Nat) (x3 : Option Nat) (x4 : Int32)  (n1 k1 : Nat) (hn1 : n0 ≤ n1) (hk1 : k0 ≤ k1) (m0 : fk_M) {R23 : Int32 → Nat → Nat → fk_M → Option (Int32 × Nat × Nat × fk_M)} (hR23 : ∀ (v4 : Int32) (n9 k9 : Nat) (m9 : fk_M), n0 ≤ n9 → k0 ≤ k9 → R23 v4 n9 k9 m9 = some (r, nF, kF, mF) → fk_W E 7 n9 m9 (n9 - n0) (k9 - k0) 23 [(0, tR x0), (1, tR x1), (2, tR x2), (3, tR x3), (4, tI v4)] []) (hM23 : ∀ (v4 : Int32) (n9 k9 : Nat) (m9 : fk_M), Mo4 n9 k9 (R23 v4 n9 k9 m9)) (hf : f_L_law_J1264 G.2.2 R23 x0 x1 x2 x3 x4 n1 k1 m0 = some (r, nF, kF, mF)) : fk_W E 7 n1 m0 (n1 - n0) (k1 - k0) 1264 [(0, tR x0), (1, tR x1), (2, tR x2), (3, tR x3), (4, tI x4)] [] := by
  unfold f_L_law_J1264 at hf
  refine fk_aload_n X 1 dL_law_1264 rfl ?_
  obtain ⟨u1, hq, hf⟩ := bI hf
  obtain ⟨z2, m3, hv, hf⟩ := bn2_eq hf
  have hm : n1 ≤ nF ∧ k1 ≤ kF := Mo4.use hf (Mo4.bind (fun u4 => Mo4.bn2 (fun z5 m6 => Mo4.ite ((mo_L_law_J2125 G.2.2 R23 x0 x1 x2 x3 x4 n1 k1 m6 hM23)) (Mo4.ok (by omega) (by omega)))))
  refine fk_callV0I (ci := 0) (rest := []) X hq rfl (c_X1_creditor hv) n_X1_creditor q1270 q1271 q1272 q122 q1273 rfl dL_law_1265 rfl rfl rfl rfl rfl (by omega) (by omega) ?_
  refine fk_aload_n X 2 dL_law_1268 rfl ?_
  obtain ⟨u4, hq, hf⟩ := bI hf
  obtain ⟨z5, m6, hv, hf⟩ := bn2_eq hf
  have hm : n1 ≤ nF ∧ k1 ≤ kF := Mo4.use hf (Mo4.ite ((mo_L_law_J2125 G.2.2 R23 x0 x1 x2 x3 x4 n1 k1 m6 hM23)) (Mo4.ok (by omega) (by omega)))
  refine fk_callV0I (ci := 1) (rest := [tI z2]) X hq rfl (c_X2_creditor hv) n_X2_creditor q2045 q2046 q2047 q126 q2048 rfl dL_law_1269 rfl rfl rfl rfl rfl (by omega) (by omega) ?_
  refine fk_icmp_eq' X 2125 dL_law_1272 rfl hf (fun hf => ?_) (fun hf => ?_)
  · have hn : n0 ≤ n1 := by omega
    have hk : k0 ≤ k1 := by omega
    exact fk_cut' (w_L_law_J2125 X hB Y x0 x1 x2 x3 x4 n1 k1 hn hk m6 hR23 hM23 hf) [0, 1, 2, 3, 4] rfl
  · refine fk_iconst (v := 0) X dL_law_1275 rfl ?_
    cases hf
    exact fk_lawret X Y dL_law_1276 (by omega) (by omega)
set_option maxHeartbeats 4000000 in
theorem w_L_law_J1277 {E : fk_E} {l : Launch} {G : fk_G} {b0 n0 k0 nF kF : Nat} {r : Int32} {mF : fk_M} (X : fk_X E l G b0 "FigureKneeLaw" "law" cL_law 7 8192 100000 1200128 5501098) (hB : nF - n0 ≤ 1200128 ∧ kF - k0 ≤ 5501098) (Y : fk_YL E r) (x0 : Option Nat) (x1 : Option Nat) (x2 : Option Nat) (x3 : Option Nat) (x4 : Int32)  (n1 k1 : Nat) (hn1 : n0 ≤ n1) (hk1 : k0 ≤ k1) (m0 : fk_M) {R23 : Int32 → Nat → Nat → fk_M → Option (Int32 × Nat × Nat × fk_M)} (hR23 : ∀ (v4 : Int32) (n9 k9 : Nat) (m9 : fk_M), n0 ≤ n9 → k0 ≤ k9 → R23 v4 n9 k9 m9 = some (r, nF, kF, mF) → fk_W E 7 n9 m9 (n9 - n0) (k9 - k0) 23 [(0, tR x0), (1, tR x1), (2, tR x2), (3, tR x3), (4, tI v4)] []) (hM23 : ∀ (v4 : Int32) (n9 k9 : Nat) (m9 : fk_M), Mo4 n9 k9 (R23 v4 n9 k9 m9)) (hf : f_L_law_J1277 G.2.2 R23 x0 x1 x2 x3 x4 n1 k1 m0 = some (r, nF, kF, mF)) : fk_W E 7 n1 m0 (n1 - n0) (k1 - k0) 1277 [(0, tR x0), (1, tR x1), (2, tR x2), (3, tR x3), (4, tI x4)] [] := by
  unfold f_L_law_J1277 at hf
  refine fk_aload_n X 1 dL_law_1277 rfl ?_
  obtain ⟨u1, hq, hf⟩ := bI hf
  obtain ⟨z2, m3, hv, hf⟩ := bn2_eq hf
  have hm : n1 ≤ nF ∧ k1 ≤ kF := Mo4.use hf (Mo4.bind (fun u4 => Mo4.bn2 (fun z5 m6 => Mo4.ite ((mo_L_law_J2125 G.2.2 R23 x0 x1 x2 x3 x4 n1 k1 m6 hM23)) (Mo4.ok (by omega) (by omega)))))
  refine fk_callV0I (ci := 0) (rest := []) X hq rfl (c_X1_payments hv) n_X1_payments q1274 q1275 q1276 q122 q1277 rfl dL_law_1278 rfl rfl rfl rfl rfl (by omega) (by omega) ?_
  refine fk_aload_n X 2 dL_law_1281 rfl ?_
  obtain ⟨u4, hq, hf⟩ := bI hf
  obtain ⟨z5, m6, hv, hf⟩ := bn2_eq hf
  have hm : n1 ≤ nF ∧ k1 ≤ kF := Mo4.use hf (Mo4.ite ((mo_L_law_J2125 G.2.2 R23 x0 x1 x2 x3 x4 n1 k1 m6 hM23)) (Mo4.ok (by omega) (by omega)))
  refine fk_callV0I (ci := 1) (rest := [tI z2]) X hq rfl (c_X2_payments hv) n_X2_payments q2049 q2050 q2051 q126 q2052 rfl dL_law_1282 rfl rfl rfl rfl rfl (by omega) (by omega) ?_
  refine fk_icmp_eq' X 2125 dL_law_1285 rfl hf (fun hf => ?_) (fun hf => ?_)
  · have hn : n0 ≤ n1 := by omega
    have hk : k0 ≤ k1 := by omega
    exact fk_cut' (w_L_law_J2125 X hB Y x0 x1 x2 x3 x4 n1 k1 hn hk m6 hR23 hM23 hf) [0, 1, 2, 3, 4] rfl
  · refine fk_iconst (v := 0) X dL_law_1288 rfl ?_
    cases hf
    exact fk_lawret X Y dL_law_1289 (by omega) (by omega)
set_option maxHeartbeats 4000000 in
theorem w_L_law_J1290 {E : fk_E} {l : Launch} {G : fk_G} {b0 n0 k0 nF kF : Nat} {r : Int32} {mF : fk_M} (X : fk_X E l G b0 "FigureKneeLaw" "law" cL_law 7 8192 100000 1200128 5501098) (hB : nF - n0 ≤ 1200128 ∧ kF - k0 ≤ 5501098) (Y : fk_YL E r) (x0 : Option Nat) (x1 : Option Nat) (x2 : Option Nat) (x3 : Option Nat) (x4 : Int32)  (n1 k1 : Nat) (hn1 : n0 ≤ n1) (hk1 : k0 ≤ k1) (m0 : fk_M) {R23 : Int32 → Nat → Nat → fk_M → Option (Int32 × Nat × Nat × fk_M)} (hR23 : ∀ (v4 : Int32) (n9 k9 : Nat) (m9 : fk_M), n0 ≤ n9 → k0 ≤ k9 → R23 v4 n9 k9 m9 = some (r, nF, kF, mF) → fk_W E 7 n9 m9 (n9 - n0) (k9 - k0) 23 [(0, tR x0), (1, tR x1), (2, tR x2), (3, tR x3), (4, tI v4)] []) (hM23 : ∀ (v4 : Int32) (n9 k9 : Nat) (m9 : fk_M), Mo4 n9 k9 (R23 v4 n9 k9 m9)) (hf : f_L_law_J1290 G.2.2 R23 x0 x1 x2 x3 x4 n1 k1 m0 = some (r, nF, kF, mF)) : fk_W E 7 n1 m0 (n1 - n0) (k1 - k0) 1290 [(0, tR x0), (1, tR x1), (2, tR x2), (3, tR x3), (4, tI x4)] [] := by
  unfold f_L_law_J1290 at hf
  refine fk_aload_n X 1 dL_law_1290 rfl ?_
  refine fk_aload_n X 0 dL_law_1291 rfl ?_
  refine fk_iload X 4 dL_law_1292 rfl ?_
  refine fk_iconst (v := 1) X dL_law_1294 rfl ?_
  refine fk_iadd X dL_law_1295 ?_
  refine fk_iaload' X dL_law_1296 hf (fun z1 hf => ?_)
  obtain ⟨u2, hq, hf⟩ := bI hf
  obtain ⟨z3, m4, hv, hf⟩ := bn2_eq hf
  have hm : n1 ≤ nF ∧ k1 ≤ kF := Mo4.use hf (Mo4.bind (fun z5 => Mo4.bind (fun u6 => Mo4.bn2 (fun z7 m8 => Mo4.ite ((mo_L_law_J2125 G.2.2 R23 x0 x1 x2 x3 x4 n1 k1 m8 hM23)) (Mo4.ok (by omega) (by omega))))))
  refine fk_callV0I (ci := 0) (rest := []) X hq rfl (c_X1_ring hv) n_X1_ring q1281 q1282 q1283 q122 q1284 rfl dL_law_1297 rfl rfl rfl rfl rfl (by omega) (by omega) ?_
  refine fk_aload_n X 2 dL_law_1300 rfl ?_
  refine fk_aload_n X 0 dL_law_1301 rfl ?_
  refine fk_iload X 4 dL_law_1302 rfl ?_
  refine fk_iconst (v := 1) X dL_law_1304 rfl ?_
  refine fk_iadd X dL_law_1305 ?_
  refine fk_iaload' X dL_law_1306 hf (fun z5 hf => ?_)
  obtain ⟨u6, hq, hf⟩ := bI hf
  obtain ⟨z7, m8, hv, hf⟩ := bn2_eq hf
  have hm : n1 ≤ nF ∧ k1 ≤ kF := Mo4.use hf (Mo4.ite ((mo_L_law_J2125 G.2.2 R23 x0 x1 x2 x3 x4 n1 k1 m8 hM23)) (Mo4.ok (by omega) (by omega)))
  refine fk_callV0I (ci := 1) (rest := [tI z3]) X hq rfl (c_X2_ring hv) n_X2_ring q2064 q2065 q2066 q126 q2067 rfl dL_law_1307 rfl rfl rfl rfl rfl (by omega) (by omega) ?_
  refine fk_icmp_eq' X 2125 dL_law_1310 rfl hf (fun hf => ?_) (fun hf => ?_)
  · have hn : n0 ≤ n1 := by omega
    have hk : k0 ≤ k1 := by omega
    exact fk_cut' (w_L_law_J2125 X hB Y x0 x1 x2 x3 x4 n1 k1 hn hk m8 hR23 hM23 hf) [0, 1, 2, 3, 4] rfl
  · refine fk_iconst (v := 0) X dL_law_1313 rfl ?_
    cases hf
    exact fk_lawret X Y dL_law_1314 (by omega) (by omega)
set_option maxHeartbeats 4000000 in
theorem w_L_law_J1315 {E : fk_E} {l : Launch} {G : fk_G} {b0 n0 k0 nF kF : Nat} {r : Int32} {mF : fk_M} (X : fk_X E l G b0 "FigureKneeLaw" "law" cL_law 7 8192 100000 1200128 5501098) (hB : nF - n0 ≤ 1200128 ∧ kF - k0 ≤ 5501098) (Y : fk_YL E r) (x0 : Option Nat) (x1 : Option Nat) (x2 : Option Nat) (x3 : Option Nat) (x4 : Int32)  (n1 k1 : Nat) (hn1 : n0 ≤ n1) (hk1 : k0 ≤ k1) (m0 : fk_M) {R23 : Int32 → Nat → Nat → fk_M → Option (Int32 × Nat × Nat × fk_M)} (hR23 : ∀ (v4 : Int32) (n9 k9 : Nat) (m9 : fk_M), n0 ≤ n9 → k0 ≤ k9 → R23 v4 n9 k9 m9 = some (r, nF, kF, mF) → fk_W E 7 n9 m9 (n9 - n0) (k9 - k0) 23 [(0, tR x0), (1, tR x1), (2, tR x2), (3, tR x3), (4, tI v4)] []) (hM23 : ∀ (v4 : Int32) (n9 k9 : Nat) (m9 : fk_M), Mo4 n9 k9 (R23 v4 n9 k9 m9)) (hf : f_L_law_J1315 G.2.2 R23 x0 x1 x2 x3 x4 n1 k1 m0 = some (r, nF, kF, mF)) : fk_W E 7 n1 m0 (n1 - n0) (k1 - k0) 1315 [(0, tR x0), (1, tR x1), (2, tR x2), (3, tR x3), (4, tI x4)] [] := by
  unfold f_L_law_J1315 at hf
  refine fk_aload_n X 1 dL_law_1315 rfl ?_
  refine fk_aload_n X 0 dL_law_1316 rfl ?_
  refine fk_iload X 4 dL_law_1317 rfl ?_
  refine fk_iconst (v := 1) X dL_law_1319 rfl ?_
  refine fk_iadd X dL_law_1320 ?_
  refine fk_iaload' X dL_law_1321 hf (fun z1 hf => ?_)
  refine fk_aload_n X 0 dL_law_1322 rfl ?_
  refine fk_iload X 4 dL_law_1323 rfl ?_
  refine fk_iconst (v := 2) X dL_law_1325 rfl ?_
  refine fk_iadd X dL_law_1326 ?_
  refine fk_iaload' X dL_law_1327 hf (fun z2 hf => ?_)
  obtain ⟨u3, hq, hf⟩ := bI hf
  obtain ⟨z4, m5, hv, hf⟩ := bn2_eq hf
  have hm : n1 ≤ nF ∧ k1 ≤ kF := Mo4.use hf (Mo4.bind (fun z6 => Mo4.bind (fun z7 => Mo4.bind (fun u8 => Mo4.bn2 (fun z9 m10 => Mo4.ite ((mo_L_law_J2125 G.2.2 R23 x0 x1 x2 x3 x4 n1 k1 m10 hM23)) (Mo4.ok (by omega) (by omega)))))))
  refine fk_callV0I (ci := 0) (rest := []) X hq rfl (c_X1_ringAt hv) n_X1_ringAt q1293 q1294 q1295 q122 q1296 rfl dL_law_1328 rfl rfl rfl rfl rfl (by omega) (by omega) ?_
  refine fk_aload_n X 2 dL_law_1331 rfl ?_
  refine fk_aload_n X 0 dL_law_1332 rfl ?_
  refine fk_iload X 4 dL_law_1333 rfl ?_
  refine fk_iconst (v := 1) X dL_law_1335 rfl ?_
  refine fk_iadd X dL_law_1336 ?_
  refine fk_iaload' X dL_law_1337 hf (fun z6 hf => ?_)
  refine fk_aload_n X 0 dL_law_1338 rfl ?_
  refine fk_iload X 4 dL_law_1339 rfl ?_
  refine fk_iconst (v := 2) X dL_law_1341 rfl ?_
  refine fk_iadd X dL_law_1342 ?_
  refine fk_iaload' X dL_law_1343 hf (fun z7 hf => ?_)
  obtain ⟨u8, hq, hf⟩ := bI hf
  obtain ⟨z9, m10, hv, hf⟩ := bn2_eq hf
  have hm : n1 ≤ nF ∧ k1 ≤ kF := Mo4.use hf (Mo4.ite ((mo_L_law_J2125 G.2.2 R23 x0 x1 x2 x3 x4 n1 k1 m10 hM23)) (Mo4.ok (by omega) (by omega)))
  refine fk_callV0I (ci := 1) (rest := [tI z4]) X hq rfl (c_X2_ringAt hv) n_X2_ringAt q2077 q2078 q2079 q126 q2080 rfl dL_law_1344 rfl rfl rfl rfl rfl (by omega) (by omega) ?_
  refine fk_icmp_eq' X 2125 dL_law_1347 rfl hf (fun hf => ?_) (fun hf => ?_)
  · have hn : n0 ≤ n1 := by omega
    have hk : k0 ≤ k1 := by omega
    exact fk_cut' (w_L_law_J2125 X hB Y x0 x1 x2 x3 x4 n1 k1 hn hk m10 hR23 hM23 hf) [0, 1, 2, 3, 4] rfl
  · refine fk_iconst (v := 0) X dL_law_1350 rfl ?_
    cases hf
    exact fk_lawret X Y dL_law_1351 (by omega) (by omega)
set_option maxHeartbeats 4000000 in
theorem w_L_law_J1352 {E : fk_E} {l : Launch} {G : fk_G} {b0 n0 k0 nF kF : Nat} {r : Int32} {mF : fk_M} (X : fk_X E l G b0 "FigureKneeLaw" "law" cL_law 7 8192 100000 1200128 5501098) (hB : nF - n0 ≤ 1200128 ∧ kF - k0 ≤ 5501098) (Y : fk_YL E r) (x0 : Option Nat) (x1 : Option Nat) (x2 : Option Nat) (x3 : Option Nat) (x4 : Int32)  (n1 k1 : Nat) (hn1 : n0 ≤ n1) (hk1 : k0 ≤ k1) (m0 : fk_M) {R23 : Int32 → Nat → Nat → fk_M → Option (Int32 × Nat × Nat × fk_M)} (hR23 : ∀ (v4 : Int32) (n9 k9 : Nat) (m9 : fk_M), n0 ≤ n9 → k0 ≤ k9 → R23 v4 n9 k9 m9 = some (r, nF, kF, mF) → fk_W E 7 n9 m9 (n9 - n0) (k9 - k0) 23 [(0, tR x0), (1, tR x1), (2, tR x2), (3, tR x3), (4, tI v4)] []) (hM23 : ∀ (v4 : Int32) (n9 k9 : Nat) (m9 : fk_M), Mo4 n9 k9 (R23 v4 n9 k9 m9)) (hf : f_L_law_J1352 G.2.2 R23 x0 x1 x2 x3 x4 n1 k1 m0 = some (r, nF, kF, mF)) : fk_W E 7 n1 m0 (n1 - n0) (k1 - k0) 1352 [(0, tR x0), (1, tR x1), (2, tR x2), (3, tR x3), (4, tI x4)] [] := by
  unfold f_L_law_J1352 at hf
  refine fk_aload_n X 1 dL_law_1352 rfl ?_
  refine fk_aload_n X 0 dL_law_1353 rfl ?_
  refine fk_iload X 4 dL_law_1354 rfl ?_
  refine fk_iconst (v := 1) X dL_law_1356 rfl ?_
  refine fk_iadd X dL_law_1357 ?_
  refine fk_iaload' X dL_law_1358 hf (fun z1 hf => ?_)
  refine fk_aload_n X 0 dL_law_1359 rfl ?_
  refine fk_iload X 4 dL_law_1360 rfl ?_
  refine fk_iconst (v := 2) X dL_law_1362 rfl ?_
  refine fk_iadd X dL_law_1363 ?_
  refine fk_iaload' X dL_law_1364 hf (fun z2 hf => ?_)
  have J1 : fk_W E 7 n1 m0 (n1 - n0) (k1 - k0) 1373 [(0, tR x0), (1, tR x1), (2, tR x2), (3, tR x3), (4, tI x4)] [tI (if z2 = 0 then (0 : Int32) else 1), tI z1, tR x1] := by
    refine fk_aload_n X 0 dL_law_1373 rfl ?_
    refine fk_iload X 4 dL_law_1374 rfl ?_
    refine fk_iconst (v := 3) X dL_law_1376 rfl ?_
    refine fk_iadd X dL_law_1377 ?_
    refine fk_iaload' X dL_law_1378 hf (fun z3 hf => ?_)
    have J2 : fk_W E 7 n1 m0 (n1 - n0) (k1 - k0) 1387 [(0, tR x0), (1, tR x1), (2, tR x2), (3, tR x3), (4, tI x4)] [tI (if z3 = 0 then (0 : Int32) else 1), tI (if z2 = 0 then (0 : Int32) else 1), tI z1, tR x1] := by
      refine fk_aload_n X 0 dL_law_1387 rfl ?_
      refine fk_iload X 4 dL_law_1388 rfl ?_
      refine fk_iconst (v := 4) X dL_law_1390 rfl ?_
      refine fk_iadd X dL_law_1391 ?_
      refine fk_iaload' X dL_law_1392 hf (fun z4 hf => ?_)
      have J3 : fk_W E 7 n1 m0 (n1 - n0) (k1 - k0) 1401 [(0, tR x0), (1, tR x1), (2, tR x2), (3, tR x3), (4, tI x4)] [tI (if z4 = 0 then (0 : Int32) else 1), tI (if z3 = 0 then (0 : Int32) else 1), tI (if z2 = 0 then (0 : Int32) else 1), tI z1, tR x1] := by
        obtain ⟨u5, hq, hf⟩ := bI hf
        obtain ⟨z6, m7, hv, hf⟩ := bn2_eq hf
        have hm : n1 ≤ nF ∧ k1 ≤ kF := Mo4.use hf (Mo4.bind (fun z8 => Mo4.bind (fun z9 => Mo4.bind (fun z10 => Mo4.bind (fun z11 => Mo4.bind (fun u12 => Mo4.bn2 (fun z13 m14 => Mo4.ite ((mo_L_law_J2125 G.2.2 R23 x0 x1 x2 x3 x4 n1 k1 m14 hM23)) (Mo4.ok (by omega) (by omega)))))))))
        refine fk_callV0I (ci := 0) (rest := []) X hq rfl (c_X1_talks hv) n_X1_talks q1297 q1298 q1299 q122 q1300 rfl dL_law_1401 rfl rfl rfl rfl rfl (by omega) (by omega) ?_
        refine fk_aload_n X 2 dL_law_1404 rfl ?_
        refine fk_aload_n X 0 dL_law_1405 rfl ?_
        refine fk_iload X 4 dL_law_1406 rfl ?_
        refine fk_iconst (v := 1) X dL_law_1408 rfl ?_
        refine fk_iadd X dL_law_1409 ?_
        refine fk_iaload' X dL_law_1410 hf (fun z8 hf => ?_)
        refine fk_aload_n X 0 dL_law_1411 rfl ?_
        refine fk_iload X 4 dL_law_1412 rfl ?_
        refine fk_iconst (v := 2) X dL_law_1414 rfl ?_
        refine fk_iadd X dL_law_1415 ?_
        refine fk_iaload' X dL_law_1416 hf (fun z9 hf => ?_)
        have J4 : fk_W E 7 n1 m7 (n1 - n0) (k1 - k0) 1425 [(0, tR x0), (1, tR x1), (2, tR x2), (3, tR x3), (4, tI x4)] [tI (if z9 = 0 then (0 : Int32) else 1), tI z8, tR x2, tI z6] := by
          refine fk_aload_n X 0 dL_law_1425 rfl ?_
          refine fk_iload X 4 dL_law_1426 rfl ?_
          refine fk_iconst (v := 3) X dL_law_1428 rfl ?_
          refine fk_iadd X dL_law_1429 ?_
          refine fk_iaload' X dL_law_1430 hf (fun z10 hf => ?_)
          have J5 : fk_W E 7 n1 m7 (n1 - n0) (k1 - k0) 1439 [(0, tR x0), (1, tR x1), (2, tR x2), (3, tR x3), (4, tI x4)] [tI (if z10 = 0 then (0 : Int32) else 1), tI (if z9 = 0 then (0 : Int32) else 1), tI z8, tR x2, tI z6] := by
            refine fk_aload_n X 0 dL_law_1439 rfl ?_
            refine fk_iload X 4 dL_law_1440 rfl ?_
            refine fk_iconst (v := 4) X dL_law_1442 rfl ?_
            refine fk_iadd X dL_law_1443 ?_
            refine fk_iaload' X dL_law_1444 hf (fun z11 hf => ?_)
            have J6 : fk_W E 7 n1 m7 (n1 - n0) (k1 - k0) 1453 [(0, tR x0), (1, tR x1), (2, tR x2), (3, tR x3), (4, tI x4)] [tI (if z11 = 0 then (0 : Int32) else 1), tI (if z10 = 0 then (0 : Int32) else 1), tI (if z9 = 0 then (0 : Int32) else 1), tI z8, tR x2, tI z6] := by
              obtain ⟨u12, hq, hf⟩ := bI hf
              obtain ⟨z13, m14, hv, hf⟩ := bn2_eq hf
              have hm : n1 ≤ nF ∧ k1 ≤ kF := Mo4.use hf (Mo4.ite ((mo_L_law_J2125 G.2.2 R23 x0 x1 x2 x3 x4 n1 k1 m14 hM23)) (Mo4.ok (by omega) (by omega)))
              refine fk_callV0I (ci := 1) (rest := [tI z6]) X hq rfl (c_X2_talks hv) n_X2_talks q2081 q2082 q2083 q126 q2084 rfl dL_law_1453 rfl rfl rfl rfl rfl (by omega) (by omega) ?_
              refine fk_icmp_eq' X 2125 dL_law_1456 rfl hf (fun hf => ?_) (fun hf => ?_)
              · have hn : n0 ≤ n1 := by omega
                have hk : k0 ≤ k1 := by omega
                exact fk_cut' (w_L_law_J2125 X hB Y x0 x1 x2 x3 x4 n1 k1 hn hk m14 hR23 hM23 hf) [0, 1, 2, 3, 4] rfl
              · refine fk_iconst (v := 0) X dL_law_1459 rfl ?_
                cases hf
                exact fk_lawret X Y dL_law_1460 (by omega) (by omega)
            refine fk_if_eq X 1452 dL_law_1445 rfl (fun hc7 => ?_) (fun hc7 => ?_)
            · refine fk_iconst (v := 0) X dL_law_1452 rfl ?_
              simp only [if_pos hc7] at J6
              exact fk_cut' J6 [0, 1, 2, 3, 4] rfl
            · refine fk_iconst (v := 1) X dL_law_1448 rfl ?_
              refine fk_goto X 1453 dL_law_1449 rfl ?_
              simp only [if_neg hc7] at J6
              exact fk_cut' J6 [0, 1, 2, 3, 4] rfl
          refine fk_if_eq X 1438 dL_law_1431 rfl (fun hc8 => ?_) (fun hc8 => ?_)
          · refine fk_iconst (v := 0) X dL_law_1438 rfl ?_
            simp only [if_pos hc8] at J5
            exact fk_cut' J5 [0, 1, 2, 3, 4] rfl
          · refine fk_iconst (v := 1) X dL_law_1434 rfl ?_
            refine fk_goto X 1439 dL_law_1435 rfl ?_
            simp only [if_neg hc8] at J5
            exact fk_cut' J5 [0, 1, 2, 3, 4] rfl
        refine fk_if_eq X 1424 dL_law_1417 rfl (fun hc9 => ?_) (fun hc9 => ?_)
        · refine fk_iconst (v := 0) X dL_law_1424 rfl ?_
          simp only [if_pos hc9] at J4
          exact fk_cut' J4 [0, 1, 2, 3, 4] rfl
        · refine fk_iconst (v := 1) X dL_law_1420 rfl ?_
          refine fk_goto X 1425 dL_law_1421 rfl ?_
          simp only [if_neg hc9] at J4
          exact fk_cut' J4 [0, 1, 2, 3, 4] rfl
      refine fk_if_eq X 1400 dL_law_1393 rfl (fun hc10 => ?_) (fun hc10 => ?_)
      · refine fk_iconst (v := 0) X dL_law_1400 rfl ?_
        simp only [if_pos hc10] at J3
        exact fk_cut' J3 [0, 1, 2, 3, 4] rfl
      · refine fk_iconst (v := 1) X dL_law_1396 rfl ?_
        refine fk_goto X 1401 dL_law_1397 rfl ?_
        simp only [if_neg hc10] at J3
        exact fk_cut' J3 [0, 1, 2, 3, 4] rfl
    refine fk_if_eq X 1386 dL_law_1379 rfl (fun hc11 => ?_) (fun hc11 => ?_)
    · refine fk_iconst (v := 0) X dL_law_1386 rfl ?_
      simp only [if_pos hc11] at J2
      exact fk_cut' J2 [0, 1, 2, 3, 4] rfl
    · refine fk_iconst (v := 1) X dL_law_1382 rfl ?_
      refine fk_goto X 1387 dL_law_1383 rfl ?_
      simp only [if_neg hc11] at J2
      exact fk_cut' J2 [0, 1, 2, 3, 4] rfl
  refine fk_if_eq X 1372 dL_law_1365 rfl (fun hc12 => ?_) (fun hc12 => ?_)
  · refine fk_iconst (v := 0) X dL_law_1372 rfl ?_
    simp only [if_pos hc12] at J1
    exact fk_cut' J1 [0, 1, 2, 3, 4] rfl
  · refine fk_iconst (v := 1) X dL_law_1368 rfl ?_
    refine fk_goto X 1373 dL_law_1369 rfl ?_
    simp only [if_neg hc12] at J1
    exact fk_cut' J1 [0, 1, 2, 3, 4] rfl
set_option maxHeartbeats 4000000 in
theorem w_L_law_J1461 {E : fk_E} {l : Launch} {G : fk_G} {b0 n0 k0 nF kF : Nat} {r : Int32} {mF : fk_M} (X : fk_X E l G b0 "FigureKneeLaw" "law" cL_law 7 8192 100000 1200128 5501098) (hB : nF - n0 ≤ 1200128 ∧ kF - k0 ≤ 5501098) (Y : fk_YL E r) (x0 : Option Nat) (x1 : Option Nat) (x2 : Option Nat) (x3 : Option Nat) (x4 : Int32)  (n1 k1 : Nat) (hn1 : n0 ≤ n1) (hk1 : k0 ≤ k1) (m0 : fk_M) {R23 : Int32 → Nat → Nat → fk_M → Option (Int32 × Nat × Nat × fk_M)} (hR23 : ∀ (v4 : Int32) (n9 k9 : Nat) (m9 : fk_M), n0 ≤ n9 → k0 ≤ k9 → R23 v4 n9 k9 m9 = some (r, nF, kF, mF) → fk_W E 7 n9 m9 (n9 - n0) (k9 - k0) 23 [(0, tR x0), (1, tR x1), (2, tR x2), (3, tR x3), (4, tI v4)] []) (hM23 : ∀ (v4 : Int32) (n9 k9 : Nat) (m9 : fk_M), Mo4 n9 k9 (R23 v4 n9 k9 m9)) (hf : f_L_law_J1461 G.2.2 R23 x0 x1 x2 x3 x4 n1 k1 m0 = some (r, nF, kF, mF)) : fk_W E 7 n1 m0 (n1 - n0) (k1 - k0) 1461 [(0, tR x0), (1, tR x1), (2, tR x2), (3, tR x3), (4, tI x4)] [] := by
  unfold f_L_law_J1461 at hf
  refine fk_aload_n X 1 dL_law_1461 rfl ?_
  refine fk_aload_n X 0 dL_law_1462 rfl ?_
  refine fk_iload X 4 dL_law_1463 rfl ?_
  refine fk_iconst (v := 1) X dL_law_1465 rfl ?_
  refine fk_iadd X dL_law_1466 ?_
  refine fk_iaload' X dL_law_1467 hf (fun z1 hf => ?_)
  obtain ⟨u2, hq, hf⟩ := bI hf
  obtain ⟨z3, m4, hv, hf⟩ := bn2_eq hf
  have hm : n1 ≤ nF ∧ k1 ≤ kF := Mo4.use hf (Mo4.bind (fun z5 => Mo4.bind (fun u6 => Mo4.bn2 (fun z7 m8 => Mo4.ite ((mo_L_law_J2125 G.2.2 R23 x0 x1 x2 x3 x4 n1 k1 m8 hM23)) (Mo4.ok (by omega) (by omega))))))
  refine fk_callV0I (ci := 0) (rest := []) X hq rfl (c_X1_rests hv) n_X1_rests q1308 q1309 q1310 q122 q1311 rfl dL_law_1468 rfl rfl rfl rfl rfl (by omega) (by omega) ?_
  refine fk_aload_n X 2 dL_law_1471 rfl ?_
  refine fk_aload_n X 0 dL_law_1472 rfl ?_
  refine fk_iload X 4 dL_law_1473 rfl ?_
  refine fk_iconst (v := 1) X dL_law_1475 rfl ?_
  refine fk_iadd X dL_law_1476 ?_
  refine fk_iaload' X dL_law_1477 hf (fun z5 hf => ?_)
  obtain ⟨u6, hq, hf⟩ := bI hf
  obtain ⟨z7, m8, hv, hf⟩ := bn2_eq hf
  have hm : n1 ≤ nF ∧ k1 ≤ kF := Mo4.use hf (Mo4.ite ((mo_L_law_J2125 G.2.2 R23 x0 x1 x2 x3 x4 n1 k1 m8 hM23)) (Mo4.ok (by omega) (by omega)))
  refine fk_callV0I (ci := 1) (rest := [tI z3]) X hq rfl (c_X2_rests hv) n_X2_rests q2088 q2089 q2090 q126 q2091 rfl dL_law_1478 rfl rfl rfl rfl rfl (by omega) (by omega) ?_
  refine fk_icmp_eq' X 2125 dL_law_1481 rfl hf (fun hf => ?_) (fun hf => ?_)
  · have hn : n0 ≤ n1 := by omega
    have hk : k0 ≤ k1 := by omega
    exact fk_cut' (w_L_law_J2125 X hB Y x0 x1 x2 x3 x4 n1 k1 hn hk m8 hR23 hM23 hf) [0, 1, 2, 3, 4] rfl
  · refine fk_iconst (v := 0) X dL_law_1484 rfl ?_
    cases hf
    exact fk_lawret X Y dL_law_1485 (by omega) (by omega)
set_option maxHeartbeats 4000000 in
theorem w_L_law_J1486 {E : fk_E} {l : Launch} {G : fk_G} {b0 n0 k0 nF kF : Nat} {r : Int32} {mF : fk_M} (X : fk_X E l G b0 "FigureKneeLaw" "law" cL_law 7 8192 100000 1200128 5501098) (hB : nF - n0 ≤ 1200128 ∧ kF - k0 ≤ 5501098) (Y : fk_YL E r) (x0 : Option Nat) (x1 : Option Nat) (x2 : Option Nat) (x3 : Option Nat) (x4 : Int32)  (n1 k1 : Nat) (hn1 : n0 ≤ n1) (hk1 : k0 ≤ k1) (m0 : fk_M) {R23 : Int32 → Nat → Nat → fk_M → Option (Int32 × Nat × Nat × fk_M)} (hR23 : ∀ (v4 : Int32) (n9 k9 : Nat) (m9 : fk_M), n0 ≤ n9 → k0 ≤ k9 → R23 v4 n9 k9 m9 = some (r, nF, kF, mF) → fk_W E 7 n9 m9 (n9 - n0) (k9 - k0) 23 [(0, tR x0), (1, tR x1), (2, tR x2), (3, tR x3), (4, tI v4)] []) (hM23 : ∀ (v4 : Int32) (n9 k9 : Nat) (m9 : fk_M), Mo4 n9 k9 (R23 v4 n9 k9 m9)) (hf : f_L_law_J1486 G.2.2 R23 x0 x1 x2 x3 x4 n1 k1 m0 = some (r, nF, kF, mF)) : fk_W E 7 n1 m0 (n1 - n0) (k1 - k0) 1486 [(0, tR x0), (1, tR x1), (2, tR x2), (3, tR x3), (4, tI x4)] [] := by
  unfold f_L_law_J1486 at hf
  refine fk_aload_n X 1 dL_law_1486 rfl ?_
  refine fk_aload_n X 0 dL_law_1487 rfl ?_
  refine fk_iload X 4 dL_law_1488 rfl ?_
  refine fk_iconst (v := 1) X dL_law_1490 rfl ?_
  refine fk_iadd X dL_law_1491 ?_
  refine fk_iaload' X dL_law_1492 hf (fun z1 hf => ?_)
  obtain ⟨u2, hq, hf⟩ := bI hf
  obtain ⟨z3, m4, hv, hf⟩ := bn2_eq hf
  have hm : n1 ≤ nF ∧ k1 ≤ kF := Mo4.use hf (Mo4.bind (fun z5 => Mo4.bind (fun u6 => Mo4.bn2 (fun z7 m8 => Mo4.ite ((mo_L_law_J2125 G.2.2 R23 x0 x1 x2 x3 x4 n1 k1 m8 hM23)) (Mo4.ok (by omega) (by omega))))))
  refine fk_callV0I (ci := 0) (rest := []) X hq rfl (c_X1_rest hv) n_X1_rest q1315 q1316 q1317 q122 q1318 rfl dL_law_1493 rfl rfl rfl rfl rfl (by omega) (by omega) ?_
  refine fk_aload_n X 2 dL_law_1496 rfl ?_
  refine fk_aload_n X 0 dL_law_1497 rfl ?_
  refine fk_iload X 4 dL_law_1498 rfl ?_
  refine fk_iconst (v := 1) X dL_law_1500 rfl ?_
  refine fk_iadd X dL_law_1501 ?_
  refine fk_iaload' X dL_law_1502 hf (fun z5 hf => ?_)
  obtain ⟨u6, hq, hf⟩ := bI hf
  obtain ⟨z7, m8, hv, hf⟩ := bn2_eq hf
  have hm : n1 ≤ nF ∧ k1 ≤ kF := Mo4.use hf (Mo4.ite ((mo_L_law_J2125 G.2.2 R23 x0 x1 x2 x3 x4 n1 k1 m8 hM23)) (Mo4.ok (by omega) (by omega)))
  refine fk_callV0I (ci := 1) (rest := [tI z3]) X hq rfl (c_X2_rest hv) n_X2_rest q2096 q2097 q2098 q126 q2099 rfl dL_law_1503 rfl rfl rfl rfl rfl (by omega) (by omega) ?_
  refine fk_icmp_eq' X 2125 dL_law_1506 rfl hf (fun hf => ?_) (fun hf => ?_)
  · have hn : n0 ≤ n1 := by omega
    have hk : k0 ≤ k1 := by omega
    exact fk_cut' (w_L_law_J2125 X hB Y x0 x1 x2 x3 x4 n1 k1 hn hk m8 hR23 hM23 hf) [0, 1, 2, 3, 4] rfl
  · refine fk_iconst (v := 0) X dL_law_1509 rfl ?_
    cases hf
    exact fk_lawret X Y dL_law_1510 (by omega) (by omega)
set_option maxHeartbeats 4000000 in
theorem w_L_law_J1511 {E : fk_E} {l : Launch} {G : fk_G} {b0 n0 k0 nF kF : Nat} {r : Int32} {mF : fk_M} (X : fk_X E l G b0 "FigureKneeLaw" "law" cL_law 7 8192 100000 1200128 5501098) (hB : nF - n0 ≤ 1200128 ∧ kF - k0 ≤ 5501098) (Y : fk_YL E r) (x0 : Option Nat) (x1 : Option Nat) (x2 : Option Nat) (x3 : Option Nat) (x4 : Int32)  (n1 k1 : Nat) (hn1 : n0 ≤ n1) (hk1 : k0 ≤ k1) (m0 : fk_M) {R23 : Int32 → Nat → Nat → fk_M → Option (Int32 × Nat × Nat × fk_M)} (hR23 : ∀ (v4 : Int32) (n9 k9 : Nat) (m9 : fk_M), n0 ≤ n9 → k0 ≤ k9 → R23 v4 n9 k9 m9 = some (r, nF, kF, mF) → fk_W E 7 n9 m9 (n9 - n0) (k9 - k0) 23 [(0, tR x0), (1, tR x1), (2, tR x2), (3, tR x3), (4, tI v4)] []) (hM23 : ∀ (v4 : Int32) (n9 k9 : Nat) (m9 : fk_M), Mo4 n9 k9 (R23 v4 n9 k9 m9)) (hf : f_L_law_J1511 G.2.2 R23 x0 x1 x2 x3 x4 n1 k1 m0 = some (r, nF, kF, mF)) : fk_W E 7 n1 m0 (n1 - n0) (k1 - k0) 1511 [(0, tR x0), (1, tR x1), (2, tR x2), (3, tR x3), (4, tI x4)] [] := by
  unfold f_L_law_J1511 at hf
  refine fk_aload_n X 1 dL_law_1511 rfl ?_
  refine fk_aload_n X 0 dL_law_1512 rfl ?_
  refine fk_iload X 4 dL_law_1513 rfl ?_
  refine fk_iconst (v := 1) X dL_law_1515 rfl ?_
  refine fk_iadd X dL_law_1516 ?_
  refine fk_iaload' X dL_law_1517 hf (fun z1 hf => ?_)
  refine fk_aload_n X 0 dL_law_1518 rfl ?_
  refine fk_iload X 4 dL_law_1519 rfl ?_
  refine fk_iconst (v := 2) X dL_law_1521 rfl ?_
  refine fk_iadd X dL_law_1522 ?_
  refine fk_iaload' X dL_law_1523 hf (fun z2 hf => ?_)
  refine fk_aload_n X 0 dL_law_1524 rfl ?_
  refine fk_iload X 4 dL_law_1525 rfl ?_
  refine fk_iconst (v := 3) X dL_law_1527 rfl ?_
  refine fk_iadd X dL_law_1528 ?_
  refine fk_iaload' X dL_law_1529 hf (fun z3 hf => ?_)
  have J1 : fk_W E 7 n1 m0 (n1 - n0) (k1 - k0) 1538 [(0, tR x0), (1, tR x1), (2, tR x2), (3, tR x3), (4, tI x4)] [tI (if z3 = 0 then (0 : Int32) else 1), tI z2, tI z1, tR x1] := by
    obtain ⟨u4, hq, hf⟩ := bI hf
    obtain ⟨z5, m6, hv, hf⟩ := bn2_eq hf
    have hm : n1 ≤ nF ∧ k1 ≤ kF := Mo4.use hf (Mo4.bind (fun z7 => Mo4.bind (fun z8 => Mo4.bind (fun z9 => Mo4.bind (fun u10 => Mo4.bn2 (fun z11 m12 => Mo4.ite ((mo_L_law_J2125 G.2.2 R23 x0 x1 x2 x3 x4 n1 k1 m12 hM23)) (Mo4.ok (by omega) (by omega))))))))
    refine fk_callV0J (ci := 0) (rest := []) X hq rfl (c_X1_verdictOdds hv) n_X1_verdictOdds q1319 q1320 q1321 q122 q1322 rfl dL_law_1538 rfl rfl rfl rfl rfl (by omega) (by omega) ?_
    refine fk_aload_n X 2 dL_law_1541 rfl ?_
    refine fk_aload_n X 0 dL_law_1542 rfl ?_
    refine fk_iload X 4 dL_law_1543 rfl ?_
    refine fk_iconst (v := 1) X dL_law_1545 rfl ?_
    refine fk_iadd X dL_law_1546 ?_
    refine fk_iaload' X dL_law_1547 hf (fun z7 hf => ?_)
    refine fk_aload_n X 0 dL_law_1548 rfl ?_
    refine fk_iload X 4 dL_law_1549 rfl ?_
    refine fk_iconst (v := 2) X dL_law_1551 rfl ?_
    refine fk_iadd X dL_law_1552 ?_
    refine fk_iaload' X dL_law_1553 hf (fun z8 hf => ?_)
    refine fk_aload_n X 0 dL_law_1554 rfl ?_
    refine fk_iload X 4 dL_law_1555 rfl ?_
    refine fk_iconst (v := 3) X dL_law_1557 rfl ?_
    refine fk_iadd X dL_law_1558 ?_
    refine fk_iaload' X dL_law_1559 hf (fun z9 hf => ?_)
    have J2 : fk_W E 7 n1 m6 (n1 - n0) (k1 - k0) 1568 [(0, tR x0), (1, tR x1), (2, tR x2), (3, tR x3), (4, tI x4)] [tI (if z9 = 0 then (0 : Int32) else 1), tI z8, tI z7, tR x2, tL z5] := by
      obtain ⟨u10, hq, hf⟩ := bI hf
      obtain ⟨z11, m12, hv, hf⟩ := bn2_eq hf
      have hm : n1 ≤ nF ∧ k1 ≤ kF := Mo4.use hf (Mo4.ite ((mo_L_law_J2125 G.2.2 R23 x0 x1 x2 x3 x4 n1 k1 m12 hM23)) (Mo4.ok (by omega) (by omega)))
      refine fk_callV0J (ci := 1) (rest := [tL z5]) X hq rfl (c_X2_verdictOdds hv) n_X2_verdictOdds q2100 q2101 q2102 q126 q2103 rfl dL_law_1568 rfl rfl rfl rfl rfl (by omega) (by omega) ?_
      refine fk_lcmp X dL_law_1571 ?_
      refine fk_if_eq' X 2125 dL_law_1572 rfl hf (fun hf => ?_) (fun hf => ?_)
      · have hn : n0 ≤ n1 := by omega
        have hk : k0 ≤ k1 := by omega
        exact fk_cut' (w_L_law_J2125 X hB Y x0 x1 x2 x3 x4 n1 k1 hn hk m12 hR23 hM23 hf) [0, 1, 2, 3, 4] rfl
      · refine fk_iconst (v := 0) X dL_law_1575 rfl ?_
        cases hf
        exact fk_lawret X Y dL_law_1576 (by omega) (by omega)
    refine fk_if_eq X 1567 dL_law_1560 rfl (fun hc3 => ?_) (fun hc3 => ?_)
    · refine fk_iconst (v := 0) X dL_law_1567 rfl ?_
      simp only [if_pos hc3] at J2
      exact fk_cut' J2 [0, 1, 2, 3, 4] rfl
    · refine fk_iconst (v := 1) X dL_law_1563 rfl ?_
      refine fk_goto X 1568 dL_law_1564 rfl ?_
      simp only [if_neg hc3] at J2
      exact fk_cut' J2 [0, 1, 2, 3, 4] rfl
  refine fk_if_eq X 1537 dL_law_1530 rfl (fun hc4 => ?_) (fun hc4 => ?_)
  · refine fk_iconst (v := 0) X dL_law_1537 rfl ?_
    simp only [if_pos hc4] at J1
    exact fk_cut' J1 [0, 1, 2, 3, 4] rfl
  · refine fk_iconst (v := 1) X dL_law_1533 rfl ?_
    refine fk_goto X 1538 dL_law_1534 rfl ?_
    simp only [if_neg hc4] at J1
    exact fk_cut' J1 [0, 1, 2, 3, 4] rfl
