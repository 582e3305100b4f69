set_option maxRecDepth 100000
set_option maxHeartbeats 4000000 in
theorem w_L_law_J2125 {E : fk_E} {l : Launch} {G : fk_G} {b0 n0 k0 nF kF : Nat} {r : Int32} {mF : fk_M} (X : fk_X E l G b0 "FigureKneeLaw" "law" cL_law 7 8192 100000 1200128 5501098) (hB : nF - n0 ≤ 1200128 ∧ kF - k0 ≤ 5501098) (Y : fk_YL E r) (x0 : Option Nat) (x1 : Option Nat) (x2 : Option Nat) (x3 : Option Nat) (x4 : Int32)  (n1 k1 : Nat) (hn1 : n0 ≤ n1) (hk1 : k0 ≤ k1) (m0 : fk_M) {R23 : Int32 → Nat → Nat → fk_M → Option (Int32 × Nat × Nat × fk_M)} (hR23 : ∀ (v4 : Int32) (n9 k9 : Nat) (m9 : fk_M), n0 ≤ n9 → k0 ≤ k9 → R23 v4 n9 k9 m9 = some (r, nF, kF, mF) → fk_W E 7 n9 m9 (n9 - n0) (k9 - k0) 23 [(0, tR x0), (1, tR x1), (2, tR x2), (3, tR x3), (4, tI v4)] []) (hM23 : ∀ (v4 : Int32) (n9 k9 : Nat) (m9 : fk_M), Mo4 n9 k9 (R23 v4 n9 k9 m9)) (hf : f_L_law_J2125 G.2.2 R23 x0 x1 x2 x3 x4 n1 k1 m0 = some (r, nF, kF, mF)) : fk_W E 7 n1 m0 (n1 - n0) (k1 - k0) 2125 [(0, tR x0), (1, tR x1), (2, tR x2), (3, tR x3), (4, tI x4)] [] := by
  unfold f_L_law_J2125 at hf
  refine fk_iinc X 4 [(4, tI (x4 + 6)), (0, tR x0), (1, tR x1), (2, tR x2), (3, tR x3)] dL_law_2125 rfl rfl rfl rfl ?_
  refine fk_goto X 23 dL_law_2128 rfl ?_
  have hn : n0 ≤ n1 := by omega
  have hk : k0 ≤ k1 := by omega
  exact fk_cut' (hR23 (x4 + 6) n1 k1 m0 hn hk hf) [1, 2, 3, 4, 0] rfl
set_option maxHeartbeats 4000000 in
theorem w_L_law_J292 {E : fk_E} {l : Launch} {G : fk_G} {b0 n0 k0 nF kF : Nat} {r : Int32} {mF : fk_M} (X : fk_X E l G b0 "FigureKneeLaw" "law" cL_law 7 8192 100000 1200128 5501098) (hB : nF - n0 ≤ 1200128 ∧ kF - k0 ≤ 5501098) (Y : fk_YL E r) (x0 : Option Nat) (x1 : Option Nat) (x2 : Option Nat) (x3 : Option Nat) (x4 : Int32)  (n1 k1 : Nat) (hn1 : n0 ≤ n1) (hk1 : k0 ≤ k1) (m0 : fk_M) {R23 : Int32 → Nat → Nat → fk_M → Option (Int32 × Nat × Nat × fk_M)} (hR23 : ∀ (v4 : Int32) (n9 k9 : Nat) (m9 : fk_M), n0 ≤ n9 → k0 ≤ k9 → R23 v4 n9 k9 m9 = some (r, nF, kF, mF) → fk_W E 7 n9 m9 (n9 - n0) (k9 - k0) 23 [(0, tR x0), (1, tR x1), (2, tR x2), (3, tR x3), (4, tI v4)] []) (hM23 : ∀ (v4 : Int32) (n9 k9 : Nat) (m9 : fk_M), Mo4 n9 k9 (R23 v4 n9 k9 m9)) (hf : f_L_law_J292 G.2.2 R23 x0 x1 x2 x3 x4 n1 k1 m0 = some (r, nF, kF, mF)) : fk_W E 7 n1 m0 (n1 - n0) (k1 - k0) 292 [(0, tR x0), (1, tR x1), (2, tR x2), (3, tR x3), (4, tI x4)] [] := by
  unfold f_L_law_J292 at hf
  refine fk_aload_n X 1 dL_law_292 rfl ?_
  refine fk_aload_n X 0 dL_law_293 rfl ?_
  refine fk_iload X 4 dL_law_294 rfl ?_
  refine fk_iconst (v := 1) X dL_law_296 rfl ?_
  refine fk_iadd X dL_law_297 ?_
  refine fk_iaload' X dL_law_298 hf (fun z1 hf => ?_)
  refine fk_aload_n X 0 dL_law_299 rfl ?_
  refine fk_iload X 4 dL_law_300 rfl ?_
  refine fk_iconst (v := 2) X dL_law_302 rfl ?_
  refine fk_iadd X dL_law_303 ?_
  refine fk_iaload' X dL_law_304 hf (fun z2 hf => ?_)
  refine fk_aload_n X 0 dL_law_305 rfl ?_
  refine fk_iload X 4 dL_law_306 rfl ?_
  refine fk_iconst (v := 3) X dL_law_308 rfl ?_
  refine fk_iadd X dL_law_309 ?_
  refine fk_iaload' X dL_law_310 hf (fun z3 hf => ?_)
  refine fk_aload_n X 0 dL_law_311 rfl ?_
  refine fk_iload X 4 dL_law_312 rfl ?_
  refine fk_iconst (v := 4) X dL_law_314 rfl ?_
  refine fk_iadd X dL_law_315 ?_
  refine fk_iaload' X dL_law_316 hf (fun z4 hf => ?_)
  refine fk_aload_n X 0 dL_law_317 rfl ?_
  refine fk_iload X 4 dL_law_318 rfl ?_
  refine fk_iconst (v := 5) X dL_law_320 rfl ?_
  refine fk_iadd X dL_law_321 ?_
  refine fk_iaload' X dL_law_322 hf (fun z5 hf => ?_)
  obtain ⟨u6, hq, hf⟩ := bI hf
  obtain ⟨z7, m8, hv, hf⟩ := bn2_eq hf
  have hm : n1 ≤ nF ∧ k1 ≤ kF := Mo4.use hf (Mo4.bind (fun z9 => Mo4.bind (fun z10 => Mo4.bind (fun z11 => Mo4.bind (fun z12 => Mo4.bind (fun z13 => Mo4.bind (fun u14 => Mo4.bn2 (fun z15 m16 => Mo4.ite ((mo_L_law_J2125 G.2.2 R23 x0 x1 x2 x3 x4 n1 k1 m16 hM23)) (Mo4.ok (by omega) (by omega))))))))))
  refine fk_callV0I (ci := 0) (rest := []) X hq rfl (c_X1_feed hv) n_X1_feed q253 q254 q255 q122 q256 rfl dL_law_323 rfl rfl rfl rfl rfl (by omega) (by omega) ?_
  refine fk_aload_n X 2 dL_law_326 rfl ?_
  refine fk_aload_n X 0 dL_law_327 rfl ?_
  refine fk_iload X 4 dL_law_328 rfl ?_
  refine fk_iconst (v := 1) X dL_law_330 rfl ?_
  refine fk_iadd X dL_law_331 ?_
  refine fk_iaload' X dL_law_332 hf (fun z9 hf => ?_)
  refine fk_aload_n X 0 dL_law_333 rfl ?_
  refine fk_iload X 4 dL_law_334 rfl ?_
  refine fk_iconst (v := 2) X dL_law_336 rfl ?_
  refine fk_iadd X dL_law_337 ?_
  refine fk_iaload' X dL_law_338 hf (fun z10 hf => ?_)
  refine fk_aload_n X 0 dL_law_339 rfl ?_
  refine fk_iload X 4 dL_law_340 rfl ?_
  refine fk_iconst (v := 3) X dL_law_342 rfl ?_
  refine fk_iadd X dL_law_343 ?_
  refine fk_iaload' X dL_law_344 hf (fun z11 hf => ?_)
  refine fk_aload_n X 0 dL_law_345 rfl ?_
  refine fk_iload X 4 dL_law_346 rfl ?_
  refine fk_iconst (v := 4) X dL_law_348 rfl ?_
  refine fk_iadd X dL_law_349 ?_
  refine fk_iaload' X dL_law_350 hf (fun z12 hf => ?_)
  refine fk_aload_n X 0 dL_law_351 rfl ?_
  refine fk_iload X 4 dL_law_352 rfl ?_
  refine fk_iconst (v := 5) X dL_law_354 rfl ?_
  refine fk_iadd X dL_law_355 ?_
  refine fk_iaload' X dL_law_356 hf (fun z13 hf => ?_)
  obtain ⟨u14, hq, hf⟩ := bI hf
  obtain ⟨z15, m16, hv, hf⟩ := bn2_eq hf
  have hm : n1 ≤ nF ∧ k1 ≤ kF := Mo4.use hf (Mo4.ite ((mo_L_law_J2125 G.2.2 R23 x0 x1 x2 x3 x4 n1 k1 m16 hM23)) (Mo4.ok (by omega) (by omega)))
  refine fk_callV0I (ci := 1) (rest := [tI z7]) X hq rfl (c_X2_feed hv) n_X2_feed q1657 q1658 q1659 q126 q1660 rfl dL_law_357 rfl rfl rfl rfl rfl (by omega) (by omega) ?_
  refine fk_icmp_eq' X 2125 dL_law_360 rfl hf (fun hf => ?_) (fun hf => ?_)
  · have hn : n0 ≤ n1 := by omega
    have hk : k0 ≤ k1 := by omega
    exact fk_cut' (w_L_law_J2125 X hB Y x0 x1 x2 x3 x4 n1 k1 hn hk m16 hR23 hM23 hf) [0, 1, 2, 3, 4] rfl
  · refine fk_iconst (v := 0) X dL_law_363 rfl ?_
    cases hf
    exact fk_lawret X Y dL_law_364 (by omega) (by omega)
set_option maxHeartbeats 4000000 in
theorem w_L_law_J365 {E : fk_E} {l : Launch} {G : fk_G} {b0 n0 k0 nF kF : Nat} {r : Int32} {mF : fk_M} (X : fk_X E l G b0 "FigureKneeLaw" "law" cL_law 7 8192 100000 1200128 5501098) (hB : nF - n0 ≤ 1200128 ∧ kF - k0 ≤ 5501098) (Y : fk_YL E r) (x0 : Option Nat) (x1 : Option Nat) (x2 : Option Nat) (x3 : Option Nat) (x4 : Int32)  (n1 k1 : Nat) (hn1 : n0 ≤ n1) (hk1 : k0 ≤ k1) (m0 : fk_M) {R23 : Int32 → Nat → Nat → fk_M → Option (Int32 × Nat × Nat × fk_M)} (hR23 : ∀ (v4 : Int32) (n9 k9 : Nat) (m9 : fk_M), n0 ≤ n9 → k0 ≤ k9 → R23 v4 n9 k9 m9 = some (r, nF, kF, mF) → fk_W E 7 n9 m9 (n9 - n0) (k9 - k0) 23 [(0, tR x0), (1, tR x1), (2, tR x2), (3, tR x3), (4, tI v4)] []) (hM23 : ∀ (v4 : Int32) (n9 k9 : Nat) (m9 : fk_M), Mo4 n9 k9 (R23 v4 n9 k9 m9)) (hf : f_L_law_J365 G.2.2 R23 x0 x1 x2 x3 x4 n1 k1 m0 = some (r, nF, kF, mF)) : fk_W E 7 n1 m0 (n1 - n0) (k1 - k0) 365 [(0, tR x0), (1, tR x1), (2, tR x2), (3, tR x3), (4, tI x4)] [] := by
  unfold f_L_law_J365 at hf
  refine fk_aload_n X 1 dL_law_365 rfl ?_
  refine fk_aload_n X 0 dL_law_366 rfl ?_
  refine fk_iload X 4 dL_law_367 rfl ?_
  refine fk_iconst (v := 1) X dL_law_369 rfl ?_
  refine fk_iadd X dL_law_370 ?_
  refine fk_iaload' X dL_law_371 hf (fun z1 hf => ?_)
  obtain ⟨u2, hq, hf⟩ := bI hf
  obtain ⟨z3, n5, k6, m4, hv, hf⟩ := bn4_eq hf
  have hmc := mo_X1_pier G.2.2 x1 z1 n1 k1 m0 _ _ _ _ hv
  have hm : n5 ≤ nF ∧ k6 ≤ kF := Mo4.use hf (Mo4.bind (fun z7 => Mo4.bind (fun u8 => Mo4.bn2 (fun z9 m10 => Mo4.ite ((mo_L_law_J2125 G.2.2 R23 x0 x1 x2 x3 x4 n5 k6 m10 hM23)) (Mo4.ok (by omega) (by omega))))))
  refine fk_callV1I (ci := 0) (rest := []) (cs2 := n5 - n0) (sl2 := k6 - k0) X hq rfl (c_X1_pier hv) n_X1_pier q257 q258 q259 q122 q260 rfl dL_law_372 rfl rfl rfl rfl rfl (by omega) (by omega) (by omega) (by omega) ?_
  refine fk_aload_n X 2 dL_law_375 rfl ?_
  refine fk_aload_n X 0 dL_law_376 rfl ?_
  refine fk_iload X 4 dL_law_377 rfl ?_
  refine fk_iconst (v := 1) X dL_law_379 rfl ?_
  refine fk_iadd X dL_law_380 ?_
  refine fk_iaload' X dL_law_381 hf (fun z7 hf => ?_)
  obtain ⟨u8, hq, hf⟩ := bI hf
  obtain ⟨z9, m10, hv, hf⟩ := bn2_eq hf
  have hm : n5 ≤ nF ∧ k6 ≤ kF := Mo4.use hf (Mo4.ite ((mo_L_law_J2125 G.2.2 R23 x0 x1 x2 x3 x4 n5 k6 m10 hM23)) (Mo4.ok (by omega) (by omega)))
  refine fk_callV0I (ci := 1) (rest := [tI z3]) X hq rfl (c_X2_pier hv) n_X2_pier q1661 q1662 q1663 q126 q1664 rfl dL_law_382 rfl rfl rfl rfl rfl (by omega) (by omega) ?_
  refine fk_icmp_eq' X 2125 dL_law_385 rfl hf (fun hf => ?_) (fun hf => ?_)
  · have hn : n0 ≤ n5 := by omega
    have hk : k0 ≤ k6 := by omega
    exact fk_cut' (w_L_law_J2125 X hB Y x0 x1 x2 x3 x4 n5 k6 hn hk m10 hR23 hM23 hf) [0, 1, 2, 3, 4] rfl
  · refine fk_iconst (v := 0) X dL_law_388 rfl ?_
    cases hf
    exact fk_lawret X Y dL_law_389 (by omega) (by omega)
set_option maxHeartbeats 4000000 in
theorem w_L_law_J390 {E : fk_E} {l : Launch} {G : fk_G} {b0 n0 k0 nF kF : Nat} {r : Int32} {mF : fk_M} (X : fk_X E l G b0 "FigureKneeLaw" "law" cL_law 7 8192 100000 1200128 5501098) (hB : nF - n0 ≤ 1200128 ∧ kF - k0 ≤ 5501098) (Y : fk_YL E r) (x0 : Option Nat) (x1 : Option Nat) (x2 : Option Nat) (x3 : Option Nat) (x4 : Int32)  (n1 k1 : Nat) (hn1 : n0 ≤ n1) (hk1 : k0 ≤ k1) (m0 : fk_M) {R23 : Int32 → Nat → Nat → fk_M → Option (Int32 × Nat × Nat × fk_M)} (hR23 : ∀ (v4 : Int32) (n9 k9 : Nat) (m9 : fk_M), n0 ≤ n9 → k0 ≤ k9 → R23 v4 n9 k9 m9 = some (r, nF, kF, mF) → fk_W E 7 n9 m9 (n9 - n0) (k9 - k0) 23 [(0, tR x0), (1, tR x1), (2, tR x2), (3, tR x3), (4, tI v4)] []) (hM23 : ∀ (v4 : Int32) (n9 k9 : Nat) (m9 : fk_M), Mo4 n9 k9 (R23 v4 n9 k9 m9)) (hf : f_L_law_J390 G.2.2 R23 x0 x1 x2 x3 x4 n1 k1 m0 = some (r, nF, kF, mF)) : fk_W E 7 n1 m0 (n1 - n0) (k1 - k0) 390 [(0, tR x0), (1, tR x1), (2, tR x2), (3, tR x3), (4, tI x4)] [] := by
  unfold f_L_law_J390 at hf
  refine fk_aload_n X 1 dL_law_390 rfl ?_
  obtain ⟨u1, hq, hf⟩ := bI hf
  obtain ⟨z2, hv, hf⟩ := bI hf
  have hm : n1 ≤ nF ∧ k1 ≤ kF := Mo4.use hf (Mo4.bind (fun u3 => Mo4.bn2 (fun z4 m5 => Mo4.ite ((mo_L_law_J2125 G.2.2 R23 x0 x1 x2 x3 x4 n1 k1 m5 hM23)) (Mo4.ok (by omega) (by omega)))))
  refine fk_callV0I (ci := 0) (rest := []) X hq rfl (c_X1_fault hv) n_X1_fault q1005 q1006 q1007 q122 q1008 rfl dL_law_391 rfl rfl rfl rfl rfl (by omega) (by omega) ?_
  refine fk_aload_n X 2 dL_law_394 rfl ?_
  obtain ⟨u3, hq, hf⟩ := bI hf
  obtain ⟨z4, m5, hv, hf⟩ := bn2_eq hf
  have hm : n1 ≤ nF ∧ k1 ≤ kF := Mo4.use hf (Mo4.ite ((mo_L_law_J2125 G.2.2 R23 x0 x1 x2 x3 x4 n1 k1 m5 hM23)) (Mo4.ok (by omega) (by omega)))
  refine fk_callV0I (ci := 1) (rest := [tI z2]) X hq rfl (c_X2_fault hv) n_X2_fault q1808 q1809 q1810 q126 q1811 rfl dL_law_395 rfl rfl rfl rfl rfl (by omega) (by omega) ?_
  refine fk_icmp_eq' X 2125 dL_law_398 rfl hf (fun hf => ?_) (fun hf => ?_)
  · have hn : n0 ≤ n1 := by omega
    have hk : k0 ≤ k1 := by omega
    exact fk_cut' (w_L_law_J2125 X hB Y x0 x1 x2 x3 x4 n1 k1 hn hk m5 hR23 hM23 hf) [0, 1, 2, 3, 4] rfl
  · refine fk_iconst (v := 0) X dL_law_401 rfl ?_
    cases hf
    exact fk_lawret X Y dL_law_402 (by omega) (by omega)
set_option maxHeartbeats 4000000 in
theorem w_L_law_J403 {E : fk_E} {l : Launch} {G : fk_G} {b0 n0 k0 nF kF : Nat} {r : Int32} {mF : fk_M} (X : fk_X E l G b0 "FigureKneeLaw" "law" cL_law 7 8192 100000 1200128 5501098) (hB : nF - n0 ≤ 1200128 ∧ kF - k0 ≤ 5501098) (Y : fk_YL E r) (x0 : Option Nat) (x1 : Option Nat) (x2 : Option Nat) (x3 : Option Nat) (x4 : Int32)  (n1 k1 : Nat) (hn1 : n0 ≤ n1) (hk1 : k0 ≤ k1) (m0 : fk_M) {R23 : Int32 → Nat → Nat → fk_M → Option (Int32 × Nat × Nat × fk_M)} (hR23 : ∀ (v4 : Int32) (n9 k9 : Nat) (m9 : fk_M), n0 ≤ n9 → k0 ≤ k9 → R23 v4 n9 k9 m9 = some (r, nF, kF, mF) → fk_W E 7 n9 m9 (n9 - n0) (k9 - k0) 23 [(0, tR x0), (1, tR x1), (2, tR x2), (3, tR x3), (4, tI v4)] []) (hM23 : ∀ (v4 : Int32) (n9 k9 : Nat) (m9 : fk_M), Mo4 n9 k9 (R23 v4 n9 k9 m9)) (hf : f_L_law_J403 G.2.2 R23 x0 x1 x2 x3 x4 n1 k1 m0 = some (r, nF, kF, mF)) : fk_W E 7 n1 m0 (n1 - n0) (k1 - k0) 403 [(0, tR x0), (1, tR x1), (2, tR x2), (3, tR x3), (4, tI x4)] [] := by
  unfold f_L_law_J403 at hf
  refine fk_aload_n X 1 dL_law_403 rfl ?_
  obtain ⟨u1, hq, hf⟩ := bI hf
  obtain ⟨z2, hv, hf⟩ := bI hf
  have hm : n1 ≤ nF ∧ k1 ≤ kF := Mo4.use hf (Mo4.bind (fun u3 => Mo4.bn2 (fun z4 m5 => Mo4.ite ((mo_L_law_J2125 G.2.2 R23 x0 x1 x2 x3 x4 n1 k1 m5 hM23)) (Mo4.ok (by omega) (by omega)))))
  refine fk_callV0I (ci := 0) (rest := []) X hq rfl (c_X1_where hv) n_X1_where q1009 q1010 q1011 q122 q1012 rfl dL_law_404 rfl rfl rfl rfl rfl (by omega) (by omega) ?_
  refine fk_aload_n X 2 dL_law_407 rfl ?_
  obtain ⟨u3, hq, hf⟩ := bI hf
  obtain ⟨z4, m5, hv, hf⟩ := bn2_eq hf
  have hm : n1 ≤ nF ∧ k1 ≤ kF := Mo4.use hf (Mo4.ite ((mo_L_law_J2125 G.2.2 R23 x0 x1 x2 x3 x4 n1 k1 m5 hM23)) (Mo4.ok (by omega) (by omega)))
  refine fk_callV0I (ci := 1) (rest := [tI z2]) X hq rfl (c_X2_where hv) n_X2_where q1812 q1813 q1814 q126 q1815 rfl dL_law_408 rfl rfl rfl rfl rfl (by omega) (by omega) ?_
  refine fk_icmp_eq' X 2125 dL_law_411 rfl hf (fun hf => ?_) (fun hf => ?_)
  · have hn : n0 ≤ n1 := by omega
    have hk : k0 ≤ k1 := by omega
    exact fk_cut' (w_L_law_J2125 X hB Y x0 x1 x2 x3 x4 n1 k1 hn hk m5 hR23 hM23 hf) [0, 1, 2, 3, 4] rfl
  · refine fk_iconst (v := 0) X dL_law_414 rfl ?_
    cases hf
    exact fk_lawret X Y dL_law_415 (by omega) (by omega)
set_option maxHeartbeats 4000000 in
theorem w_L_law_J416 {E : fk_E} {l : Launch} {G : fk_G} {b0 n0 k0 nF kF : Nat} {r : Int32} {mF : fk_M} (X : fk_X E l G b0 "FigureKneeLaw" "law" cL_law 7 8192 100000 1200128 5501098) (hB : nF - n0 ≤ 1200128 ∧ kF - k0 ≤ 5501098) (Y : fk_YL E r) (x0 : Option Nat) (x1 : Option Nat) (x2 : Option Nat) (x3 : Option Nat) (x4 : Int32)  (n1 k1 : Nat) (hn1 : n0 ≤ n1) (hk1 : k0 ≤ k1) (m0 : fk_M) {R23 : Int32 → Nat → Nat → fk_M → Option (Int32 × Nat × Nat × fk_M)} (hR23 : ∀ (v4 : Int32) (n9 k9 : Nat) (m9 : fk_M), n0 ≤ n9 → k0 ≤ k9 → R23 v4 n9 k9 m9 = some (r, nF, kF, mF) → fk_W E 7 n9 m9 (n9 - n0) (k9 - k0) 23 [(0, tR x0), (1, tR x1), (2, tR x2), (3, tR x3), (4, tI v4)] []) (hM23 : ∀ (v4 : Int32) (n9 k9 : Nat) (m9 : fk_M), Mo4 n9 k9 (R23 v4 n9 k9 m9)) (hf : f_L_law_J416 G.2.2 R23 x0 x1 x2 x3 x4 n1 k1 m0 = some (r, nF, kF, mF)) : fk_W E 7 n1 m0 (n1 - n0) (k1 - k0) 416 [(0, tR x0), (1, tR x1), (2, tR x2), (3, tR x3), (4, tI x4)] [] := by
  unfold f_L_law_J416 at hf
  refine fk_aload_n X 1 dL_law_416 rfl ?_
  refine fk_aload_n X 0 dL_law_417 rfl ?_
  refine fk_iload X 4 dL_law_418 rfl ?_
  refine fk_iconst (v := 1) X dL_law_420 rfl ?_
  refine fk_iadd X dL_law_421 ?_
  refine fk_iaload' X dL_law_422 hf (fun z1 hf => ?_)
  refine fk_aload_n X 0 dL_law_423 rfl ?_
  refine fk_iload X 4 dL_law_424 rfl ?_
  refine fk_iconst (v := 2) X dL_law_426 rfl ?_
  refine fk_iadd X dL_law_427 ?_
  refine fk_iaload' X dL_law_428 hf (fun z2 hf => ?_)
  obtain ⟨u3, hq, hf⟩ := bI hf
  obtain ⟨z4, m5, hv, hf⟩ := bn2_eq hf
  have hm : n1 ≤ nF ∧ k1 ≤ kF := Mo4.use hf (Mo4.bind (fun z6 => Mo4.bind (fun z7 => Mo4.bind (fun u8 => Mo4.bn2 (fun z9 m10 => Mo4.ite ((mo_L_law_J2125 G.2.2 R23 x0 x1 x2 x3 x4 n1 k1 m10 hM23)) (Mo4.ok (by omega) (by omega)))))))
  refine fk_callV0I (ci := 0) (rest := []) X hq rfl (c_X1_pair hv) n_X1_pair q1013 q1014 q1015 q122 q1016 rfl dL_law_429 rfl rfl rfl rfl rfl (by omega) (by omega) ?_
  refine fk_aload_n X 2 dL_law_432 rfl ?_
  refine fk_aload_n X 0 dL_law_433 rfl ?_
  refine fk_iload X 4 dL_law_434 rfl ?_
  refine fk_iconst (v := 1) X dL_law_436 rfl ?_
  refine fk_iadd X dL_law_437 ?_
  refine fk_iaload' X dL_law_438 hf (fun z6 hf => ?_)
  refine fk_aload_n X 0 dL_law_439 rfl ?_
  refine fk_iload X 4 dL_law_440 rfl ?_
  refine fk_iconst (v := 2) X dL_law_442 rfl ?_
  refine fk_iadd X dL_law_443 ?_
  refine fk_iaload' X dL_law_444 hf (fun z7 hf => ?_)
  obtain ⟨u8, hq, hf⟩ := bI hf
  obtain ⟨z9, m10, hv, hf⟩ := bn2_eq hf
  have hm : n1 ≤ nF ∧ k1 ≤ kF := Mo4.use hf (Mo4.ite ((mo_L_law_J2125 G.2.2 R23 x0 x1 x2 x3 x4 n1 k1 m10 hM23)) (Mo4.ok (by omega) (by omega)))
  refine fk_callV0I (ci := 1) (rest := [tI z4]) X hq rfl (c_X2_pair hv) n_X2_pair q1816 q1817 q1818 q126 q1819 rfl dL_law_445 rfl rfl rfl rfl rfl (by omega) (by omega) ?_
  refine fk_icmp_eq' X 2125 dL_law_448 rfl hf (fun hf => ?_) (fun hf => ?_)
  · have hn : n0 ≤ n1 := by omega
    have hk : k0 ≤ k1 := by omega
    exact fk_cut' (w_L_law_J2125 X hB Y x0 x1 x2 x3 x4 n1 k1 hn hk m10 hR23 hM23 hf) [0, 1, 2, 3, 4] rfl
  · refine fk_iconst (v := 0) X dL_law_451 rfl ?_
    cases hf
    exact fk_lawret X Y dL_law_452 (by omega) (by omega)
set_option maxHeartbeats 4000000 in
theorem w_L_law_J453 {E : fk_E} {l : Launch} {G : fk_G} {b0 n0 k0 nF kF : Nat} {r : Int32} {mF : fk_M} (X : fk_X E l G b0 "FigureKneeLaw" "law" cL_law 7 8192 100000 1200128 5501098) (hB : nF - n0 ≤ 1200128 ∧ kF - k0 ≤ 5501098) (Y : fk_YL E r) (x0 : Option Nat) (x1 : Option Nat) (x2 : Option Nat) (x3 : Option Nat) (x4 : Int32)  (n1 k1 : Nat) (hn1 : n0 ≤ n1) (hk1 : k0 ≤ k1) (m0 : fk_M) {R23 : Int32 → Nat → Nat → fk_M → Option (Int32 × Nat × Nat × fk_M)} (hR23 : ∀ (v4 : Int32) (n9 k9 : Nat) (m9 : fk_M), n0 ≤ n9 → k0 ≤ k9 → R23 v4 n9 k9 m9 = some (r, nF, kF, mF) → fk_W E 7 n9 m9 (n9 - n0) (k9 - k0) 23 [(0, tR x0), (1, tR x1), (2, tR x2), (3, tR x3), (4, tI v4)] []) (hM23 : ∀ (v4 : Int32) (n9 k9 : Nat) (m9 : fk_M), Mo4 n9 k9 (R23 v4 n9 k9 m9)) (hf : f_L_law_J453 G.2.2 R23 x0 x1 x2 x3 x4 n1 k1 m0 = some (r, nF, kF, mF)) : fk_W E 7 n1 m0 (n1 - n0) (k1 - k0) 453 [(0, tR x0), (1, tR x1), (2, tR x2), (3, tR x3), (4, tI x4)] [] := by
  unfold f_L_law_J453 at hf
  refine fk_aload_n X 1 dL_law_453 rfl ?_
  refine fk_aload_n X 0 dL_law_454 rfl ?_
  refine fk_iload X 4 dL_law_455 rfl ?_
  refine fk_iconst (v := 1) X dL_law_457 rfl ?_
  refine fk_iadd X dL_law_458 ?_
  refine fk_iaload' X dL_law_459 hf (fun z1 hf => ?_)
  refine fk_aload_n X 0 dL_law_460 rfl ?_
  refine fk_iload X 4 dL_law_461 rfl ?_
  refine fk_iconst (v := 2) X dL_law_463 rfl ?_
  refine fk_iadd X dL_law_464 ?_
  refine fk_iaload' X dL_law_465 hf (fun z2 hf => ?_)
  obtain ⟨u3, hq, hf⟩ := bI hf
  obtain ⟨z4, m5, hv, hf⟩ := bn2_eq hf
  have hm : n1 ≤ nF ∧ k1 ≤ kF := Mo4.use hf (Mo4.bind (fun z6 => Mo4.bind (fun z7 => Mo4.bind (fun u8 => Mo4.bn2 (fun z9 m10 => Mo4.ite ((mo_L_law_J2125 G.2.2 R23 x0 x1 x2 x3 x4 n1 k1 m10 hM23)) (Mo4.ok (by omega) (by omega)))))))
  refine fk_callV0I (ci := 0) (rest := []) X hq rfl (c_X1_says hv) n_X1_says q1031 q1032 q1033 q122 q1034 rfl dL_law_466 rfl rfl rfl rfl rfl (by omega) (by omega) ?_
  refine fk_aload_n X 2 dL_law_469 rfl ?_
  refine fk_aload_n X 0 dL_law_470 rfl ?_
  refine fk_iload X 4 dL_law_471 rfl ?_
  refine fk_iconst (v := 1) X dL_law_473 rfl ?_
  refine fk_iadd X dL_law_474 ?_
  refine fk_iaload' X dL_law_475 hf (fun z6 hf => ?_)
  refine fk_aload_n X 0 dL_law_476 rfl ?_
  refine fk_iload X 4 dL_law_477 rfl ?_
  refine fk_iconst (v := 2) X dL_law_479 rfl ?_
  refine fk_iadd X dL_law_480 ?_
  refine fk_iaload' X dL_law_481 hf (fun z7 hf => ?_)
  obtain ⟨u8, hq, hf⟩ := bI hf
  obtain ⟨z9, m10, hv, hf⟩ := bn2_eq hf
  have hm : n1 ≤ nF ∧ k1 ≤ kF := Mo4.use hf (Mo4.ite ((mo_L_law_J2125 G.2.2 R23 x0 x1 x2 x3 x4 n1 k1 m10 hM23)) (Mo4.ok (by omega) (by omega)))
  refine fk_callV0I (ci := 1) (rest := [tI z4]) X hq rfl (c_X2_says hv) n_X2_says q1828 q1829 q1830 q126 q1831 rfl dL_law_482 rfl rfl rfl rfl rfl (by omega) (by omega) ?_
  refine fk_icmp_eq' X 2125 dL_law_485 rfl hf (fun hf => ?_) (fun hf => ?_)
  · have hn : n0 ≤ n1 := by omega
    have hk : k0 ≤ k1 := by omega
    exact fk_cut' (w_L_law_J2125 X hB Y x0 x1 x2 x3 x4 n1 k1 hn hk m10 hR23 hM23 hf) [0, 1, 2, 3, 4] rfl
  · refine fk_iconst (v := 0) X dL_law_488 rfl ?_
    cases hf
    exact fk_lawret X Y dL_law_489 (by omega) (by omega)
set_option maxHeartbeats 4000000 in
theorem w_L_law_J490 {E : fk_E} {l : Launch} {G : fk_G} {b0 n0 k0 nF kF : Nat} {r : Int32} {mF : fk_M} (X : fk_X E l G b0 "FigureKneeLaw" "law" cL_law 7 8192 100000 1200128 5501098) (hB : nF - n0 ≤ 1200128 ∧ kF - k0 ≤ 5501098) (Y : fk_YL E r) (x0 : Option Nat) (x1 : Option Nat) (x2 : Option Nat) (x3 : Option Nat) (x4 : Int32)  (n1 k1 : Nat) (hn1 : n0 ≤ n1) (hk1 : k0 ≤ k1) (m0 : fk_M) {R23 : Int32 → Nat → Nat → fk_M → Option (Int32 × Nat × Nat × fk_M)} (hR23 : ∀ (v4 : Int32) (n9 k9 : Nat) (m9 : fk_M), n0 ≤ n9 → k0 ≤ k9 → R23 v4 n9 k9 m9 = some (r, nF, kF, mF) → fk_W E 7 n9 m9 (n9 - n0) (k9 - k0) 23 [(0, tR x0), (1, tR x1), (2, tR x2), (3, tR x3), (4, tI v4)] []) (hM23 : ∀ (v4 : Int32) (n9 k9 : Nat) (m9 : fk_M), Mo4 n9 k9 (R23 v4 n9 k9 m9)) (hf : f_L_law_J490 G.2.2 R23 x0 x1 x2 x3 x4 n1 k1 m0 = some (r, nF, kF, mF)) : fk_W E 7 n1 m0 (n1 - n0) (k1 - k0) 490 [(0, tR x0), (1, tR x1), (2, tR x2), (3, tR x3), (4, tI x4)] [] := by
  unfold f_L_law_J490 at hf
  refine fk_aload_n X 1 dL_law_490 rfl ?_
  refine fk_aload_n X 0 dL_law_491 rfl ?_
  refine fk_iload X 4 dL_law_492 rfl ?_
  refine fk_iconst (v := 1) X dL_law_494 rfl ?_
  refine fk_iadd X dL_law_495 ?_
  refine fk_iaload' X dL_law_496 hf (fun z1 hf => ?_)
  refine fk_aload_n X 0 dL_law_497 rfl ?_
  refine fk_iload X 4 dL_law_498 rfl ?_
  refine fk_iconst (v := 2) X dL_law_500 rfl ?_
  refine fk_iadd X dL_law_501 ?_
  refine fk_iaload' X dL_law_502 hf (fun z2 hf => ?_)
  obtain ⟨u3, hq, hf⟩ := bI hf
  obtain ⟨z4, m5, hv, hf⟩ := bn2_eq hf
  have hm : n1 ≤ nF ∧ k1 ≤ kF := Mo4.use hf (Mo4.bind (fun z6 => Mo4.bind (fun z7 => Mo4.bind (fun u8 => Mo4.bn2 (fun z9 m10 => Mo4.ite ((mo_L_law_J2125 G.2.2 R23 x0 x1 x2 x3 x4 n1 k1 m10 hM23)) (Mo4.ok (by omega) (by omega)))))))
  refine fk_callV0I (ci := 0) (rest := []) X hq rfl (c_X1_saysAll hv) n_X1_saysAll q1083 q1084 q1085 q122 q1086 rfl dL_law_503 rfl rfl rfl rfl rfl (by omega) (by omega) ?_
  refine fk_aload_n X 2 dL_law_506 rfl ?_
  refine fk_aload_n X 0 dL_law_507 rfl ?_
  refine fk_iload X 4 dL_law_508 rfl ?_
  refine fk_iconst (v := 1) X dL_law_510 rfl ?_
  refine fk_iadd X dL_law_511 ?_
  refine fk_iaload' X dL_law_512 hf (fun z6 hf => ?_)
  refine fk_aload_n X 0 dL_law_513 rfl ?_
  refine fk_iload X 4 dL_law_514 rfl ?_
  refine fk_iconst (v := 2) X dL_law_516 rfl ?_
  refine fk_iadd X dL_law_517 ?_
  refine fk_iaload' X dL_law_518 hf (fun z7 hf => ?_)
  obtain ⟨u8, hq, hf⟩ := bI hf
  obtain ⟨z9, m10, hv, hf⟩ := bn2_eq hf
  have hm : n1 ≤ nF ∧ k1 ≤ kF := Mo4.use hf (Mo4.ite ((mo_L_law_J2125 G.2.2 R23 x0 x1 x2 x3 x4 n1 k1 m10 hM23)) (Mo4.ok (by omega) (by omega)))
  refine fk_callV0I (ci := 1) (rest := [tI z4]) X hq rfl (c_X2_saysAll hv) n_X2_saysAll q1860 q1861 q1862 q126 q1863 rfl dL_law_519 rfl rfl rfl rfl rfl (by omega) (by omega) ?_
  refine fk_icmp_eq' X 2125 dL_law_522 rfl hf (fun hf => ?_) (fun hf => ?_)
  · have hn : n0 ≤ n1 := by omega
    have hk : k0 ≤ k1 := by omega
    exact fk_cut' (w_L_law_J2125 X hB Y x0 x1 x2 x3 x4 n1 k1 hn hk m10 hR23 hM23 hf) [0, 1, 2, 3, 4] rfl
  · refine fk_iconst (v := 0) X dL_law_525 rfl ?_
    cases hf
    exact fk_lawret X Y dL_law_526 (by omega) (by omega)
set_option maxHeartbeats 4000000 in
theorem w_L_law_J527 {E : fk_E} {l : Launch} {G : fk_G} {b0 n0 k0 nF kF : Nat} {r : Int32} {mF : fk_M} (X : fk_X E l G b0 "FigureKneeLaw" "law" cL_law 7 8192 100000 1200128 5501098) (hB : nF - n0 ≤ 1200128 ∧ kF - k0 ≤ 5501098) (Y : fk_YL E r) (x0 : Option Nat) (x1 : Option Nat) (x2 : Option Nat) (x3 : Option Nat) (x4 : Int32)  (n1 k1 : Nat) (hn1 : n0 ≤ n1) (hk1 : k0 ≤ k1) (m0 : fk_M) {R23 : Int32 → Nat → Nat → fk_M → Option (Int32 × Nat × Nat × fk_M)} (hR23 : ∀ (v4 : Int32) (n9 k9 : Nat) (m9 : fk_M), n0 ≤ n9 → k0 ≤ k9 → R23 v4 n9 k9 m9 = some (r, nF, kF, mF) → fk_W E 7 n9 m9 (n9 - n0) (k9 - k0) 23 [(0, tR x0), (1, tR x1), (2, tR x2), (3, tR x3), (4, tI v4)] []) (hM23 : ∀ (v4 : Int32) (n9 k9 : Nat) (m9 : fk_M), Mo4 n9 k9 (R23 v4 n9 k9 m9)) (hf : f_L_law_J527 G.2.2 R23 x0 x1 x2 x3 x4 n1 k1 m0 = some (r, nF, kF, mF)) : fk_W E 7 n1 m0 (n1 - n0) (k1 - k0) 527 [(0, tR x0), (1, tR x1), (2, tR x2), (3, tR x3), (4, tI x4)] [] := by
  unfold f_L_law_J527 at hf
  refine fk_aload_n X 1 dL_law_527 rfl ?_
  refine fk_aload_n X 0 dL_law_528 rfl ?_
  refine fk_iload X 4 dL_law_529 rfl ?_
  refine fk_iconst (v := 1) X dL_law_531 rfl ?_
  refine fk_iadd X dL_law_532 ?_
  refine fk_iaload' X dL_law_533 hf (fun z1 hf => ?_)
  obtain ⟨u2, hq, hf⟩ := bI hf
  obtain ⟨z3, m4, hv, hf⟩ := bn2_eq hf
  have hm : n1 ≤ nF ∧ k1 ≤ kF := Mo4.use hf (Mo4.bind (fun z5 => Mo4.bind (fun u6 => Mo4.bn2 (fun z7 m8 => Mo4.ite ((mo_L_law_J2125 G.2.2 R23 x0 x1 x2 x3 x4 n1 k1 m8 hM23)) (Mo4.ok (by omega) (by omega))))))
  refine fk_callV0I (ci := 0) (rest := []) X hq rfl (c_X1_moreIn hv) n_X1_moreIn q1087 q1088 q1089 q122 q1090 rfl dL_law_534 rfl rfl rfl rfl rfl (by omega) (by omega) ?_
  refine fk_aload_n X 2 dL_law_537 rfl ?_
  refine fk_aload_n X 0 dL_law_538 rfl ?_
  refine fk_iload X 4 dL_law_539 rfl ?_
  refine fk_iconst (v := 1) X dL_law_541 rfl ?_
  refine fk_iadd X dL_law_542 ?_
  refine fk_iaload' X dL_law_543 hf (fun z5 hf => ?_)
  obtain ⟨u6, hq, hf⟩ := bI hf
  obtain ⟨z7, m8, hv, hf⟩ := bn2_eq hf
  have hm : n1 ≤ nF ∧ k1 ≤ kF := Mo4.use hf (Mo4.ite ((mo_L_law_J2125 G.2.2 R23 x0 x1 x2 x3 x4 n1 k1 m8 hM23)) (Mo4.ok (by omega) (by omega)))
  refine fk_callV0I (ci := 1) (rest := [tI z3]) X hq rfl (c_X2_moreIn hv) n_X2_moreIn q1864 q1865 q1866 q126 q1867 rfl dL_law_544 rfl rfl rfl rfl rfl (by omega) (by omega) ?_
  refine fk_icmp_eq' X 2125 dL_law_547 rfl hf (fun hf => ?_) (fun hf => ?_)
  · have hn : n0 ≤ n1 := by omega
    have hk : k0 ≤ k1 := by omega
    exact fk_cut' (w_L_law_J2125 X hB Y x0 x1 x2 x3 x4 n1 k1 hn hk m8 hR23 hM23 hf) [0, 1, 2, 3, 4] rfl
  · refine fk_iconst (v := 0) X dL_law_550 rfl ?_
    cases hf
    exact fk_lawret X Y dL_law_551 (by omega) (by omega)
set_option maxHeartbeats 4000000 in
theorem w_L_law_J552 {E : fk_E} {l : Launch} {G : fk_G} {b0 n0 k0 nF kF : Nat} {r : Int32} {mF : fk_M} (X : fk_X E l G b0 "FigureKneeLaw" "law" cL_law 7 8192 100000 1200128 5501098) (hB : nF - n0 ≤ 1200128 ∧ kF - k0 ≤ 5501098) (Y : fk_YL E r) (x0 : Option Nat) (x1 : Option Nat) (x2 : Option Nat) (x3 : Option Nat) (x4 : Int32)  (n1 k1 : Nat) (hn1 : n0 ≤ n1) (hk1 : k0 ≤ k1) (m0 : fk_M) {R23 : Int32 → Nat → Nat → fk_M → Option (Int32 × Nat × Nat × fk_M)} (hR23 : ∀ (v4 : Int32) (n9 k9 : Nat) (m9 : fk_M), n0 ≤ n9 → k0 ≤ k9 → R23 v4 n9 k9 m9 = some (r, nF, kF, mF) → fk_W E 7 n9 m9 (n9 - n0) (k9 - k0) 23 [(0, tR x0), (1, tR x1), (2, tR x2), (3, tR x3), (4, tI v4)] []) (hM23 : ∀ (v4 : Int32) (n9 k9 : Nat) (m9 : fk_M), Mo4 n9 k9 (R23 v4 n9 k9 m9)) (hf : f_L_law_J552 G.2.2 R23 x0 x1 x2 x3 x4 n1 k1 m0 = some (r, nF, kF, mF)) : fk_W E 7 n1 m0 (n1 - n0) (k1 - k0) 552 [(0, tR x0), (1, tR x1), (2, tR x2), (3, tR x3), (4, tI x4)] [] := by
  unfold f_L_law_J552 at hf
  refine fk_aload_n X 1 dL_law_552 rfl ?_
  refine fk_aload_n X 0 dL_law_553 rfl ?_
  refine fk_iload X 4 dL_law_554 rfl ?_
  refine fk_iconst (v := 1) X dL_law_556 rfl ?_
  refine fk_iadd X dL_law_557 ?_
  refine fk_iaload' X dL_law_558 hf (fun z1 hf => ?_)
  refine fk_aload_n X 0 dL_law_559 rfl ?_
  refine fk_iload X 4 dL_law_560 rfl ?_
  refine fk_iconst (v := 2) X dL_law_562 rfl ?_
  refine fk_iadd X dL_law_563 ?_
  refine fk_iaload' X dL_law_564 hf (fun z2 hf => ?_)
  obtain ⟨u3, hq, hf⟩ := bI hf
  obtain ⟨z4, m5, hv, hf⟩ := bn2_eq hf
  have hm : n1 ≤ nF ∧ k1 ≤ kF := Mo4.use hf (Mo4.bind (fun z6 => Mo4.bind (fun z7 => Mo4.bind (fun u8 => Mo4.bn2 (fun z9 m10 => Mo4.ite ((mo_L_law_J2125 G.2.2 R23 x0 x1 x2 x3 x4 n1 k1 m10 hM23)) (Mo4.ok (by omega) (by omega)))))))
  refine fk_callV0I (ci := 0) (rest := []) X hq rfl (c_X1_moreTimes hv) n_X1_moreTimes q1091 q1092 q1093 q122 q1094 rfl dL_law_565 rfl rfl rfl rfl rfl (by omega) (by omega) ?_
  refine fk_aload_n X 2 dL_law_568 rfl ?_
  refine fk_aload_n X 0 dL_law_569 rfl ?_
  refine fk_iload X 4 dL_law_570 rfl ?_
  refine fk_iconst (v := 1) X dL_law_572 rfl ?_
  refine fk_iadd X dL_law_573 ?_
  refine fk_iaload' X dL_law_574 hf (fun z6 hf => ?_)
  refine fk_aload_n X 0 dL_law_575 rfl ?_
  refine fk_iload X 4 dL_law_576 rfl ?_
  refine fk_iconst (v := 2) X dL_law_578 rfl ?_
  refine fk_iadd X dL_law_579 ?_
  refine fk_iaload' X dL_law_580 hf (fun z7 hf => ?_)
  obtain ⟨u8, hq, hf⟩ := bI hf
  obtain ⟨z9, m10, hv, hf⟩ := bn2_eq hf
  have hm : n1 ≤ nF ∧ k1 ≤ kF := Mo4.use hf (Mo4.ite ((mo_L_law_J2125 G.2.2 R23 x0 x1 x2 x3 x4 n1 k1 m10 hM23)) (Mo4.ok (by omega) (by omega)))
  refine fk_callV0I (ci := 1) (rest := [tI z4]) X hq rfl (c_X2_moreTimes hv) n_X2_moreTimes q1868 q1869 q1870 q126 q1871 rfl dL_law_581 rfl rfl rfl rfl rfl (by omega) (by omega) ?_
  refine fk_icmp_eq' X 2125 dL_law_584 rfl hf (fun hf => ?_) (fun hf => ?_)
  · have hn : n0 ≤ n1 := by omega
    have hk : k0 ≤ k1 := by omega
    exact fk_cut' (w_L_law_J2125 X hB Y x0 x1 x2 x3 x4 n1 k1 hn hk m10 hR23 hM23 hf) [0, 1, 2, 3, 4] rfl
  · refine fk_iconst (v := 0) X dL_law_587 rfl ?_
    cases hf
    exact fk_lawret X Y dL_law_588 (by omega) (by omega)
set_option maxHeartbeats 4000000 in
theorem w_L_law_J589 {E : fk_E} {l : Launch} {G : fk_G} {b0 n0 k0 nF kF : Nat} {r : Int32} {mF : fk_M} (X : fk_X E l G b0 "FigureKneeLaw" "law" cL_law 7 8192 100000 1200128 5501098) (hB : nF - n0 ≤ 1200128 ∧ kF - k0 ≤ 5501098) (Y : fk_YL E r) (x0 : Option Nat) (x1 : Option Nat) (x2 : Option Nat) (x3 : Option Nat) (x4 : Int32)  (n1 k1 : Nat) (hn1 : n0 ≤ n1) (hk1 : k0 ≤ k1) (m0 : fk_M) {R23 : Int32 → Nat → Nat → fk_M → Option (Int32 × Nat × Nat × fk_M)} (hR23 : ∀ (v4 : Int32) (n9 k9 : Nat) (m9 : fk_M), n0 ≤ n9 → k0 ≤ k9 → R23 v4 n9 k9 m9 = some (r, nF, kF, mF) → fk_W E 7 n9 m9 (n9 - n0) (k9 - k0) 23 [(0, tR x0), (1, tR x1), (2, tR x2), (3, tR x3), (4, tI v4)] []) (hM23 : ∀ (v4 : Int32) (n9 k9 : Nat) (m9 : fk_M), Mo4 n9 k9 (R23 v4 n9 k9 m9)) (hf : f_L_law_J589 G.2.2 R23 x0 x1 x2 x3 x4 n1 k1 m0 = some (r, nF, kF, mF)) : fk_W E 7 n1 m0 (n1 - n0) (k1 - k0) 589 [(0, tR x0), (1, tR x1), (2, tR x2), (3, tR x3), (4, tI x4)] [] := by
  unfold f_L_law_J589 at hf
  refine fk_aload_n X 1 dL_law_589 rfl ?_
  refine fk_aload_n X 0 dL_law_590 rfl ?_
  refine fk_iload X 4 dL_law_591 rfl ?_
  refine fk_iconst (v := 1) X dL_law_593 rfl ?_
  refine fk_iadd X dL_law_594 ?_
  refine fk_iaload' X dL_law_595 hf (fun z1 hf => ?_)
  obtain ⟨u2, hq, hf⟩ := bI hf
  obtain ⟨z3, m4, hv, hf⟩ := bn2_eq hf
  have hm : n1 ≤ nF ∧ k1 ≤ kF := Mo4.use hf (Mo4.bind (fun z5 => Mo4.bind (fun u6 => Mo4.bn2 (fun z7 m8 => Mo4.ite ((mo_L_law_J2125 G.2.2 R23 x0 x1 x2 x3 x4 n1 k1 m8 hM23)) (Mo4.ok (by omega) (by omega))))))
  refine fk_callV0I (ci := 0) (rest := []) X hq rfl (c_X1_settles hv) n_X1_settles q1095 q1096 q1097 q122 q1098 rfl dL_law_596 rfl rfl rfl rfl rfl (by omega) (by omega) ?_
  refine fk_aload_n X 2 dL_law_599 rfl ?_
  refine fk_aload_n X 0 dL_law_600 rfl ?_
  refine fk_iload X 4 dL_law_601 rfl ?_
  refine fk_iconst (v := 1) X dL_law_603 rfl ?_
  refine fk_iadd X dL_law_604 ?_
  refine fk_iaload' X dL_law_605 hf (fun z5 hf => ?_)
  obtain ⟨u6, hq, hf⟩ := bI hf
  obtain ⟨z7, m8, hv, hf⟩ := bn2_eq hf
  have hm : n1 ≤ nF ∧ k1 ≤ kF := Mo4.use hf (Mo4.ite ((mo_L_law_J2125 G.2.2 R23 x0 x1 x2 x3 x4 n1 k1 m8 hM23)) (Mo4.ok (by omega) (by omega)))
  refine fk_callV0I (ci := 1) (rest := [tI z3]) X hq rfl (c_X2_settles hv) n_X2_settles q1872 q1873 q1874 q126 q1875 rfl dL_law_606 rfl rfl rfl rfl rfl (by omega) (by omega) ?_
  refine fk_icmp_eq' X 2125 dL_law_609 rfl hf (fun hf => ?_) (fun hf => ?_)
  · have hn : n0 ≤ n1 := by omega
    have hk : k0 ≤ k1 := by omega
    exact fk_cut' (w_L_law_J2125 X hB Y x0 x1 x2 x3 x4 n1 k1 hn hk m8 hR23 hM23 hf) [0, 1, 2, 3, 4] rfl
  · refine fk_iconst (v := 0) X dL_law_612 rfl ?_
    cases hf
    exact fk_lawret X Y dL_law_613 (by omega) (by omega)
set_option maxHeartbeats 4000000 in
theorem w_L_law_J614 {E : fk_E} {l : Launch} {G : fk_G} {b0 n0 k0 nF kF : Nat} {r : Int32} {mF : fk_M} (X : fk_X E l G b0 "FigureKneeLaw" "law" cL_law 7 8192 100000 1200128 5501098) (hB : nF - n0 ≤ 1200128 ∧ kF - k0 ≤ 5501098) (Y : fk_YL E r) (x0 : Option Nat) (x1 : Option Nat) (x2 : Option Nat) (x3 : Option Nat) (x4 : Int32)  (n1 k1 : Nat) (hn1 : n0 ≤ n1) (hk1 : k0 ≤ k1) (m0 : fk_M) {R23 : Int32 → Nat → Nat → fk_M → Option (Int32 × Nat × Nat × fk_M)} (hR23 : ∀ (v4 : Int32) (n9 k9 : Nat) (m9 : fk_M), n0 ≤ n9 → k0 ≤ k9 → R23 v4 n9 k9 m9 = some (r, nF, kF, mF) → fk_W E 7 n9 m9 (n9 - n0) (k9 - k0) 23 [(0, tR x0), (1, tR x1), (2, tR x2), (3, tR x3), (4, tI v4)] []) (hM23 : ∀ (v4 : Int32) (n9 k9 : Nat) (m9 : fk_M), Mo4 n9 k9 (R23 v4 n9 k9 m9)) (hf : f_L_law_J614 G.2.2 R23 x0 x1 x2 x3 x4 n1 k1 m0 = some (r, nF, kF, mF)) : fk_W E 7 n1 m0 (n1 - n0) (k1 - k0) 614 [(0, tR x0), (1, tR x1), (2, tR x2), (3, tR x3), (4, tI x4)] [] := by
  unfold f_L_law_J614 at hf
  refine fk_aload_n X 1 dL_law_614 rfl ?_
  refine fk_aload_n X 0 dL_law_615 rfl ?_
  refine fk_iload X 4 dL_law_616 rfl ?_
  refine fk_iconst (v := 1) X dL_law_618 rfl ?_
  refine fk_iadd X dL_law_619 ?_
  refine fk_iaload' X dL_law_620 hf (fun z1 hf => ?_)
  obtain ⟨u2, hq, hf⟩ := bI hf
  obtain ⟨z3, m4, hv, hf⟩ := bn2_eq hf
  have hm : n1 ≤ nF ∧ k1 ≤ kF := Mo4.use hf (Mo4.bind (fun z5 => Mo4.bind (fun u6 => Mo4.bn2 (fun z7 m8 => Mo4.ite ((mo_L_law_J2125 G.2.2 R23 x0 x1 x2 x3 x4 n1 k1 m8 hM23)) (Mo4.ok (by omega) (by omega))))))
  refine fk_callV0I (ci := 0) (rest := []) X hq rfl (c_X1_round hv) n_X1_round q1108 q1109 q1110 q122 q1111 rfl dL_law_621 rfl rfl rfl rfl rfl (by omega) (by omega) ?_
  refine fk_aload_n X 2 dL_law_624 rfl ?_
  refine fk_aload_n X 0 dL_law_625 rfl ?_
  refine fk_iload X 4 dL_law_626 rfl ?_
  refine fk_iconst (v := 1) X dL_law_628 rfl ?_
  refine fk_iadd X dL_law_629 ?_
  refine fk_iaload' X dL_law_630 hf (fun z5 hf => ?_)
  obtain ⟨u6, hq, hf⟩ := bI hf
  obtain ⟨z7, m8, hv, hf⟩ := bn2_eq hf
  have hm : n1 ≤ nF ∧ k1 ≤ kF := Mo4.use hf (Mo4.ite ((mo_L_law_J2125 G.2.2 R23 x0 x1 x2 x3 x4 n1 k1 m8 hM23)) (Mo4.ok (by omega) (by omega)))
  refine fk_callV0I (ci := 1) (rest := [tI z3]) X hq rfl (c_X2_round hv) n_X2_round q1884 q1885 q1886 q126 q1887 rfl dL_law_631 rfl rfl rfl rfl rfl (by omega) (by omega) ?_
  refine fk_icmp_eq' X 2125 dL_law_634 rfl hf (fun hf => ?_) (fun hf => ?_)
  · have hn : n0 ≤ n1 := by omega
    have hk : k0 ≤ k1 := by omega
    exact fk_cut' (w_L_law_J2125 X hB Y x0 x1 x2 x3 x4 n1 k1 hn hk m8 hR23 hM23 hf) [0, 1, 2, 3, 4] rfl
  · refine fk_iconst (v := 0) X dL_law_637 rfl ?_
    cases hf
    exact fk_lawret X Y dL_law_638 (by omega) (by omega)
set_option maxHeartbeats 4000000 in
theorem w_L_law_J639 {E : fk_E} {l : Launch} {G : fk_G} {b0 n0 k0 nF kF : Nat} {r : Int32} {mF : fk_M} (X : fk_X E l G b0 "FigureKneeLaw" "law" cL_law 7 8192 100000 1200128 5501098) (hB : nF - n0 ≤ 1200128 ∧ kF - k0 ≤ 5501098) (Y : fk_YL E r) (x0 : Option Nat) (x1 : Option Nat) (x2 : Option Nat) (x3 : Option Nat) (x4 : Int32)  (n1 k1 : Nat) (hn1 : n0 ≤ n1) (hk1 : k0 ≤ k1) (m0 : fk_M) {R23 : Int32 → Nat → Nat → fk_M → Option (Int32 × Nat × Nat × fk_M)} (hR23 : ∀ (v4 : Int32) (n9 k9 : Nat) (m9 : fk_M), n0 ≤ n9 → k0 ≤ k9 → R23 v4 n9 k9 m9 = some (r, nF, kF, mF) → fk_W E 7 n9 m9 (n9 - n0) (k9 - k0) 23 [(0, tR x0), (1, tR x1), (2, tR x2), (3, tR x3), (4, tI v4)] []) (hM23 : ∀ (v4 : Int32) (n9 k9 : Nat) (m9 : fk_M), Mo4 n9 k9 (R23 v4 n9 k9 m9)) (hf : f_L_law_J639 G.2.2 R23 x0 x1 x2 x3 x4 n1 k1 m0 = some (r, nF, kF, mF)) : fk_W E 7 n1 m0 (n1 - n0) (k1 - k0) 639 [(0, tR x0), (1, tR x1), (2, tR x2), (3, tR x3), (4, tI x4)] [] := by
  unfold f_L_law_J639 at hf
  refine fk_aload_n X 1 dL_law_639 rfl ?_
  refine fk_aload_n X 0 dL_law_640 rfl ?_
  refine fk_iload X 4 dL_law_641 rfl ?_
  refine fk_iconst (v := 1) X dL_law_643 rfl ?_
  refine fk_iadd X dL_law_644 ?_
  refine fk_iaload' X dL_law_645 hf (fun z1 hf => ?_)
  refine fk_aload_n X 0 dL_law_646 rfl ?_
  refine fk_iload X 4 dL_law_647 rfl ?_
  refine fk_iconst (v := 2) X dL_law_649 rfl ?_
  refine fk_iadd X dL_law_650 ?_
  refine fk_iaload' X dL_law_651 hf (fun z2 hf => ?_)
  obtain ⟨u3, hq, hf⟩ := bI hf
  obtain ⟨z4, m5, hv, hf⟩ := bn2_eq hf
  have hm : n1 ≤ nF ∧ k1 ≤ kF := Mo4.use hf (Mo4.bind (fun z6 => Mo4.bind (fun z7 => Mo4.bind (fun u8 => Mo4.bn2 (fun z9 m10 => Mo4.ite ((mo_L_law_J2125 G.2.2 R23 x0 x1 x2 x3 x4 n1 k1 m10 hM23)) (Mo4.ok (by omega) (by omega)))))))
  refine fk_callV0I (ci := 0) (rest := []) X hq rfl (c_X1_saysLate hv) n_X1_saysLate q1112 q1113 q1114 q122 q1115 rfl dL_law_652 rfl rfl rfl rfl rfl (by omega) (by omega) ?_
  refine fk_aload_n X 2 dL_law_655 rfl ?_
  refine fk_aload_n X 0 dL_law_656 rfl ?_
  refine fk_iload X 4 dL_law_657 rfl ?_
  refine fk_iconst (v := 1) X dL_law_659 rfl ?_
  refine fk_iadd X dL_law_660 ?_
  refine fk_iaload' X dL_law_661 hf (fun z6 hf => ?_)
  refine fk_aload_n X 0 dL_law_662 rfl ?_
  refine fk_iload X 4 dL_law_663 rfl ?_
  refine fk_iconst (v := 2) X dL_law_665 rfl ?_
  refine fk_iadd X dL_law_666 ?_
  refine fk_iaload' X dL_law_667 hf (fun z7 hf => ?_)
  obtain ⟨u8, hq, hf⟩ := bI hf
  obtain ⟨z9, m10, hv, hf⟩ := bn2_eq hf
  have hm : n1 ≤ nF ∧ k1 ≤ kF := Mo4.use hf (Mo4.ite ((mo_L_law_J2125 G.2.2 R23 x0 x1 x2 x3 x4 n1 k1 m10 hM23)) (Mo4.ok (by omega) (by omega)))
  refine fk_callV0I (ci := 1) (rest := [tI z4]) X hq rfl (c_X2_saysLate hv) n_X2_saysLate q1888 q1889 q1890 q126 q1891 rfl dL_law_668 rfl rfl rfl rfl rfl (by omega) (by omega) ?_
  refine fk_icmp_eq' X 2125 dL_law_671 rfl hf (fun hf => ?_) (fun hf => ?_)
  · have hn : n0 ≤ n1 := by omega
    have hk : k0 ≤ k1 := by omega
    exact fk_cut' (w_L_law_J2125 X hB Y x0 x1 x2 x3 x4 n1 k1 hn hk m10 hR23 hM23 hf) [0, 1, 2, 3, 4] rfl
  · refine fk_iconst (v := 0) X dL_law_674 rfl ?_
    cases hf
    exact fk_lawret X Y dL_law_675 (by omega) (by omega)
set_option maxHeartbeats 4000000 in
theorem w_L_law_J676 {E : fk_E} {l : Launch} {G : fk_G} {b0 n0 k0 nF kF : Nat} {r : Int32} {mF : fk_M} (X : fk_X E l G b0 "FigureKneeLaw" "law" cL_law 7 8192 100000 1200128 5501098) (hB : nF - n0 ≤ 1200128 ∧ kF - k0 ≤ 5501098) (Y : fk_YL E r) (x0 : Option Nat) (x1 : Option Nat) (x2 : Option Nat) (x3 : Option Nat) (x4 : Int32)  (n1 k1 : Nat) (hn1 : n0 ≤ n1) (hk1 : k0 ≤ k1) (m0 : fk_M) {R23 : Int32 → Nat → Nat → fk_M → Option (Int32 × Nat × Nat × fk_M)} (hR23 : ∀ (v4 : Int32) (n9 k9 : Nat) (m9 : fk_M), n0 ≤ n9 → k0 ≤ k9 → R23 v4 n9 k9 m9 = some (r, nF, kF, mF) → fk_W E 7 n9 m9 (n9 - n0) (k9 - k0) 23 [(0, tR x0), (1, tR x1), (2, tR x2), (3, tR x3), (4, tI v4)] []) (hM23 : ∀ (v4 : Int32) (n9 k9 : Nat) (m9 : fk_M), Mo4 n9 k9 (R23 v4 n9 k9 m9)) (hf : f_L_law_J676 G.2.2 R23 x0 x1 x2 x3 x4 n1 k1 m0 = some (r, nF, kF, mF)) : fk_W E 7 n1 m0 (n1 - n0) (k1 - k0) 676 [(0, tR x0), (1, tR x1), (2, tR x2), (3, tR x3), (4, tI x4)] [] := by
  unfold f_L_law_J676 at hf
  refine fk_aload_n X 1 dL_law_676 rfl ?_
  refine fk_aload_n X 0 dL_law_677 rfl ?_
  refine fk_iload X 4 dL_law_678 rfl ?_
  refine fk_iconst (v := 1) X dL_law_680 rfl ?_
  refine fk_iadd X dL_law_681 ?_
  refine fk_iaload' X dL_law_682 hf (fun z1 hf => ?_)
  obtain ⟨u2, hq, hf⟩ := bI hf
  obtain ⟨z3, m4, hv, hf⟩ := bn2_eq hf
  have hm : n1 ≤ nF ∧ k1 ≤ kF := Mo4.use hf (Mo4.bind (fun z5 => Mo4.bind (fun u6 => Mo4.bn2 (fun z7 m8 => Mo4.ite ((mo_L_law_J2125 G.2.2 R23 x0 x1 x2 x3 x4 n1 k1 m8 hM23)) (Mo4.ok (by omega) (by omega))))))
  refine fk_callV0I (ci := 0) (rest := []) X hq rfl (c_X1_roundMost hv) n_X1_roundMost q1117 q1118 q1119 q122 q1120 rfl dL_law_683 rfl rfl rfl rfl rfl (by omega) (by omega) ?_
  refine fk_aload_n X 2 dL_law_686 rfl ?_
  refine fk_aload_n X 0 dL_law_687 rfl ?_
  refine fk_iload X 4 dL_law_688 rfl ?_
  refine fk_iconst (v := 1) X dL_law_690 rfl ?_
  refine fk_iadd X dL_law_691 ?_
  refine fk_iaload' X dL_law_692 hf (fun z5 hf => ?_)
  obtain ⟨u6, hq, hf⟩ := bI hf
  obtain ⟨z7, m8, hv, hf⟩ := bn2_eq hf
  have hm : n1 ≤ nF ∧ k1 ≤ kF := Mo4.use hf (Mo4.ite ((mo_L_law_J2125 G.2.2 R23 x0 x1 x2 x3 x4 n1 k1 m8 hM23)) (Mo4.ok (by omega) (by omega)))
  refine fk_callV0I (ci := 1) (rest := [tI z3]) X hq rfl (c_X2_roundMost hv) n_X2_roundMost q1893 q1894 q1895 q126 q1896 rfl dL_law_693 rfl rfl rfl rfl rfl (by omega) (by omega) ?_
  refine fk_icmp_eq' X 2125 dL_law_696 rfl hf (fun hf => ?_) (fun hf => ?_)
  · have hn : n0 ≤ n1 := by omega
    have hk : k0 ≤ k1 := by omega
    exact fk_cut' (w_L_law_J2125 X hB Y x0 x1 x2 x3 x4 n1 k1 hn hk m8 hR23 hM23 hf) [0, 1, 2, 3, 4] rfl
  · refine fk_iconst (v := 0) X dL_law_699 rfl ?_
    cases hf
    exact fk_lawret X Y dL_law_700 (by omega) (by omega)
set_option maxHeartbeats 4000000 in
theorem w_L_law_J701 {E : fk_E} {l : Launch} {G : fk_G} {b0 n0 k0 nF kF : Nat} {r : Int32} {mF : fk_M} (X : fk_X E l G b0 "FigureKneeLaw" "law" cL_law 7 8192 100000 1200128 5501098) (hB : nF - n0 ≤ 1200128 ∧ kF - k0 ≤ 5501098) (Y : fk_YL E r) (x0 : Option Nat) (x1 : Option Nat) (x2 : Option Nat) (x3 : Option Nat) (x4 : Int32)  (n1 k1 : Nat) (hn1 : n0 ≤ n1) (hk1 : k0 ≤ k1) (m0 : fk_M) {R23 : Int32 → Nat → Nat → fk_M → Option (Int32 × Nat × Nat × fk_M)} (hR23 : ∀ (v4 : Int32) (n9 k9 : Nat) (m9 : fk_M), n0 ≤ n9 → k0 ≤ k9 → R23 v4 n9 k9 m9 = some (r, nF, kF, mF) → fk_W E 7 n9 m9 (n9 - n0) (k9 - k0) 23 [(0, tR x0), (1, tR x1), (2, tR x2), (3, tR x3), (4, tI v4)] []) (hM23 : ∀ (v4 : Int32) (n9 k9 : Nat) (m9 : fk_M), Mo4 n9 k9 (R23 v4 n9 k9 m9)) (hf : f_L_law_J701 G.2.2 R23 x0 x1 x2 x3 x4 n1 k1 m0 = some (r, nF, kF, mF)) : fk_W E 7 n1 m0 (n1 - n0) (k1 - k0) 701 [(0, tR x0), (1, tR x1), (2, tR x2), (3, tR x3), (4, tI x4)] [] := by
  unfold f_L_law_J701 at hf
  refine fk_aload_n X 1 dL_law_701 rfl ?_
  refine fk_aload_n X 0 dL_law_702 rfl ?_
  refine fk_iload X 4 dL_law_703 rfl ?_
  refine fk_iconst (v := 1) X dL_law_705 rfl ?_
  refine fk_iadd X dL_law_706 ?_
  refine fk_iaload' X dL_law_707 hf (fun z1 hf => ?_)
  obtain ⟨u2, hq, hf⟩ := bI hf
  obtain ⟨z3, m4, hv, hf⟩ := bn2_eq hf
  have hm : n1 ≤ nF ∧ k1 ≤ kF := Mo4.use hf (Mo4.bind (fun z5 => Mo4.bind (fun u6 => Mo4.bn2 (fun z7 m8 => Mo4.ite ((mo_L_law_J2125 G.2.2 R23 x0 x1 x2 x3 x4 n1 k1 m8 hM23)) (Mo4.ok (by omega) (by omega))))))
  refine fk_callV0I (ci := 0) (rest := []) X hq rfl (c_X1_roundLeast hv) n_X1_roundLeast q1121 q1122 q1123 q122 q1124 rfl dL_law_708 rfl rfl rfl rfl rfl (by omega) (by omega) ?_
  refine fk_aload_n X 2 dL_law_711 rfl ?_
  refine fk_aload_n X 0 dL_law_712 rfl ?_
  refine fk_iload X 4 dL_law_713 rfl ?_
  refine fk_iconst (v := 1) X dL_law_715 rfl ?_
  refine fk_iadd X dL_law_716 ?_
  refine fk_iaload' X dL_law_717 hf (fun z5 hf => ?_)
  obtain ⟨u6, hq, hf⟩ := bI hf
  obtain ⟨z7, m8, hv, hf⟩ := bn2_eq hf
  have hm : n1 ≤ nF ∧ k1 ≤ kF := Mo4.use hf (Mo4.ite ((mo_L_law_J2125 G.2.2 R23 x0 x1 x2 x3 x4 n1 k1 m8 hM23)) (Mo4.ok (by omega) (by omega)))
  refine fk_callV0I (ci := 1) (rest := [tI z3]) X hq rfl (c_X2_roundLeast hv) n_X2_roundLeast q1901 q1902 q1903 q126 q1904 rfl dL_law_718 rfl rfl rfl rfl rfl (by omega) (by omega) ?_
  refine fk_icmp_eq' X 2125 dL_law_721 rfl hf (fun hf => ?_) (fun hf => ?_)
  · have hn : n0 ≤ n1 := by omega
    have hk : k0 ≤ k1 := by omega
    exact fk_cut' (w_L_law_J2125 X hB Y x0 x1 x2 x3 x4 n1 k1 hn hk m8 hR23 hM23 hf) [0, 1, 2, 3, 4] rfl
  · refine fk_iconst (v := 0) X dL_law_724 rfl ?_
    cases hf
    exact fk_lawret X Y dL_law_725 (by omega) (by omega)
