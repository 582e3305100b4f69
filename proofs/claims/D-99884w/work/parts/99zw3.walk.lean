set_option maxRecDepth 100000
set_option maxHeartbeats 4000000 in
theorem w_L_law_J1577 {E : fk_E} {l : Launch} {G : fk_G} {b0 n0 k0 nF kF : Nat} {r : Int32} {mF : fk_M} (X : fk_X E l G b0 "FigureKneeLaw" "law" cL_law 7 8192 100000 1200128 5501098) (hB : nF - n0 ≤ 1200128 ∧ kF - k0 ≤ 5501098) (Y : fk_YL E r) (x0 : Option Nat) (x1 : Option Nat) (x2 : Option Nat) (x3 : Option Nat) (x4 : Int32)  (n1 k1 : Nat) (hn1 : n0 ≤ n1) (hk1 : k0 ≤ k1) (m0 : fk_M) {R23 : Int32 → Nat → Nat → fk_M → Option (Int32 × Nat × Nat × fk_M)} (hR23 : ∀ (v4 : Int32) (n9 k9 : Nat) (m9 : fk_M), n0 ≤ n9 → k0 ≤ k9 → R23 v4 n9 k9 m9 = some (r, nF, kF, mF) → fk_W E 7 n9 m9 (n9 - n0) (k9 - k0) 23 [(0, tR x0), (1, tR x1), (2, tR x2), (3, tR x3), (4, tI v4)] []) (hM23 : ∀ (v4 : Int32) (n9 k9 : Nat) (m9 : fk_M), Mo4 n9 k9 (R23 v4 n9 k9 m9)) (hf : f_L_law_J1577 G.2.2 R23 x0 x1 x2 x3 x4 n1 k1 m0 = some (r, nF, kF, mF)) : fk_W E 7 n1 m0 (n1 - n0) (k1 - k0) 1577 [(0, tR x0), (1, tR x1), (2, tR x2), (3, tR x3), (4, tI x4)] [] := by
  unfold f_L_law_J1577 at hf
  refine fk_aload_n X 1 dL_law_1577 rfl ?_
  refine fk_aload_n X 0 dL_law_1578 rfl ?_
  refine fk_iload X 4 dL_law_1579 rfl ?_
  refine fk_iconst (v := 1) X dL_law_1581 rfl ?_
  refine fk_iadd X dL_law_1582 ?_
  refine fk_iaload' X dL_law_1583 hf (fun z1 hf => ?_)
  refine fk_aload_n X 0 dL_law_1584 rfl ?_
  refine fk_iload X 4 dL_law_1585 rfl ?_
  refine fk_iconst (v := 2) X dL_law_1587 rfl ?_
  refine fk_iadd X dL_law_1588 ?_
  refine fk_iaload' X dL_law_1589 hf (fun z2 hf => ?_)
  refine fk_aload_n X 0 dL_law_1590 rfl ?_
  refine fk_iload X 4 dL_law_1591 rfl ?_
  refine fk_iconst (v := 3) X dL_law_1593 rfl ?_
  refine fk_iadd X dL_law_1594 ?_
  refine fk_iaload' X dL_law_1595 hf (fun z3 hf => ?_)
  obtain ⟨u4, hq, hf⟩ := bI hf
  obtain ⟨z5, m6, hv, hf⟩ := bn2_eq hf
  have hm : n1 ≤ nF ∧ k1 ≤ kF := Mo4.use hf (Mo4.bind (fun z7 => Mo4.bind (fun z8 => Mo4.bind (fun z9 => Mo4.bind (fun u10 => Mo4.bn2 (fun z11 m12 => Mo4.ite ((mo_L_law_J2125 G.2.2 R23 x0 x1 x2 x3 x4 n1 k1 m12 hM23)) (Mo4.ok (by omega) (by omega))))))))
  refine fk_callV0I (ci := 0) (rest := []) X hq rfl (c_X1_looks hv) n_X1_looks q1338 q1339 q1340 q122 q1341 rfl dL_law_1596 rfl rfl rfl rfl rfl (by omega) (by omega) ?_
  refine fk_aload_n X 2 dL_law_1599 rfl ?_
  refine fk_aload_n X 0 dL_law_1600 rfl ?_
  refine fk_iload X 4 dL_law_1601 rfl ?_
  refine fk_iconst (v := 1) X dL_law_1603 rfl ?_
  refine fk_iadd X dL_law_1604 ?_
  refine fk_iaload' X dL_law_1605 hf (fun z7 hf => ?_)
  refine fk_aload_n X 0 dL_law_1606 rfl ?_
  refine fk_iload X 4 dL_law_1607 rfl ?_
  refine fk_iconst (v := 2) X dL_law_1609 rfl ?_
  refine fk_iadd X dL_law_1610 ?_
  refine fk_iaload' X dL_law_1611 hf (fun z8 hf => ?_)
  refine fk_aload_n X 0 dL_law_1612 rfl ?_
  refine fk_iload X 4 dL_law_1613 rfl ?_
  refine fk_iconst (v := 3) X dL_law_1615 rfl ?_
  refine fk_iadd X dL_law_1616 ?_
  refine fk_iaload' X dL_law_1617 hf (fun z9 hf => ?_)
  obtain ⟨u10, hq, hf⟩ := bI hf
  obtain ⟨z11, m12, hv, hf⟩ := bn2_eq hf
  have hm : n1 ≤ nF ∧ k1 ≤ kF := Mo4.use hf (Mo4.ite ((mo_L_law_J2125 G.2.2 R23 x0 x1 x2 x3 x4 n1 k1 m12 hM23)) (Mo4.ok (by omega) (by omega)))
  refine fk_callV0I (ci := 1) (rest := [tI z5]) X hq rfl (c_X2_looks hv) n_X2_looks q2111 q2112 q2113 q126 q2114 rfl dL_law_1618 rfl rfl rfl rfl rfl (by omega) (by omega) ?_
  refine fk_icmp_eq' X 2125 dL_law_1621 rfl hf (fun hf => ?_) (fun hf => ?_)
  · have hn : n0 ≤ n1 := by omega
    have hk : k0 ≤ k1 := by omega
    exact fk_cut' (w_L_law_J2125 X hB Y x0 x1 x2 x3 x4 n1 k1 hn hk m12 hR23 hM23 hf) [0, 1, 2, 3, 4] rfl
  · refine fk_iconst (v := 0) X dL_law_1624 rfl ?_
    cases hf
    exact fk_lawret X Y dL_law_1625 (by omega) (by omega)
set_option maxHeartbeats 4000000 in
theorem w_L_law_J1626 {E : fk_E} {l : Launch} {G : fk_G} {b0 n0 k0 nF kF : Nat} {r : Int32} {mF : fk_M} (X : fk_X E l G b0 "FigureKneeLaw" "law" cL_law 7 8192 100000 1200128 5501098) (hB : nF - n0 ≤ 1200128 ∧ kF - k0 ≤ 5501098) (Y : fk_YL E r) (x0 : Option Nat) (x1 : Option Nat) (x2 : Option Nat) (x3 : Option Nat) (x4 : Int32)  (n1 k1 : Nat) (hn1 : n0 ≤ n1) (hk1 : k0 ≤ k1) (m0 : fk_M) {R23 : Int32 → Nat → Nat → fk_M → Option (Int32 × Nat × Nat × fk_M)} (hR23 : ∀ (v4 : Int32) (n9 k9 : Nat) (m9 : fk_M), n0 ≤ n9 → k0 ≤ k9 → R23 v4 n9 k9 m9 = some (r, nF, kF, mF) → fk_W E 7 n9 m9 (n9 - n0) (k9 - k0) 23 [(0, tR x0), (1, tR x1), (2, tR x2), (3, tR x3), (4, tI v4)] []) (hM23 : ∀ (v4 : Int32) (n9 k9 : Nat) (m9 : fk_M), Mo4 n9 k9 (R23 v4 n9 k9 m9)) (hf : f_L_law_J1626 G.2.2 R23 x0 x1 x2 x3 x4 n1 k1 m0 = some (r, nF, kF, mF)) : fk_W E 7 n1 m0 (n1 - n0) (k1 - k0) 1626 [(0, tR x0), (1, tR x1), (2, tR x2), (3, tR x3), (4, tI x4)] [] := by
  unfold f_L_law_J1626 at hf
  refine fk_aload_n X 1 dL_law_1626 rfl ?_
  refine fk_aload_n X 0 dL_law_1627 rfl ?_
  refine fk_iload X 4 dL_law_1628 rfl ?_
  refine fk_iconst (v := 1) X dL_law_1630 rfl ?_
  refine fk_iadd X dL_law_1631 ?_
  refine fk_iaload' X dL_law_1632 hf (fun z1 hf => ?_)
  refine fk_aload_n X 0 dL_law_1633 rfl ?_
  refine fk_iload X 4 dL_law_1634 rfl ?_
  refine fk_iconst (v := 2) X dL_law_1636 rfl ?_
  refine fk_iadd X dL_law_1637 ?_
  refine fk_iaload' X dL_law_1638 hf (fun z2 hf => ?_)
  obtain ⟨u3, hq, hf⟩ := bI hf
  obtain ⟨z4, m5, hv, hf⟩ := bn2_eq hf
  have hm : n1 ≤ nF ∧ k1 ≤ kF := Mo4.use hf (Mo4.bind (fun z6 => Mo4.bind (fun z7 => Mo4.bind (fun u8 => Mo4.bn2 (fun z9 m10 => Mo4.ite ((mo_L_law_J2125 G.2.2 R23 x0 x1 x2 x3 x4 n1 k1 m10 hM23)) (Mo4.ok (by omega) (by omega)))))))
  refine fk_callV0I (ci := 0) (rest := []) X hq rfl (c_X1_verdict hv) n_X1_verdict q1357 q1358 q1359 q122 q1360 rfl dL_law_1639 rfl rfl rfl rfl rfl (by omega) (by omega) ?_
  refine fk_aload_n X 2 dL_law_1642 rfl ?_
  refine fk_aload_n X 0 dL_law_1643 rfl ?_
  refine fk_iload X 4 dL_law_1644 rfl ?_
  refine fk_iconst (v := 1) X dL_law_1646 rfl ?_
  refine fk_iadd X dL_law_1647 ?_
  refine fk_iaload' X dL_law_1648 hf (fun z6 hf => ?_)
  refine fk_aload_n X 0 dL_law_1649 rfl ?_
  refine fk_iload X 4 dL_law_1650 rfl ?_
  refine fk_iconst (v := 2) X dL_law_1652 rfl ?_
  refine fk_iadd X dL_law_1653 ?_
  refine fk_iaload' X dL_law_1654 hf (fun z7 hf => ?_)
  obtain ⟨u8, hq, hf⟩ := bI hf
  obtain ⟨z9, m10, hv, hf⟩ := bn2_eq hf
  have hm : n1 ≤ nF ∧ k1 ≤ kF := Mo4.use hf (Mo4.ite ((mo_L_law_J2125 G.2.2 R23 x0 x1 x2 x3 x4 n1 k1 m10 hM23)) (Mo4.ok (by omega) (by omega)))
  refine fk_callV0I (ci := 1) (rest := [tI z4]) X hq rfl (c_X2_verdict hv) n_X2_verdict q2121 q2122 q2123 q126 q2124 rfl dL_law_1655 rfl rfl rfl rfl rfl (by omega) (by omega) ?_
  refine fk_icmp_eq' X 2125 dL_law_1658 rfl hf (fun hf => ?_) (fun hf => ?_)
  · have hn : n0 ≤ n1 := by omega
    have hk : k0 ≤ k1 := by omega
    exact fk_cut' (w_L_law_J2125 X hB Y x0 x1 x2 x3 x4 n1 k1 hn hk m10 hR23 hM23 hf) [0, 1, 2, 3, 4] rfl
  · refine fk_iconst (v := 0) X dL_law_1661 rfl ?_
    cases hf
    exact fk_lawret X Y dL_law_1662 (by omega) (by omega)
set_option maxHeartbeats 4000000 in
theorem w_L_law_J1663 {E : fk_E} {l : Launch} {G : fk_G} {b0 n0 k0 nF kF : Nat} {r : Int32} {mF : fk_M} (X : fk_X E l G b0 "FigureKneeLaw" "law" cL_law 7 8192 100000 1200128 5501098) (hB : nF - n0 ≤ 1200128 ∧ kF - k0 ≤ 5501098) (Y : fk_YL E r) (x0 : Option Nat) (x1 : Option Nat) (x2 : Option Nat) (x3 : Option Nat) (x4 : Int32)  (n1 k1 : Nat) (hn1 : n0 ≤ n1) (hk1 : k0 ≤ k1) (m0 : fk_M) {R23 : Int32 → Nat → Nat → fk_M → Option (Int32 × Nat × Nat × fk_M)} (hR23 : ∀ (v4 : Int32) (n9 k9 : Nat) (m9 : fk_M), n0 ≤ n9 → k0 ≤ k9 → R23 v4 n9 k9 m9 = some (r, nF, kF, mF) → fk_W E 7 n9 m9 (n9 - n0) (k9 - k0) 23 [(0, tR x0), (1, tR x1), (2, tR x2), (3, tR x3), (4, tI v4)] []) (hM23 : ∀ (v4 : Int32) (n9 k9 : Nat) (m9 : fk_M), Mo4 n9 k9 (R23 v4 n9 k9 m9)) (hf : f_L_law_J1663 G.2.2 R23 x0 x1 x2 x3 x4 n1 k1 m0 = some (r, nF, kF, mF)) : fk_W E 7 n1 m0 (n1 - n0) (k1 - k0) 1663 [(0, tR x0), (1, tR x1), (2, tR x2), (3, tR x3), (4, tI x4)] [] := by
  unfold f_L_law_J1663 at hf
  refine fk_aload_n X 1 dL_law_1663 rfl ?_
  refine fk_aload_n X 0 dL_law_1664 rfl ?_
  refine fk_iload X 4 dL_law_1665 rfl ?_
  refine fk_iconst (v := 1) X dL_law_1667 rfl ?_
  refine fk_iadd X dL_law_1668 ?_
  refine fk_iaload' X dL_law_1669 hf (fun z1 hf => ?_)
  refine fk_aload_n X 0 dL_law_1670 rfl ?_
  refine fk_iload X 4 dL_law_1671 rfl ?_
  refine fk_iconst (v := 2) X dL_law_1673 rfl ?_
  refine fk_iadd X dL_law_1674 ?_
  refine fk_iaload' X dL_law_1675 hf (fun z2 hf => ?_)
  refine fk_aload_n X 0 dL_law_1676 rfl ?_
  refine fk_iload X 4 dL_law_1677 rfl ?_
  refine fk_iconst (v := 3) X dL_law_1679 rfl ?_
  refine fk_iadd X dL_law_1680 ?_
  refine fk_iaload' X dL_law_1681 hf (fun z3 hf => ?_)
  refine fk_aload_n X 0 dL_law_1682 rfl ?_
  refine fk_iload X 4 dL_law_1683 rfl ?_
  refine fk_iconst (v := 4) X dL_law_1685 rfl ?_
  refine fk_iadd X dL_law_1686 ?_
  refine fk_iaload' X dL_law_1687 hf (fun z4 hf => ?_)
  have J1 : fk_W E 7 n1 m0 (n1 - n0) (k1 - k0) 1696 [(0, tR x0), (1, tR x1), (2, tR x2), (3, tR x3), (4, tI x4)] [tI (if z4 = 0 then (0 : Int32) else 1), tI z3, tI z2, tI z1, tR x1] := by
    obtain ⟨u5, hq, hf⟩ := bI hf
    obtain ⟨z6, m7, hv, hf⟩ := bn2_eq hf
    have hm : n1 ≤ nF ∧ k1 ≤ kF := Mo4.use hf (Mo4.bind (fun z8 => Mo4.bind (fun z9 => Mo4.bind (fun z10 => Mo4.bind (fun z11 => Mo4.bind (fun u12 => Mo4.bn2 (fun z13 m14 => Mo4.ite ((mo_L_law_J2125 G.2.2 R23 x0 x1 x2 x3 x4 n1 k1 m14 hM23)) (Mo4.ok (by omega) (by omega)))))))))
    refine fk_callV0J (ci := 0) (rest := []) X hq rfl (c_X1_odds hv) n_X1_odds q1361 q1362 q1363 q122 q1364 rfl dL_law_1696 rfl rfl rfl rfl rfl (by omega) (by omega) ?_
    refine fk_aload_n X 2 dL_law_1699 rfl ?_
    refine fk_aload_n X 0 dL_law_1700 rfl ?_
    refine fk_iload X 4 dL_law_1701 rfl ?_
    refine fk_iconst (v := 1) X dL_law_1703 rfl ?_
    refine fk_iadd X dL_law_1704 ?_
    refine fk_iaload' X dL_law_1705 hf (fun z8 hf => ?_)
    refine fk_aload_n X 0 dL_law_1706 rfl ?_
    refine fk_iload X 4 dL_law_1707 rfl ?_
    refine fk_iconst (v := 2) X dL_law_1709 rfl ?_
    refine fk_iadd X dL_law_1710 ?_
    refine fk_iaload' X dL_law_1711 hf (fun z9 hf => ?_)
    refine fk_aload_n X 0 dL_law_1712 rfl ?_
    refine fk_iload X 4 dL_law_1713 rfl ?_
    refine fk_iconst (v := 3) X dL_law_1715 rfl ?_
    refine fk_iadd X dL_law_1716 ?_
    refine fk_iaload' X dL_law_1717 hf (fun z10 hf => ?_)
    refine fk_aload_n X 0 dL_law_1718 rfl ?_
    refine fk_iload X 4 dL_law_1719 rfl ?_
    refine fk_iconst (v := 4) X dL_law_1721 rfl ?_
    refine fk_iadd X dL_law_1722 ?_
    refine fk_iaload' X dL_law_1723 hf (fun z11 hf => ?_)
    have J2 : fk_W E 7 n1 m7 (n1 - n0) (k1 - k0) 1732 [(0, tR x0), (1, tR x1), (2, tR x2), (3, tR x3), (4, tI x4)] [tI (if z11 = 0 then (0 : Int32) else 1), tI z10, tI z9, tI z8, tR x2, tL z6] := by
      obtain ⟨u12, hq, hf⟩ := bI hf
      obtain ⟨z13, m14, hv, hf⟩ := bn2_eq hf
      have hm : n1 ≤ nF ∧ k1 ≤ kF := Mo4.use hf (Mo4.ite ((mo_L_law_J2125 G.2.2 R23 x0 x1 x2 x3 x4 n1 k1 m14 hM23)) (Mo4.ok (by omega) (by omega)))
      refine fk_callV0J (ci := 1) (rest := [tL z6]) X hq rfl (c_X2_odds hv) n_X2_odds q2125 q2126 q2127 q126 q2128 rfl dL_law_1732 rfl rfl rfl rfl rfl (by omega) (by omega) ?_
      refine fk_lcmp X dL_law_1735 ?_
      refine fk_if_eq' X 2125 dL_law_1736 rfl hf (fun hf => ?_) (fun hf => ?_)
      · have hn : n0 ≤ n1 := by omega
        have hk : k0 ≤ k1 := by omega
        exact fk_cut' (w_L_law_J2125 X hB Y x0 x1 x2 x3 x4 n1 k1 hn hk m14 hR23 hM23 hf) [0, 1, 2, 3, 4] rfl
      · refine fk_iconst (v := 0) X dL_law_1739 rfl ?_
        cases hf
        exact fk_lawret X Y dL_law_1740 (by omega) (by omega)
    refine fk_if_eq X 1731 dL_law_1724 rfl (fun hc3 => ?_) (fun hc3 => ?_)
    · refine fk_iconst (v := 0) X dL_law_1731 rfl ?_
      simp only [if_pos hc3] at J2
      exact fk_cut' J2 [0, 1, 2, 3, 4] rfl
    · refine fk_iconst (v := 1) X dL_law_1727 rfl ?_
      refine fk_goto X 1732 dL_law_1728 rfl ?_
      simp only [if_neg hc3] at J2
      exact fk_cut' J2 [0, 1, 2, 3, 4] rfl
  refine fk_if_eq X 1695 dL_law_1688 rfl (fun hc4 => ?_) (fun hc4 => ?_)
  · refine fk_iconst (v := 0) X dL_law_1695 rfl ?_
    simp only [if_pos hc4] at J1
    exact fk_cut' J1 [0, 1, 2, 3, 4] rfl
  · refine fk_iconst (v := 1) X dL_law_1691 rfl ?_
    refine fk_goto X 1696 dL_law_1692 rfl ?_
    simp only [if_neg hc4] at J1
    exact fk_cut' J1 [0, 1, 2, 3, 4] rfl
set_option maxHeartbeats 4000000 in
theorem w_L_law_J1741 {E : fk_E} {l : Launch} {G : fk_G} {b0 n0 k0 nF kF : Nat} {r : Int32} {mF : fk_M} (X : fk_X E l G b0 "FigureKneeLaw" "law" cL_law 7 8192 100000 1200128 5501098) (hB : nF - n0 ≤ 1200128 ∧ kF - k0 ≤ 5501098) (Y : fk_YL E r) (x0 : Option Nat) (x1 : Option Nat) (x2 : Option Nat) (x3 : Option Nat) (x4 : Int32)  (n1 k1 : Nat) (hn1 : n0 ≤ n1) (hk1 : k0 ≤ k1) (m0 : fk_M) {R23 : Int32 → Nat → Nat → fk_M → Option (Int32 × Nat × Nat × fk_M)} (hR23 : ∀ (v4 : Int32) (n9 k9 : Nat) (m9 : fk_M), n0 ≤ n9 → k0 ≤ k9 → R23 v4 n9 k9 m9 = some (r, nF, kF, mF) → fk_W E 7 n9 m9 (n9 - n0) (k9 - k0) 23 [(0, tR x0), (1, tR x1), (2, tR x2), (3, tR x3), (4, tI v4)] []) (hM23 : ∀ (v4 : Int32) (n9 k9 : Nat) (m9 : fk_M), Mo4 n9 k9 (R23 v4 n9 k9 m9)) (hf : f_L_law_J1741 G.2.2 R23 x0 x1 x2 x3 x4 n1 k1 m0 = some (r, nF, kF, mF)) : fk_W E 7 n1 m0 (n1 - n0) (k1 - k0) 1741 [(0, tR x0), (1, tR x1), (2, tR x2), (3, tR x3), (4, tI x4)] [] := by
  unfold f_L_law_J1741 at hf
  refine fk_aload_n X 1 dL_law_1741 rfl ?_
  refine fk_aload_n X 0 dL_law_1742 rfl ?_
  refine fk_iload X 4 dL_law_1743 rfl ?_
  refine fk_iconst (v := 1) X dL_law_1745 rfl ?_
  refine fk_iadd X dL_law_1746 ?_
  refine fk_iaload' X dL_law_1747 hf (fun z1 hf => ?_)
  refine fk_aload_n X 0 dL_law_1748 rfl ?_
  refine fk_iload X 4 dL_law_1749 rfl ?_
  refine fk_iconst (v := 2) X dL_law_1751 rfl ?_
  refine fk_iadd X dL_law_1752 ?_
  refine fk_iaload' X dL_law_1753 hf (fun z2 hf => ?_)
  refine fk_aload_n X 0 dL_law_1754 rfl ?_
  refine fk_iload X 4 dL_law_1755 rfl ?_
  refine fk_iconst (v := 3) X dL_law_1757 rfl ?_
  refine fk_iadd X dL_law_1758 ?_
  refine fk_iaload' X dL_law_1759 hf (fun z3 hf => ?_)
  have J1 : fk_W E 7 n1 m0 (n1 - n0) (k1 - k0) 1768 [(0, tR x0), (1, tR x1), (2, tR x2), (3, tR x3), (4, tI x4)] [tI (if z3 = 0 then (0 : Int32) else 1), tI z2, tI z1, tR x1] := by
    obtain ⟨u4, hq, hf⟩ := bI hf
    obtain ⟨z5, m6, hv, hf⟩ := bn2_eq hf
    have hm : n1 ≤ nF ∧ k1 ≤ kF := Mo4.use hf (Mo4.bind (fun z7 => Mo4.bind (fun z8 => Mo4.bind (fun z9 => Mo4.bind (fun u10 => Mo4.bn2 (fun z11 m12 => Mo4.ite ((mo_L_law_J2125 G.2.2 R23 x0 x1 x2 x3 x4 n1 k1 m12 hM23)) (Mo4.ok (by omega) (by omega))))))))
    refine fk_callV0J (ci := 0) (rest := []) X hq rfl (c_X1_mean hv) n_X1_mean q1377 q1378 q1379 q122 q1380 rfl dL_law_1768 rfl rfl rfl rfl rfl (by omega) (by omega) ?_
    refine fk_aload_n X 2 dL_law_1771 rfl ?_
    refine fk_aload_n X 0 dL_law_1772 rfl ?_
    refine fk_iload X 4 dL_law_1773 rfl ?_
    refine fk_iconst (v := 1) X dL_law_1775 rfl ?_
    refine fk_iadd X dL_law_1776 ?_
    refine fk_iaload' X dL_law_1777 hf (fun z7 hf => ?_)
    refine fk_aload_n X 0 dL_law_1778 rfl ?_
    refine fk_iload X 4 dL_law_1779 rfl ?_
    refine fk_iconst (v := 2) X dL_law_1781 rfl ?_
    refine fk_iadd X dL_law_1782 ?_
    refine fk_iaload' X dL_law_1783 hf (fun z8 hf => ?_)
    refine fk_aload_n X 0 dL_law_1784 rfl ?_
    refine fk_iload X 4 dL_law_1785 rfl ?_
    refine fk_iconst (v := 3) X dL_law_1787 rfl ?_
    refine fk_iadd X dL_law_1788 ?_
    refine fk_iaload' X dL_law_1789 hf (fun z9 hf => ?_)
    have J2 : fk_W E 7 n1 m6 (n1 - n0) (k1 - k0) 1798 [(0, tR x0), (1, tR x1), (2, tR x2), (3, tR x3), (4, tI x4)] [tI (if z9 = 0 then (0 : Int32) else 1), tI z8, tI z7, tR x2, tL z5] := by
      obtain ⟨u10, hq, hf⟩ := bI hf
      obtain ⟨z11, m12, hv, hf⟩ := bn2_eq hf
      have hm : n1 ≤ nF ∧ k1 ≤ kF := Mo4.use hf (Mo4.ite ((mo_L_law_J2125 G.2.2 R23 x0 x1 x2 x3 x4 n1 k1 m12 hM23)) (Mo4.ok (by omega) (by omega)))
      refine fk_callV0J (ci := 1) (rest := [tL z5]) X hq rfl (c_X2_mean hv) n_X2_mean q2133 q2134 q2135 q126 q2136 rfl dL_law_1798 rfl rfl rfl rfl rfl (by omega) (by omega) ?_
      refine fk_lcmp X dL_law_1801 ?_
      refine fk_if_eq' X 2125 dL_law_1802 rfl hf (fun hf => ?_) (fun hf => ?_)
      · have hn : n0 ≤ n1 := by omega
        have hk : k0 ≤ k1 := by omega
        exact fk_cut' (w_L_law_J2125 X hB Y x0 x1 x2 x3 x4 n1 k1 hn hk m12 hR23 hM23 hf) [0, 1, 2, 3, 4] rfl
      · refine fk_iconst (v := 0) X dL_law_1805 rfl ?_
        cases hf
        exact fk_lawret X Y dL_law_1806 (by omega) (by omega)
    refine fk_if_eq X 1797 dL_law_1790 rfl (fun hc3 => ?_) (fun hc3 => ?_)
    · refine fk_iconst (v := 0) X dL_law_1797 rfl ?_
      simp only [if_pos hc3] at J2
      exact fk_cut' J2 [0, 1, 2, 3, 4] rfl
    · refine fk_iconst (v := 1) X dL_law_1793 rfl ?_
      refine fk_goto X 1798 dL_law_1794 rfl ?_
      simp only [if_neg hc3] at J2
      exact fk_cut' J2 [0, 1, 2, 3, 4] rfl
  refine fk_if_eq X 1767 dL_law_1760 rfl (fun hc4 => ?_) (fun hc4 => ?_)
  · refine fk_iconst (v := 0) X dL_law_1767 rfl ?_
    simp only [if_pos hc4] at J1
    exact fk_cut' J1 [0, 1, 2, 3, 4] rfl
  · refine fk_iconst (v := 1) X dL_law_1763 rfl ?_
    refine fk_goto X 1768 dL_law_1764 rfl ?_
    simp only [if_neg hc4] at J1
    exact fk_cut' J1 [0, 1, 2, 3, 4] rfl
set_option maxHeartbeats 4000000 in
theorem w_L_law_J1807 {E : fk_E} {l : Launch} {G : fk_G} {b0 n0 k0 nF kF : Nat} {r : Int32} {mF : fk_M} (X : fk_X E l G b0 "FigureKneeLaw" "law" cL_law 7 8192 100000 1200128 5501098) (hB : nF - n0 ≤ 1200128 ∧ kF - k0 ≤ 5501098) (Y : fk_YL E r) (x0 : Option Nat) (x1 : Option Nat) (x2 : Option Nat) (x3 : Option Nat) (x4 : Int32)  (n1 k1 : Nat) (hn1 : n0 ≤ n1) (hk1 : k0 ≤ k1) (m0 : fk_M) {R23 : Int32 → Nat → Nat → fk_M → Option (Int32 × Nat × Nat × fk_M)} (hR23 : ∀ (v4 : Int32) (n9 k9 : Nat) (m9 : fk_M), n0 ≤ n9 → k0 ≤ k9 → R23 v4 n9 k9 m9 = some (r, nF, kF, mF) → fk_W E 7 n9 m9 (n9 - n0) (k9 - k0) 23 [(0, tR x0), (1, tR x1), (2, tR x2), (3, tR x3), (4, tI v4)] []) (hM23 : ∀ (v4 : Int32) (n9 k9 : Nat) (m9 : fk_M), Mo4 n9 k9 (R23 v4 n9 k9 m9)) (hf : f_L_law_J1807 G.2.2 R23 x0 x1 x2 x3 x4 n1 k1 m0 = some (r, nF, kF, mF)) : fk_W E 7 n1 m0 (n1 - n0) (k1 - k0) 1807 [(0, tR x0), (1, tR x1), (2, tR x2), (3, tR x3), (4, tI x4)] [] := by
  unfold f_L_law_J1807 at hf
  refine fk_aload_n X 1 dL_law_1807 rfl ?_
  refine fk_aload_n X 0 dL_law_1808 rfl ?_
  refine fk_iload X 4 dL_law_1809 rfl ?_
  refine fk_iconst (v := 1) X dL_law_1811 rfl ?_
  refine fk_iadd X dL_law_1812 ?_
  refine fk_iaload' X dL_law_1813 hf (fun z1 hf => ?_)
  refine fk_aload_n X 0 dL_law_1814 rfl ?_
  refine fk_iload X 4 dL_law_1815 rfl ?_
  refine fk_iconst (v := 2) X dL_law_1817 rfl ?_
  refine fk_iadd X dL_law_1818 ?_
  refine fk_iaload' X dL_law_1819 hf (fun z2 hf => ?_)
  refine fk_aload_n X 0 dL_law_1820 rfl ?_
  refine fk_iload X 4 dL_law_1821 rfl ?_
  refine fk_iconst (v := 3) X dL_law_1823 rfl ?_
  refine fk_iadd X dL_law_1824 ?_
  refine fk_iaload' X dL_law_1825 hf (fun z3 hf => ?_)
  obtain ⟨u4, hq, hf⟩ := bI hf
  obtain ⟨z5, m6, hv, hf⟩ := bn2_eq hf
  have hm : n1 ≤ nF ∧ k1 ≤ kF := Mo4.use hf (Mo4.bind (fun z7 => Mo4.bind (fun z8 => Mo4.bind (fun z9 => Mo4.bind (fun u10 => Mo4.bn2 (fun z11 m12 => Mo4.ite ((mo_L_law_J2125 G.2.2 R23 x0 x1 x2 x3 x4 n1 k1 m12 hM23)) (Mo4.ok (by omega) (by omega))))))))
  refine fk_callV0I (ci := 0) (rest := []) X hq rfl (c_X1_drawn hv) n_X1_drawn q1381 q1382 q1383 q122 q1384 rfl dL_law_1826 rfl rfl rfl rfl rfl (by omega) (by omega) ?_
  refine fk_aload_n X 2 dL_law_1829 rfl ?_
  refine fk_aload_n X 0 dL_law_1830 rfl ?_
  refine fk_iload X 4 dL_law_1831 rfl ?_
  refine fk_iconst (v := 1) X dL_law_1833 rfl ?_
  refine fk_iadd X dL_law_1834 ?_
  refine fk_iaload' X dL_law_1835 hf (fun z7 hf => ?_)
  refine fk_aload_n X 0 dL_law_1836 rfl ?_
  refine fk_iload X 4 dL_law_1837 rfl ?_
  refine fk_iconst (v := 2) X dL_law_1839 rfl ?_
  refine fk_iadd X dL_law_1840 ?_
  refine fk_iaload' X dL_law_1841 hf (fun z8 hf => ?_)
  refine fk_aload_n X 0 dL_law_1842 rfl ?_
  refine fk_iload X 4 dL_law_1843 rfl ?_
  refine fk_iconst (v := 3) X dL_law_1845 rfl ?_
  refine fk_iadd X dL_law_1846 ?_
  refine fk_iaload' X dL_law_1847 hf (fun z9 hf => ?_)
  obtain ⟨u10, hq, hf⟩ := bI hf
  obtain ⟨z11, m12, hv, hf⟩ := bn2_eq hf
  have hm : n1 ≤ nF ∧ k1 ≤ kF := Mo4.use hf (Mo4.ite ((mo_L_law_J2125 G.2.2 R23 x0 x1 x2 x3 x4 n1 k1 m12 hM23)) (Mo4.ok (by omega) (by omega)))
  refine fk_callV0I (ci := 1) (rest := [tI z5]) X hq rfl (c_X2_drawn hv) n_X2_drawn q2137 q2138 q2139 q126 q2140 rfl dL_law_1848 rfl rfl rfl rfl rfl (by omega) (by omega) ?_
  refine fk_icmp_eq' X 2125 dL_law_1851 rfl hf (fun hf => ?_) (fun hf => ?_)
  · have hn : n0 ≤ n1 := by omega
    have hk : k0 ≤ k1 := by omega
    exact fk_cut' (w_L_law_J2125 X hB Y x0 x1 x2 x3 x4 n1 k1 hn hk m12 hR23 hM23 hf) [0, 1, 2, 3, 4] rfl
  · refine fk_iconst (v := 0) X dL_law_1854 rfl ?_
    cases hf
    exact fk_lawret X Y dL_law_1855 (by omega) (by omega)
set_option maxHeartbeats 4000000 in
theorem w_L_law_J1856 {E : fk_E} {l : Launch} {G : fk_G} {b0 n0 k0 nF kF : Nat} {r : Int32} {mF : fk_M} (X : fk_X E l G b0 "FigureKneeLaw" "law" cL_law 7 8192 100000 1200128 5501098) (hB : nF - n0 ≤ 1200128 ∧ kF - k0 ≤ 5501098) (Y : fk_YL E r) (x0 : Option Nat) (x1 : Option Nat) (x2 : Option Nat) (x3 : Option Nat) (x4 : Int32)  (n1 k1 : Nat) (hn1 : n0 ≤ n1) (hk1 : k0 ≤ k1) (m0 : fk_M) {R23 : Int32 → Nat → Nat → fk_M → Option (Int32 × Nat × Nat × fk_M)} (hR23 : ∀ (v4 : Int32) (n9 k9 : Nat) (m9 : fk_M), n0 ≤ n9 → k0 ≤ k9 → R23 v4 n9 k9 m9 = some (r, nF, kF, mF) → fk_W E 7 n9 m9 (n9 - n0) (k9 - k0) 23 [(0, tR x0), (1, tR x1), (2, tR x2), (3, tR x3), (4, tI v4)] []) (hM23 : ∀ (v4 : Int32) (n9 k9 : Nat) (m9 : fk_M), Mo4 n9 k9 (R23 v4 n9 k9 m9)) (hf : f_L_law_J1856 G.2.2 R23 x0 x1 x2 x3 x4 n1 k1 m0 = some (r, nF, kF, mF)) : fk_W E 7 n1 m0 (n1 - n0) (k1 - k0) 1856 [(0, tR x0), (1, tR x1), (2, tR x2), (3, tR x3), (4, tI x4)] [] := by
  unfold f_L_law_J1856 at hf
  refine fk_aload_n X 1 dL_law_1856 rfl ?_
  obtain ⟨u1, hq, hf⟩ := bI hf
  obtain ⟨z2, n4, k5, m3, hv, hf⟩ := bn4_eq hf
  have hmc := mo_X1_season G.2.2 x1 n1 k1 m0 _ _ _ _ hv
  have hm : n4 ≤ nF ∧ k5 ≤ kF := Mo4.use hf (Mo4.bind (fun u6 => Mo4.bn2 (fun z7 m8 => Mo4.ite ((mo_L_law_J2125 G.2.2 R23 x0 x1 x2 x3 x4 n4 k5 m8 hM23)) (Mo4.ok (by omega) (by omega)))))
  refine fk_callV1I (ci := 0) (rest := []) (cs2 := n4 - n0) (sl2 := k5 - k0) X hq rfl (c_X1_season hv) n_X1_season q1385 q1386 q1387 q122 q1388 rfl dL_law_1857 rfl rfl rfl rfl rfl (by omega) (by omega) (by omega) (by omega) ?_
  refine fk_aload_n X 2 dL_law_1860 rfl ?_
  obtain ⟨u6, hq, hf⟩ := bI hf
  obtain ⟨z7, m8, hv, hf⟩ := bn2_eq hf
  have hm : n4 ≤ nF ∧ k5 ≤ kF := Mo4.use hf (Mo4.ite ((mo_L_law_J2125 G.2.2 R23 x0 x1 x2 x3 x4 n4 k5 m8 hM23)) (Mo4.ok (by omega) (by omega)))
  refine fk_callV0I (ci := 1) (rest := [tI z2]) X hq rfl (c_X2_season hv) n_X2_season q2141 q2142 q2143 q126 q2144 rfl dL_law_1861 rfl rfl rfl rfl rfl (by omega) (by omega) ?_
  refine fk_icmp_eq' X 2125 dL_law_1864 rfl hf (fun hf => ?_) (fun hf => ?_)
  · have hn : n0 ≤ n4 := by omega
    have hk : k0 ≤ k5 := by omega
    exact fk_cut' (w_L_law_J2125 X hB Y x0 x1 x2 x3 x4 n4 k5 hn hk m8 hR23 hM23 hf) [0, 1, 2, 3, 4] rfl
  · refine fk_iconst (v := 0) X dL_law_1867 rfl ?_
    cases hf
    exact fk_lawret X Y dL_law_1868 (by omega) (by omega)
set_option maxHeartbeats 4000000 in
theorem w_L_law_J1869 {E : fk_E} {l : Launch} {G : fk_G} {b0 n0 k0 nF kF : Nat} {r : Int32} {mF : fk_M} (X : fk_X E l G b0 "FigureKneeLaw" "law" cL_law 7 8192 100000 1200128 5501098) (hB : nF - n0 ≤ 1200128 ∧ kF - k0 ≤ 5501098) (Y : fk_YL E r) (x0 : Option Nat) (x1 : Option Nat) (x2 : Option Nat) (x3 : Option Nat) (x4 : Int32)  (n1 k1 : Nat) (hn1 : n0 ≤ n1) (hk1 : k0 ≤ k1) (m0 : fk_M) {R23 : Int32 → Nat → Nat → fk_M → Option (Int32 × Nat × Nat × fk_M)} (hR23 : ∀ (v4 : Int32) (n9 k9 : Nat) (m9 : fk_M), n0 ≤ n9 → k0 ≤ k9 → R23 v4 n9 k9 m9 = some (r, nF, kF, mF) → fk_W E 7 n9 m9 (n9 - n0) (k9 - k0) 23 [(0, tR x0), (1, tR x1), (2, tR x2), (3, tR x3), (4, tI v4)] []) (hM23 : ∀ (v4 : Int32) (n9 k9 : Nat) (m9 : fk_M), Mo4 n9 k9 (R23 v4 n9 k9 m9)) (hf : f_L_law_J1869 G.2.2 R23 x0 x1 x2 x3 x4 n1 k1 m0 = some (r, nF, kF, mF)) : fk_W E 7 n1 m0 (n1 - n0) (k1 - k0) 1869 [(0, tR x0), (1, tR x1), (2, tR x2), (3, tR x3), (4, tI x4)] [] := by
  unfold f_L_law_J1869 at hf
  refine fk_aload_n X 1 dL_law_1869 rfl ?_
  refine fk_aload_n X 0 dL_law_1870 rfl ?_
  refine fk_iload X 4 dL_law_1871 rfl ?_
  refine fk_iconst (v := 1) X dL_law_1873 rfl ?_
  refine fk_iadd X dL_law_1874 ?_
  refine fk_iaload' X dL_law_1875 hf (fun z1 hf => ?_)
  obtain ⟨u2, hq, hf⟩ := bI hf
  obtain ⟨z3, n5, k6, m4, hv, hf⟩ := bn4_eq hf
  have hmc := mo_X1_change G.2.2 x1 z1 n1 k1 m0 _ _ _ _ hv
  have hm : n5 ≤ nF ∧ k6 ≤ kF := Mo4.use hf (Mo4.bind (fun z7 => Mo4.bind (fun u8 => Mo4.bn2 (fun z9 m10 => Mo4.ite ((mo_L_law_J2125 G.2.2 R23 x0 x1 x2 x3 x4 n5 k6 m10 hM23)) (Mo4.ok (by omega) (by omega))))))
  refine fk_callV1I (ci := 0) (rest := []) (cs2 := n5 - n0) (sl2 := k6 - k0) X hq rfl (c_X1_change hv) n_X1_change q1410 q1411 q1412 q122 q1413 rfl dL_law_1876 rfl rfl rfl rfl rfl (by omega) (by omega) (by omega) (by omega) ?_
  refine fk_aload_n X 2 dL_law_1879 rfl ?_
  refine fk_aload_n X 0 dL_law_1880 rfl ?_
  refine fk_iload X 4 dL_law_1881 rfl ?_
  refine fk_iconst (v := 1) X dL_law_1883 rfl ?_
  refine fk_iadd X dL_law_1884 ?_
  refine fk_iaload' X dL_law_1885 hf (fun z7 hf => ?_)
  obtain ⟨u8, hq, hf⟩ := bI hf
  obtain ⟨z9, m10, hv, hf⟩ := bn2_eq hf
  have hm : n5 ≤ nF ∧ k6 ≤ kF := Mo4.use hf (Mo4.ite ((mo_L_law_J2125 G.2.2 R23 x0 x1 x2 x3 x4 n5 k6 m10 hM23)) (Mo4.ok (by omega) (by omega)))
  refine fk_callV0I (ci := 1) (rest := [tI z3]) X hq rfl (c_X2_change hv) n_X2_change q2149 q2150 q2151 q126 q2152 rfl dL_law_1886 rfl rfl rfl rfl rfl (by omega) (by omega) ?_
  refine fk_icmp_eq' X 2125 dL_law_1889 rfl hf (fun hf => ?_) (fun hf => ?_)
  · have hn : n0 ≤ n5 := by omega
    have hk : k0 ≤ k6 := by omega
    exact fk_cut' (w_L_law_J2125 X hB Y x0 x1 x2 x3 x4 n5 k6 hn hk m10 hR23 hM23 hf) [0, 1, 2, 3, 4] rfl
  · refine fk_iconst (v := 0) X dL_law_1892 rfl ?_
    cases hf
    exact fk_lawret X Y dL_law_1893 (by omega) (by omega)
set_option maxHeartbeats 4000000 in
theorem w_L_law_J1894 {E : fk_E} {l : Launch} {G : fk_G} {b0 n0 k0 nF kF : Nat} {r : Int32} {mF : fk_M} (X : fk_X E l G b0 "FigureKneeLaw" "law" cL_law 7 8192 100000 1200128 5501098) (hB : nF - n0 ≤ 1200128 ∧ kF - k0 ≤ 5501098) (Y : fk_YL E r) (x0 : Option Nat) (x1 : Option Nat) (x2 : Option Nat) (x3 : Option Nat) (x4 : Int32)  (n1 k1 : Nat) (hn1 : n0 ≤ n1) (hk1 : k0 ≤ k1) (m0 : fk_M) {R23 : Int32 → Nat → Nat → fk_M → Option (Int32 × Nat × Nat × fk_M)} (hR23 : ∀ (v4 : Int32) (n9 k9 : Nat) (m9 : fk_M), n0 ≤ n9 → k0 ≤ k9 → R23 v4 n9 k9 m9 = some (r, nF, kF, mF) → fk_W E 7 n9 m9 (n9 - n0) (k9 - k0) 23 [(0, tR x0), (1, tR x1), (2, tR x2), (3, tR x3), (4, tI v4)] []) (hM23 : ∀ (v4 : Int32) (n9 k9 : Nat) (m9 : fk_M), Mo4 n9 k9 (R23 v4 n9 k9 m9)) (hf : f_L_law_J1894 G.2.2 R23 x0 x1 x2 x3 x4 n1 k1 m0 = some (r, nF, kF, mF)) : fk_W E 7 n1 m0 (n1 - n0) (k1 - k0) 1894 [(0, tR x0), (1, tR x1), (2, tR x2), (3, tR x3), (4, tI x4)] [] := by
  unfold f_L_law_J1894 at hf
  refine fk_aload_n X 1 dL_law_1894 rfl ?_
  refine fk_aload_n X 0 dL_law_1895 rfl ?_
  refine fk_iload X 4 dL_law_1896 rfl ?_
  refine fk_iconst (v := 1) X dL_law_1898 rfl ?_
  refine fk_iadd X dL_law_1899 ?_
  refine fk_iaload' X dL_law_1900 hf (fun z1 hf => ?_)
  refine fk_aload_n X 0 dL_law_1901 rfl ?_
  refine fk_iload X 4 dL_law_1902 rfl ?_
  refine fk_iconst (v := 2) X dL_law_1904 rfl ?_
  refine fk_iadd X dL_law_1905 ?_
  refine fk_iaload' X dL_law_1906 hf (fun z2 hf => ?_)
  obtain ⟨u3, hq, hf⟩ := bI hf
  obtain ⟨z4, n6, k7, m5, hv, hf⟩ := bn4_eq hf
  have hmc := mo_X1_step G.2.2 x1 z1 z2 n1 k1 m0 _ _ _ _ hv
  have hm : n6 ≤ nF ∧ k7 ≤ kF := Mo4.use hf (Mo4.bind (fun z8 => Mo4.bind (fun z9 => Mo4.bind (fun u10 => Mo4.bn2 (fun z11 m12 => Mo4.ite ((mo_L_law_J2125 G.2.2 R23 x0 x1 x2 x3 x4 n6 k7 m12 hM23)) (Mo4.ok (by omega) (by omega)))))))
  refine fk_callV1I (ci := 0) (rest := []) (cs2 := n6 - n0) (sl2 := k7 - k0) X hq rfl (c_X1_step hv) n_X1_step q1414 q1415 q1416 q122 q1417 rfl dL_law_1907 rfl rfl rfl rfl rfl (by omega) (by omega) (by omega) (by omega) ?_
  refine fk_aload_n X 2 dL_law_1910 rfl ?_
  refine fk_aload_n X 0 dL_law_1911 rfl ?_
  refine fk_iload X 4 dL_law_1912 rfl ?_
  refine fk_iconst (v := 1) X dL_law_1914 rfl ?_
  refine fk_iadd X dL_law_1915 ?_
  refine fk_iaload' X dL_law_1916 hf (fun z8 hf => ?_)
  refine fk_aload_n X 0 dL_law_1917 rfl ?_
  refine fk_iload X 4 dL_law_1918 rfl ?_
  refine fk_iconst (v := 2) X dL_law_1920 rfl ?_
  refine fk_iadd X dL_law_1921 ?_
  refine fk_iaload' X dL_law_1922 hf (fun z9 hf => ?_)
  obtain ⟨u10, hq, hf⟩ := bI hf
  obtain ⟨z11, m12, hv, hf⟩ := bn2_eq hf
  have hm : n6 ≤ nF ∧ k7 ≤ kF := Mo4.use hf (Mo4.ite ((mo_L_law_J2125 G.2.2 R23 x0 x1 x2 x3 x4 n6 k7 m12 hM23)) (Mo4.ok (by omega) (by omega)))
  refine fk_callV0I (ci := 1) (rest := [tI z4]) X hq rfl (c_X2_step hv) n_X2_step q2153 q2154 q2155 q126 q2156 rfl dL_law_1923 rfl rfl rfl rfl rfl (by omega) (by omega) ?_
  refine fk_icmp_eq' X 2125 dL_law_1926 rfl hf (fun hf => ?_) (fun hf => ?_)
  · have hn : n0 ≤ n6 := by omega
    have hk : k0 ≤ k7 := by omega
    exact fk_cut' (w_L_law_J2125 X hB Y x0 x1 x2 x3 x4 n6 k7 hn hk m12 hR23 hM23 hf) [0, 1, 2, 3, 4] rfl
  · refine fk_iconst (v := 0) X dL_law_1929 rfl ?_
    cases hf
    exact fk_lawret X Y dL_law_1930 (by omega) (by omega)
set_option maxHeartbeats 4000000 in
theorem w_L_law_J1931 {E : fk_E} {l : Launch} {G : fk_G} {b0 n0 k0 nF kF : Nat} {r : Int32} {mF : fk_M} (X : fk_X E l G b0 "FigureKneeLaw" "law" cL_law 7 8192 100000 1200128 5501098) (hB : nF - n0 ≤ 1200128 ∧ kF - k0 ≤ 5501098) (Y : fk_YL E r) (x0 : Option Nat) (x1 : Option Nat) (x2 : Option Nat) (x3 : Option Nat) (x4 : Int32)  (n1 k1 : Nat) (hn1 : n0 ≤ n1) (hk1 : k0 ≤ k1) (m0 : fk_M) {R23 : Int32 → Nat → Nat → fk_M → Option (Int32 × Nat × Nat × fk_M)} (hR23 : ∀ (v4 : Int32) (n9 k9 : Nat) (m9 : fk_M), n0 ≤ n9 → k0 ≤ k9 → R23 v4 n9 k9 m9 = some (r, nF, kF, mF) → fk_W E 7 n9 m9 (n9 - n0) (k9 - k0) 23 [(0, tR x0), (1, tR x1), (2, tR x2), (3, tR x3), (4, tI v4)] []) (hM23 : ∀ (v4 : Int32) (n9 k9 : Nat) (m9 : fk_M), Mo4 n9 k9 (R23 v4 n9 k9 m9)) (hf : f_L_law_J1931 G.2.2 R23 x0 x1 x2 x3 x4 n1 k1 m0 = some (r, nF, kF, mF)) : fk_W E 7 n1 m0 (n1 - n0) (k1 - k0) 1931 [(0, tR x0), (1, tR x1), (2, tR x2), (3, tR x3), (4, tI x4)] [] := by
  unfold f_L_law_J1931 at hf
  refine fk_aload_n X 1 dL_law_1931 rfl ?_
  refine fk_aload_n X 0 dL_law_1932 rfl ?_
  refine fk_iload X 4 dL_law_1933 rfl ?_
  refine fk_iconst (v := 1) X dL_law_1935 rfl ?_
  refine fk_iadd X dL_law_1936 ?_
  refine fk_iaload' X dL_law_1937 hf (fun z1 hf => ?_)
  refine fk_aload_n X 0 dL_law_1938 rfl ?_
  refine fk_iload X 4 dL_law_1939 rfl ?_
  refine fk_iconst (v := 2) X dL_law_1941 rfl ?_
  refine fk_iadd X dL_law_1942 ?_
  refine fk_iaload' X dL_law_1943 hf (fun z2 hf => ?_)
  refine fk_aload_n X 0 dL_law_1944 rfl ?_
  refine fk_iload X 4 dL_law_1945 rfl ?_
  refine fk_iconst (v := 3) X dL_law_1947 rfl ?_
  refine fk_iadd X dL_law_1948 ?_
  refine fk_iaload' X dL_law_1949 hf (fun z3 hf => ?_)
  obtain ⟨u4, hq, hf⟩ := bI hf
  obtain ⟨z5, n7, k8, m6, hv, hf⟩ := bn4_eq hf
  have hmc := mo_X1_pay G.2.2 x1 z1 z2 z3 n1 k1 m0 _ _ _ _ hv
  have hm : n7 ≤ nF ∧ k8 ≤ kF := Mo4.use hf (Mo4.bind (fun z9 => Mo4.bind (fun z10 => Mo4.bind (fun z11 => Mo4.bind (fun u12 => Mo4.bn2 (fun z13 m14 => Mo4.ite ((mo_L_law_J2125 G.2.2 R23 x0 x1 x2 x3 x4 n7 k8 m14 hM23)) (Mo4.ok (by omega) (by omega))))))))
  refine fk_callV1I (ci := 0) (rest := []) (cs2 := n7 - n0) (sl2 := k8 - k0) X hq rfl (c_X1_pay hv) n_X1_pay q1426 q1427 q1428 q122 q1429 rfl dL_law_1950 rfl rfl rfl rfl rfl (by omega) (by omega) (by omega) (by omega) ?_
  refine fk_aload_n X 2 dL_law_1953 rfl ?_
  refine fk_aload_n X 0 dL_law_1954 rfl ?_
  refine fk_iload X 4 dL_law_1955 rfl ?_
  refine fk_iconst (v := 1) X dL_law_1957 rfl ?_
  refine fk_iadd X dL_law_1958 ?_
  refine fk_iaload' X dL_law_1959 hf (fun z9 hf => ?_)
  refine fk_aload_n X 0 dL_law_1960 rfl ?_
  refine fk_iload X 4 dL_law_1961 rfl ?_
  refine fk_iconst (v := 2) X dL_law_1963 rfl ?_
  refine fk_iadd X dL_law_1964 ?_
  refine fk_iaload' X dL_law_1965 hf (fun z10 hf => ?_)
  refine fk_aload_n X 0 dL_law_1966 rfl ?_
  refine fk_iload X 4 dL_law_1967 rfl ?_
  refine fk_iconst (v := 3) X dL_law_1969 rfl ?_
  refine fk_iadd X dL_law_1970 ?_
  refine fk_iaload' X dL_law_1971 hf (fun z11 hf => ?_)
  obtain ⟨u12, hq, hf⟩ := bI hf
  obtain ⟨z13, m14, hv, hf⟩ := bn2_eq hf
  have hm : n7 ≤ nF ∧ k8 ≤ kF := Mo4.use hf (Mo4.ite ((mo_L_law_J2125 G.2.2 R23 x0 x1 x2 x3 x4 n7 k8 m14 hM23)) (Mo4.ok (by omega) (by omega)))
  refine fk_callV0I (ci := 1) (rest := [tI z5]) X hq rfl (c_X2_pay hv) n_X2_pay q2161 q2162 q2163 q126 q2164 rfl dL_law_1972 rfl rfl rfl rfl rfl (by omega) (by omega) ?_
  refine fk_icmp_eq' X 2125 dL_law_1975 rfl hf (fun hf => ?_) (fun hf => ?_)
  · have hn : n0 ≤ n7 := by omega
    have hk : k0 ≤ k8 := by omega
    exact fk_cut' (w_L_law_J2125 X hB Y x0 x1 x2 x3 x4 n7 k8 hn hk m14 hR23 hM23 hf) [0, 1, 2, 3, 4] rfl
  · refine fk_iconst (v := 0) X dL_law_1978 rfl ?_
    cases hf
    exact fk_lawret X Y dL_law_1979 (by omega) (by omega)
set_option maxHeartbeats 4000000 in
theorem w_L_law_J1980 {E : fk_E} {l : Launch} {G : fk_G} {b0 n0 k0 nF kF : Nat} {r : Int32} {mF : fk_M} (X : fk_X E l G b0 "FigureKneeLaw" "law" cL_law 7 8192 100000 1200128 5501098) (hB : nF - n0 ≤ 1200128 ∧ kF - k0 ≤ 5501098) (Y : fk_YL E r) (x0 : Option Nat) (x1 : Option Nat) (x2 : Option Nat) (x3 : Option Nat) (x4 : Int32)  (n1 k1 : Nat) (hn1 : n0 ≤ n1) (hk1 : k0 ≤ k1) (m0 : fk_M) {R23 : Int32 → Nat → Nat → fk_M → Option (Int32 × Nat × Nat × fk_M)} (hR23 : ∀ (v4 : Int32) (n9 k9 : Nat) (m9 : fk_M), n0 ≤ n9 → k0 ≤ k9 → R23 v4 n9 k9 m9 = some (r, nF, kF, mF) → fk_W E 7 n9 m9 (n9 - n0) (k9 - k0) 23 [(0, tR x0), (1, tR x1), (2, tR x2), (3, tR x3), (4, tI v4)] []) (hM23 : ∀ (v4 : Int32) (n9 k9 : Nat) (m9 : fk_M), Mo4 n9 k9 (R23 v4 n9 k9 m9)) (hf : f_L_law_J1980 G.2.2 R23 x0 x1 x2 x3 x4 n1 k1 m0 = some (r, nF, kF, mF)) : fk_W E 7 n1 m0 (n1 - n0) (k1 - k0) 1980 [(0, tR x0), (1, tR x1), (2, tR x2), (3, tR x3), (4, tI x4)] [] := by
  unfold f_L_law_J1980 at hf
  refine fk_aload_n X 1 dL_law_1980 rfl ?_
  obtain ⟨u1, hq, hf⟩ := bI hf
  obtain ⟨z2, m3, hv, hf⟩ := bn2_eq hf
  have hm : n1 ≤ nF ∧ k1 ≤ kF := Mo4.use hf (Mo4.bind (fun u4 => Mo4.bn2 (fun z5 m6 => Mo4.ite ((mo_L_law_J2125 G.2.2 R23 x0 x1 x2 x3 x4 n1 k1 m6 hM23)) (Mo4.ok (by omega) (by omega)))))
  refine fk_callV0I (ci := 0) (rest := []) X hq rfl (c_X1_undo hv) n_X1_undo q1430 q1431 q1432 q122 q1433 rfl dL_law_1981 rfl rfl rfl rfl rfl (by omega) (by omega) ?_
  refine fk_aload_n X 2 dL_law_1984 rfl ?_
  obtain ⟨u4, hq, hf⟩ := bI hf
  obtain ⟨z5, m6, hv, hf⟩ := bn2_eq hf
  have hm : n1 ≤ nF ∧ k1 ≤ kF := Mo4.use hf (Mo4.ite ((mo_L_law_J2125 G.2.2 R23 x0 x1 x2 x3 x4 n1 k1 m6 hM23)) (Mo4.ok (by omega) (by omega)))
  refine fk_callV0I (ci := 1) (rest := [tI z2]) X hq rfl (c_X2_undo hv) n_X2_undo q2165 q2166 q2167 q126 q2168 rfl dL_law_1985 rfl rfl rfl rfl rfl (by omega) (by omega) ?_
  refine fk_icmp_eq' X 2125 dL_law_1988 rfl hf (fun hf => ?_) (fun hf => ?_)
  · have hn : n0 ≤ n1 := by omega
    have hk : k0 ≤ k1 := by omega
    exact fk_cut' (w_L_law_J2125 X hB Y x0 x1 x2 x3 x4 n1 k1 hn hk m6 hR23 hM23 hf) [0, 1, 2, 3, 4] rfl
  · refine fk_iconst (v := 0) X dL_law_1991 rfl ?_
    cases hf
    exact fk_lawret X Y dL_law_1992 (by omega) (by omega)
set_option maxHeartbeats 4000000 in
theorem w_L_law_J1993 {E : fk_E} {l : Launch} {G : fk_G} {b0 n0 k0 nF kF : Nat} {r : Int32} {mF : fk_M} (X : fk_X E l G b0 "FigureKneeLaw" "law" cL_law 7 8192 100000 1200128 5501098) (hB : nF - n0 ≤ 1200128 ∧ kF - k0 ≤ 5501098) (Y : fk_YL E r) (x0 : Option Nat) (x1 : Option Nat) (x2 : Option Nat) (x3 : Option Nat) (x4 : Int32)  (n1 k1 : Nat) (hn1 : n0 ≤ n1) (hk1 : k0 ≤ k1) (m0 : fk_M) {R23 : Int32 → Nat → Nat → fk_M → Option (Int32 × Nat × Nat × fk_M)} (hR23 : ∀ (v4 : Int32) (n9 k9 : Nat) (m9 : fk_M), n0 ≤ n9 → k0 ≤ k9 → R23 v4 n9 k9 m9 = some (r, nF, kF, mF) → fk_W E 7 n9 m9 (n9 - n0) (k9 - k0) 23 [(0, tR x0), (1, tR x1), (2, tR x2), (3, tR x3), (4, tI v4)] []) (hM23 : ∀ (v4 : Int32) (n9 k9 : Nat) (m9 : fk_M), Mo4 n9 k9 (R23 v4 n9 k9 m9)) (hf : f_L_law_J1993 G.2.2 R23 x0 x1 x2 x3 x4 n1 k1 m0 = some (r, nF, kF, mF)) : fk_W E 7 n1 m0 (n1 - n0) (k1 - k0) 1993 [(0, tR x0), (1, tR x1), (2, tR x2), (3, tR x3), (4, tI x4)] [] := by
  unfold f_L_law_J1993 at hf
  refine fk_aload_n X 1 dL_law_1993 rfl ?_
  obtain ⟨u1, hq, hf⟩ := bI hf
  obtain ⟨z2, n4, k5, m3, hv, hf⟩ := bn4_eq hf
  have hmc := mo_X1_image G.2.2 x1 n1 k1 m0 _ _ _ _ hv
  have hm : n4 ≤ nF ∧ k5 ≤ kF := Mo4.use hf (Mo4.bind (fun u6 => Mo4.bn2 (fun z7 m8 => Mo4.ite ((mo_L_law_J2125 G.2.2 R23 x0 x1 x2 x3 x4 n4 k5 m8 hM23)) (Mo4.ok (by omega) (by omega)))))
  refine fk_callV1I (ci := 0) (rest := []) (cs2 := n4 - n0) (sl2 := k5 - k0) X hq rfl (c_X1_image hv) n_X1_image q1435 q1436 q1437 q122 q1438 rfl dL_law_1994 rfl rfl rfl rfl rfl (by omega) (by omega) (by omega) (by omega) ?_
  refine fk_aload_n X 2 dL_law_1997 rfl ?_
  obtain ⟨u6, hq, hf⟩ := bI hf
  obtain ⟨z7, m8, hv, hf⟩ := bn2_eq hf
  have hm : n4 ≤ nF ∧ k5 ≤ kF := Mo4.use hf (Mo4.ite ((mo_L_law_J2125 G.2.2 R23 x0 x1 x2 x3 x4 n4 k5 m8 hM23)) (Mo4.ok (by omega) (by omega)))
  refine fk_callV0I (ci := 1) (rest := [tI z2]) X hq rfl (c_X2_image hv) n_X2_image q2169 q2170 q2171 q126 q2172 rfl dL_law_1998 rfl rfl rfl rfl rfl (by omega) (by omega) ?_
  refine fk_icmp_eq' X 2125 dL_law_2001 rfl hf (fun hf => ?_) (fun hf => ?_)
  · have hn : n0 ≤ n4 := by omega
    have hk : k0 ≤ k5 := by omega
    exact fk_cut' (w_L_law_J2125 X hB Y x0 x1 x2 x3 x4 n4 k5 hn hk m8 hR23 hM23 hf) [0, 1, 2, 3, 4] rfl
  · refine fk_iconst (v := 0) X dL_law_2004 rfl ?_
    cases hf
    exact fk_lawret X Y dL_law_2005 (by omega) (by omega)
set_option maxHeartbeats 4000000 in
theorem w_L_law_J2006 {E : fk_E} {l : Launch} {G : fk_G} {b0 n0 k0 nF kF : Nat} {r : Int32} {mF : fk_M} (X : fk_X E l G b0 "FigureKneeLaw" "law" cL_law 7 8192 100000 1200128 5501098) (hB : nF - n0 ≤ 1200128 ∧ kF - k0 ≤ 5501098) (Y : fk_YL E r) (x0 : Option Nat) (x1 : Option Nat) (x2 : Option Nat) (x3 : Option Nat) (x4 : Int32)  (n1 k1 : Nat) (hn1 : n0 ≤ n1) (hk1 : k0 ≤ k1) (m0 : fk_M) {R23 : Int32 → Nat → Nat → fk_M → Option (Int32 × Nat × Nat × fk_M)} (hR23 : ∀ (v4 : Int32) (n9 k9 : Nat) (m9 : fk_M), n0 ≤ n9 → k0 ≤ k9 → R23 v4 n9 k9 m9 = some (r, nF, kF, mF) → fk_W E 7 n9 m9 (n9 - n0) (k9 - k0) 23 [(0, tR x0), (1, tR x1), (2, tR x2), (3, tR x3), (4, tI v4)] []) (hM23 : ∀ (v4 : Int32) (n9 k9 : Nat) (m9 : fk_M), Mo4 n9 k9 (R23 v4 n9 k9 m9)) (hf : f_L_law_J2006 G.2.2 R23 x0 x1 x2 x3 x4 n1 k1 m0 = some (r, nF, kF, mF)) : fk_W E 7 n1 m0 (n1 - n0) (k1 - k0) 2006 [(0, tR x0), (1, tR x1), (2, tR x2), (3, tR x3), (4, tI x4)] [] := by
  unfold f_L_law_J2006 at hf
  refine fk_aload_n X 1 dL_law_2006 rfl ?_
  refine fk_aload_n X 0 dL_law_2007 rfl ?_
  refine fk_iload X 4 dL_law_2008 rfl ?_
  refine fk_iconst (v := 1) X dL_law_2010 rfl ?_
  refine fk_iadd X dL_law_2011 ?_
  refine fk_iaload' X dL_law_2012 hf (fun z1 hf => ?_)
  obtain ⟨u2, hq, hf⟩ := bI hf
  obtain ⟨z3, n5, k6, m4, hv, hf⟩ := bn4_eq hf
  have hmc := mo_X1_back x1 z1 n1 k1 m0 _ _ _ _ hv
  have hm : n5 ≤ nF ∧ k6 ≤ kF := Mo4.use hf (Mo4.bind (fun z7 => Mo4.bind (fun u8 => Mo4.bn2 (fun z9 m10 => Mo4.ite ((mo_L_law_J2125 G.2.2 R23 x0 x1 x2 x3 x4 n5 k6 m10 hM23)) (Mo4.ok (by omega) (by omega))))))
  refine fk_callV1I (ci := 0) (rest := []) (cs2 := n5 - n0) (sl2 := k6 - k0) X hq rfl (c_X1_back hv) n_X1_back q1439 q1440 q1441 q122 q1442 rfl dL_law_2013 rfl rfl rfl rfl rfl (by omega) (by omega) (by omega) (by omega) ?_
  refine fk_aload_n X 2 dL_law_2016 rfl ?_
  refine fk_aload_n X 0 dL_law_2017 rfl ?_
  refine fk_iload X 4 dL_law_2018 rfl ?_
  refine fk_iconst (v := 1) X dL_law_2020 rfl ?_
  refine fk_iadd X dL_law_2021 ?_
  refine fk_iaload' X dL_law_2022 hf (fun z7 hf => ?_)
  obtain ⟨u8, hq, hf⟩ := bI hf
  obtain ⟨z9, m10, hv, hf⟩ := bn2_eq hf
  have hm : n5 ≤ nF ∧ k6 ≤ kF := Mo4.use hf (Mo4.ite ((mo_L_law_J2125 G.2.2 R23 x0 x1 x2 x3 x4 n5 k6 m10 hM23)) (Mo4.ok (by omega) (by omega)))
  refine fk_callV0I (ci := 1) (rest := [tI z3]) X hq rfl (c_X2_back hv) n_X2_back q2173 q2174 q2175 q126 q2176 rfl dL_law_2023 rfl rfl rfl rfl rfl (by omega) (by omega) ?_
  refine fk_icmp_eq' X 2125 dL_law_2026 rfl hf (fun hf => ?_) (fun hf => ?_)
  · have hn : n0 ≤ n5 := by omega
    have hk : k0 ≤ k6 := by omega
    exact fk_cut' (w_L_law_J2125 X hB Y x0 x1 x2 x3 x4 n5 k6 hn hk m10 hR23 hM23 hf) [0, 1, 2, 3, 4] rfl
  · refine fk_iconst (v := 0) X dL_law_2029 rfl ?_
    cases hf
    exact fk_lawret X Y dL_law_2030 (by omega) (by omega)
set_option maxHeartbeats 4000000 in
theorem w_L_law_J2084 {E : fk_E} {l : Launch} {G : fk_G} {b0 n0 k0 nF kF : Nat} {r : Int32} {mF : fk_M} (X : fk_X E l G b0 "FigureKneeLaw" "law" cL_law 7 8192 100000 1200128 5501098) (hB : nF - n0 ≤ 1200128 ∧ kF - k0 ≤ 5501098) (Y : fk_YL E r) (x0 : Option Nat) (x1 : Option Nat) (x2 : Option Nat) (x3 : Option Nat) (x4 : Int32)  (n1 k1 : Nat) (hn1 : n0 ≤ n1) (hk1 : k0 ≤ k1) (m0 : fk_M) {R23 : Int32 → Nat → Nat → fk_M → Option (Int32 × Nat × Nat × fk_M)} (hR23 : ∀ (v4 : Int32) (n9 k9 : Nat) (m9 : fk_M), n0 ≤ n9 → k0 ≤ k9 → R23 v4 n9 k9 m9 = some (r, nF, kF, mF) → fk_W E 7 n9 m9 (n9 - n0) (k9 - k0) 23 [(0, tR x0), (1, tR x1), (2, tR x2), (3, tR x3), (4, tI v4)] []) (hM23 : ∀ (v4 : Int32) (n9 k9 : Nat) (m9 : fk_M), Mo4 n9 k9 (R23 v4 n9 k9 m9)) (hf : f_L_law_J2084 G.2.2 R23 x0 x1 x2 x3 x4 n1 k1 m0 = some (r, nF, kF, mF)) : fk_W E 7 n1 m0 (n1 - n0) (k1 - k0) 2084 [(0, tR x0), (1, tR x1), (2, tR x2), (3, tR x3), (4, tI x4)] [] := by
  unfold f_L_law_J2084 at hf
  refine fk_goto X 2125 dL_law_2084 rfl ?_
  have hn : n0 ≤ n1 := by omega
  have hk : k0 ≤ k1 := by omega
  exact fk_cut' (w_L_law_J2125 X hB Y x0 x1 x2 x3 x4 n1 k1 hn hk m0 hR23 hM23 hf) [0, 1, 2, 3, 4] rfl
set_option maxHeartbeats 4000000 in
theorem w_L_law_J2031 {E : fk_E} {l : Launch} {G : fk_G} {b0 n0 k0 nF kF : Nat} {r : Int32} {mF : fk_M} (X : fk_X E l G b0 "FigureKneeLaw" "law" cL_law 7 8192 100000 1200128 5501098) (hB : nF - n0 ≤ 1200128 ∧ kF - k0 ≤ 5501098) (Y : fk_YL E r) (x0 : Option Nat) (x1 : Option Nat) (x2 : Option Nat) (x3 : Option Nat) (x4 : Int32)  (n1 k1 : Nat) (hn1 : n0 ≤ n1) (hk1 : k0 ≤ k1) (m0 : fk_M) {R23 : Int32 → Nat → Nat → fk_M → Option (Int32 × Nat × Nat × fk_M)} (hR23 : ∀ (v4 : Int32) (n9 k9 : Nat) (m9 : fk_M), n0 ≤ n9 → k0 ≤ k9 → R23 v4 n9 k9 m9 = some (r, nF, kF, mF) → fk_W E 7 n9 m9 (n9 - n0) (k9 - k0) 23 [(0, tR x0), (1, tR x1), (2, tR x2), (3, tR x3), (4, tI v4)] []) (hM23 : ∀ (v4 : Int32) (n9 k9 : Nat) (m9 : fk_M), Mo4 n9 k9 (R23 v4 n9 k9 m9)) (hf : f_L_law_J2031 G.2.2 R23 x0 x1 x2 x3 x4 n1 k1 m0 = some (r, nF, kF, mF)) : fk_W E 7 n1 m0 (n1 - n0) (k1 - k0) 2031 [(0, tR x0), (1, tR x1), (2, tR x2), (3, tR x3), (4, tI x4)] [] := by
  unfold f_L_law_J2031 at hf
  refine fk_aload_n X 1 dL_law_2031 rfl ?_
  refine fk_aload_n X 0 dL_law_2032 rfl ?_
  refine fk_iload X 4 dL_law_2033 rfl ?_
  refine fk_iconst (v := 1) X dL_law_2035 rfl ?_
  refine fk_iadd X dL_law_2036 ?_
  refine fk_iaload' X dL_law_2037 hf (fun z1 hf => ?_)
  refine fk_aload_n X 3 dL_law_2038 rfl ?_
  obtain ⟨z2, n4, k5, m3, hv, hf⟩ := bn4_eq hf
  have hmc := mo_X0_led x1 z1 x3 n1 k1 m0 _ _ _ _ hv
  have hm : n4 ≤ nF ∧ k5 ≤ kF := Mo4.use hf (Mo4.bind (fun z6 => Mo4.bind (fun u7 => Mo4.bn2 (fun z8 m9 => Mo4.bind (fun u10 => Mo4.bind (fun z11 => Mo4.ite (Mo4.ite (Mo4.bind (fun z12 => Mo4.ite ((mo_L_law_J2084 G.2.2 R23 x0 x1 x2 x3 x4 n4 k5 m9 hM23)) (Mo4.ok (by omega) (by omega)))) ((mo_L_law_J2084 G.2.2 R23 x0 x1 x2 x3 x4 n4 k5 m9 hM23))) (Mo4.ok (by omega) (by omega))))))))
  refine fk_callLed (rest := []) (cs2 := n4 - n0) (sl2 := k5 - k0) X Y hv dL_law_2039 rfl rfl rfl rfl rfl (by omega) (by omega) (by omega) (by omega) ?_
  refine fk_istore X [(5, tI z2), (0, tR x0), (1, tR x1), (2, tR x2), (3, tR x3), (4, tI x4)] dL_law_2042 rfl rfl ?_
  refine fk_aload_n X 3 dL_law_2044 rfl ?_
  refine fk_aload_n X 1 dL_law_2045 rfl ?_
  refine fk_iload X 5 dL_law_2046 rfl ?_
  refine fk_iconst (v := 1) X dL_law_2048 rfl ?_
  refine fk_iadd X dL_law_2049 ?_
  refine fk_iaload' X dL_law_2050 hf (fun z6 hf => ?_)
  obtain ⟨u7, hq, hf⟩ := bI hf
  obtain ⟨z8, m9, hv, hf⟩ := bn2_eq hf
  have hm : n4 ≤ nF ∧ k5 ≤ kF := Mo4.use hf (Mo4.bind (fun u10 => Mo4.bind (fun z11 => Mo4.ite (Mo4.ite (Mo4.bind (fun z12 => Mo4.ite ((mo_L_law_J2084 G.2.2 R23 x0 x1 x2 x3 x4 n4 k5 m9 hM23)) (Mo4.ok (by omega) (by omega)))) ((mo_L_law_J2084 G.2.2 R23 x0 x1 x2 x3 x4 n4 k5 m9 hM23))) (Mo4.ok (by omega) (by omega)))))
  refine fk_callV0I (ci := 1) (rest := []) X hq rfl (c_X2_led hv) n_X2_led q2177 q2178 q2179 q126 q2180 rfl dL_law_2051 rfl rfl rfl rfl rfl (by omega) (by omega) ?_
  refine fk_istore X [(6, tI z8), (5, tI z2), (0, tR x0), (1, tR x1), (2, tR x2), (3, tR x3), (4, tI x4)] dL_law_2054 rfl rfl ?_
  refine fk_aload_n X 4 dL_law_2056 rfl ?_
  obtain ⟨u10, hq, hf⟩ := bI hf
  obtain ⟨z11, hv, hf⟩ := bI hf
  have hm : n4 ≤ nF ∧ k5 ≤ kF := Mo4.use hf (Mo4.ite (Mo4.ite (Mo4.bind (fun z12 => Mo4.ite ((mo_L_law_J2084 G.2.2 R23 x0 x1 x2 x3 x4 n4 k5 m9 hM23)) (Mo4.ok (by omega) (by omega)))) ((mo_L_law_J2084 G.2.2 R23 x0 x1 x2 x3 x4 n4 k5 m9 hM23))) (Mo4.ok (by omega) (by omega)))
  refine fk_callV0I (ci := 1) (rest := []) X hq rfl (c_X2_thrown hv) n_X2_thrown q1653 q1654 q1655 q126 q1656 rfl dL_law_2057 rfl rfl rfl rfl rfl (by omega) (by omega) ?_
  refine fk_iload X 1 dL_law_2060 rfl ?_
  refine fk_icmp_eq' X 2067 dL_law_2062 rfl hf (fun hf => ?_) (fun hf => ?_)
  · refine fk_iload X 1 dL_law_2067 rfl ?_
    refine fk_if_ne' X 2084 dL_law_2069 rfl hf (fun hf => ?_) (fun hf => ?_)
    · have hn : n0 ≤ n4 := by omega
      have hk : k0 ≤ k5 := by omega
      exact fk_cut' (w_L_law_J2084 X hB Y x0 x1 x2 x3 x4 n4 k5 hn hk m9 hR23 hM23 hf) [2, 3, 4, 5, 6] rfl
    · refine fk_aload_n X 5 dL_law_2072 rfl ?_
      refine fk_iconst (v := 0) X dL_law_2073 rfl ?_
      refine fk_laload' X dL_law_2074 hf (fun z12 hf => ?_)
      refine fk_iload X 0 dL_law_2075 rfl ?_
      refine fk_i2l X dL_law_2077 ?_
      refine fk_lcmp X dL_law_2078 ?_
      refine fk_if_eq' X 2084 dL_law_2079 rfl hf (fun hf => ?_) (fun hf => ?_)
      · have hn : n0 ≤ n4 := by omega
        have hk : k0 ≤ k5 := by omega
        exact fk_cut' (w_L_law_J2084 X hB Y x0 x1 x2 x3 x4 n4 k5 hn hk m9 hR23 hM23 hf) [2, 3, 4, 5, 6] rfl
      · refine fk_iconst (v := 0) X dL_law_2082 rfl ?_
        cases hf
        exact fk_lawret X Y dL_law_2083 (by omega) (by omega)
  · refine fk_iconst (v := 0) X dL_law_2065 rfl ?_
    cases hf
    exact fk_lawret X Y dL_law_2066 (by omega) (by omega)
set_option maxHeartbeats 4000000 in
theorem w_L_law_J2087 {E : fk_E} {l : Launch} {G : fk_G} {b0 n0 k0 nF kF : Nat} {r : Int32} {mF : fk_M} (X : fk_X E l G b0 "FigureKneeLaw" "law" cL_law 7 8192 100000 1200128 5501098) (hB : nF - n0 ≤ 1200128 ∧ kF - k0 ≤ 5501098) (Y : fk_YL E r) (x0 : Option Nat) (x1 : Option Nat) (x2 : Option Nat) (x3 : Option Nat) (x4 : Int32)  (n1 k1 : Nat) (hn1 : n0 ≤ n1) (hk1 : k0 ≤ k1) (m0 : fk_M) {R23 : Int32 → Nat → Nat → fk_M → Option (Int32 × Nat × Nat × fk_M)} (hR23 : ∀ (v4 : Int32) (n9 k9 : Nat) (m9 : fk_M), n0 ≤ n9 → k0 ≤ k9 → R23 v4 n9 k9 m9 = some (r, nF, kF, mF) → fk_W E 7 n9 m9 (n9 - n0) (k9 - k0) 23 [(0, tR x0), (1, tR x1), (2, tR x2), (3, tR x3), (4, tI v4)] []) (hM23 : ∀ (v4 : Int32) (n9 k9 : Nat) (m9 : fk_M), Mo4 n9 k9 (R23 v4 n9 k9 m9)) (hf : f_L_law_J2087 G.2.2 R23 x0 x1 x2 x3 x4 n1 k1 m0 = some (r, nF, kF, mF)) : fk_W E 7 n1 m0 (n1 - n0) (k1 - k0) 2087 [(0, tR x0), (1, tR x1), (2, tR x2), (3, tR x3), (4, tI x4)] [] := by
  unfold f_L_law_J2087 at hf
  refine fk_aload_n X 1 dL_law_2087 rfl ?_
  refine fk_aload_n X 0 dL_law_2088 rfl ?_
  refine fk_iload X 4 dL_law_2089 rfl ?_
  refine fk_iconst (v := 1) X dL_law_2091 rfl ?_
  refine fk_iadd X dL_law_2092 ?_
  refine fk_iaload' X dL_law_2093 hf (fun z1 hf => ?_)
  obtain ⟨u2, hq, hf⟩ := bI hf
  obtain ⟨z3, hv, hf⟩ := bI hf
  have hm : n1 ≤ nF ∧ k1 ≤ kF := Mo4.use hf (Mo4.bind (fun z4 => Mo4.bind (fun u5 => Mo4.bn2 (fun z6 m7 => Mo4.ite ((mo_L_law_J2125 G.2.2 R23 x0 x1 x2 x3 x4 n1 k1 m7 hM23)) (Mo4.ok (by omega) (by omega))))))
  refine fk_callV0I (ci := 0) (rest := []) X hq rfl (c_X1_size hv) n_X1_size q1443 q1444 q1445 q122 q1446 rfl dL_law_2094 rfl rfl rfl rfl rfl (by omega) (by omega) ?_
  refine fk_aload_n X 2 dL_law_2097 rfl ?_
  refine fk_aload_n X 0 dL_law_2098 rfl ?_
  refine fk_iload X 4 dL_law_2099 rfl ?_
  refine fk_iconst (v := 1) X dL_law_2101 rfl ?_
  refine fk_iadd X dL_law_2102 ?_
  refine fk_iaload' X dL_law_2103 hf (fun z4 hf => ?_)
  obtain ⟨u5, hq, hf⟩ := bI hf
  obtain ⟨z6, m7, hv, hf⟩ := bn2_eq hf
  have hm : n1 ≤ nF ∧ k1 ≤ kF := Mo4.use hf (Mo4.ite ((mo_L_law_J2125 G.2.2 R23 x0 x1 x2 x3 x4 n1 k1 m7 hM23)) (Mo4.ok (by omega) (by omega)))
  refine fk_callV0I (ci := 1) (rest := [tI z3]) X hq rfl (c_X2_size hv) n_X2_size q2181 q2182 q2183 q126 q2184 rfl dL_law_2104 rfl rfl rfl rfl rfl (by omega) (by omega) ?_
  refine fk_icmp_eq' X 2125 dL_law_2107 rfl hf (fun hf => ?_) (fun hf => ?_)
  · have hn : n0 ≤ n1 := by omega
    have hk : k0 ≤ k1 := by omega
    exact fk_cut' (w_L_law_J2125 X hB Y x0 x1 x2 x3 x4 n1 k1 hn hk m7 hR23 hM23 hf) [0, 1, 2, 3, 4] rfl
  · refine fk_iconst (v := 0) X dL_law_2110 rfl ?_
    cases hf
    exact fk_lawret X Y dL_law_2111 (by omega) (by omega)
