/-! PLAIN 84: the law's loop, from call to call (by gen_loop.py) -/
set_option maxRecDepth 100000
section LOOP
variable {x sc L : Nat} {xs : Nat → Int32} {g : Nat → Nat} {b0 : fk_M}
theorem Gz.ite {ρ : Type} {R : Int32 → Nat → Nat → fk_M → Option ρ} {i : Int} {n k : Nat} {c : Prop} [Decidable c] {p q : Option ρ} (h1 : Gz x g b0 R i n k p) (h2 : Gz x g b0 R i n k q) : Gz x g b0 R i n k (if c then p else q) := by
  split
  · exact h1
  · exact h2
theorem law_loop (hB : B0 x g b0) (hS : Sc x sc L xs b0) : ∀ (d N : Nat) (i : Int) (n k : Nat) (m : fk_M), 0 ≤ i → i ≤ 390 → (L : Int) < i + 6 + 6 * d → d < N → Inv x n g b0 m → ∃ n' k' m', f_L_law_L23 g (some sc) (some x) (some (x + 8)) (some (x + 24)) N (ii i) n k m = some (1, n', k', m') ∧ n ≤ n' ∧ n' ≤ n + 7300 * d ∧ k ≤ k' ∧ k' ≤ k + 62400 * d := by
  have hL := hS.2.1
  intro d
  induction d with
  | zero =>
    intro N i n k m i0 i9 h1 h2 hI
    obtain ⟨N, rfl⟩ : ∃ M, N = M + 1 := ⟨N - 1, by omega⟩
    have hlow : Low x b0 m := by
      obtain ⟨F, P, A, f, l, a, b, u, kk, rfl, hI⟩ := hI
      exact hI.low.hp F P A f l a
    refine ⟨n, k, m, ?_, by omega⟩
    rw [f_L_law_L23, hS.len hlow, Option.bind_some, show (6 : Int32) = ii 6 from rfl, ii_sub, if_pos (by rw [ii_lt (by omega) (by omega)]; omega)]
  | succ d ih =>
    intro N i n k m i0 i9 h1 h2 hI
    obtain ⟨N, rfl⟩ : ∃ M, N = M + 1 := ⟨N - 1, by omega⟩
    have hlow : Low x b0 m := by
      obtain ⟨F, P, A, f, l, a, b, u, kk, rfl, hI⟩ := hI
      exact hI.low.hp F P A f l a
    by_cases hc : (L : Int) - 6 < i
    · refine ⟨n, k, m, ?_, by omega⟩
      rw [f_L_law_L23, hS.len hlow, Option.bind_some, show (6 : Int32) = ii 6 from rfl, ii_sub, if_pos (by rw [ii_lt (by omega) (by omega)]; omega)]
    have i1 : i + 6 ≤ L := by omega
    have hg : Gz x g b0 (f_L_law_L23 g (some sc) (some x) (some (x + 8)) (some (x + 24)) N) i n k (f_L_law_L23 g (some sc) (some x) (some (x + 8)) (some (x + 24)) (N + 1) (ii i) n k m) := by
      rw [f_L_law_L23, hS.len hlow, Option.bind_some, show (6 : Int32) = ii 6 from rfl, ii_sub, if_neg (by rw [ii_lt (by omega) (by omega)]; omega), hS.at hlow i0 (by omega), Option.bind_some]
      refine Gz.ite (t_292 hS hI i0 i1) ?_
      refine Gz.ite (t_365 hB hS hI i0 i1 _) ?_
      refine Gz.ite (t_390 hI _ _) ?_
      refine Gz.ite (t_403 hI _ _) ?_
      refine Gz.ite (t_416 hS hI i0 i1) ?_
      refine Gz.ite (t_453 hS hI i0 i1) ?_
      refine Gz.ite (t_490 hS hI i0 i1) ?_
      refine Gz.ite (t_527 hS hI i0 i1) ?_
      refine Gz.ite (t_552 hS hI i0 i1) ?_
      refine Gz.ite (t_589 hS hI i0 i1) ?_
      refine Gz.ite (t_614 hS hI i0 i1) ?_
      refine Gz.ite (t_639 hS hI i0 i1) ?_
      refine Gz.ite (t_676 hS hI i0 i1) ?_
      refine Gz.ite (t_701 hS hI i0 i1) ?_
      refine Gz.ite (t_726 hS hI i0 i1) ?_
      refine Gz.ite (t_751 hS hI i0 i1) ?_
      refine Gz.ite (t_788 hS hI i0 i1) ?_
      refine Gz.ite (t_813 hS hI i0 i1) ?_
      refine Gz.ite (t_850 hS hI i0 i1) ?_
      refine Gz.ite (t_875 hS hI i0 i1) ?_
      refine Gz.ite (t_900 hS hI i0 i1) ?_
      refine Gz.ite (t_925 hS hI i0 i1) ?_
      refine Gz.ite (t_962 hS hI i0 i1) ?_
      refine Gz.ite (t_999 hS hI i0 i1) ?_
      refine Gz.ite (t_1024 hS hI i0 i1) ?_
      refine Gz.ite (t_1061 hS hI i0 i1) ?_
      refine Gz.ite (t_1074 hS hI i0 i1) ?_
      refine Gz.ite (t_1099 hS hI i0 i1) ?_
      refine Gz.ite (t_1112 hS hI i0 i1) ?_
      refine Gz.ite (t_1125 hS hI i0 i1) ?_
      refine Gz.ite (t_1138 hS hI i0 i1) ?_
      refine Gz.ite (t_1151 hS hI i0 i1) ?_
      refine Gz.ite (t_1164 hS hI i0 i1) ?_
      refine Gz.ite (t_1189 hS hI i0 i1) ?_
      refine Gz.ite (t_1226 hS hI i0 i1) ?_
      refine Gz.ite (t_1251 hS hI i0 i1) ?_
      refine Gz.ite (t_1264 hS hI i0 i1) ?_
      refine Gz.ite (t_1277 hS hI i0 i1) ?_
      refine Gz.ite (t_1290 hS hI i0 i1) ?_
      refine Gz.ite (t_1315 hS hI i0 i1) ?_
      refine Gz.ite (t_1352 hS hI i0 i1) ?_
      refine Gz.ite (t_1461 hS hI i0 i1) ?_
      refine Gz.ite (t_1486 hS hI i0 i1) ?_
      refine Gz.ite (t_1511 hS hI i0 i1) ?_
      refine Gz.ite (t_1577 hS hI i0 i1) ?_
      refine Gz.ite (t_1626 hS hI i0 i1) ?_
      refine Gz.ite (t_1663 hS hI i0 i1) ?_
      refine Gz.ite (t_1741 hS hI i0 i1) ?_
      refine Gz.ite (t_1807 hS hI i0 i1) ?_
      refine Gz.ite (t_1856 hI _ _) ?_
      refine Gz.ite (t_1869 hS hI i0 i1 _) ?_
      refine Gz.ite (t_1894 hS hI i0 i1 _) ?_
      refine Gz.ite (t_1931 hS hI i0 i1 _) ?_
      refine Gz.ite (t_1980 hI _ _) ?_
      refine Gz.ite (t_1993 hI _ _) ?_
      refine Gz.ite (t_2006 hS hI i0 i1 _) ?_
      refine Gz.ite (t_2031 hS hI i0 i1) ?_
      refine Gz.ite (t_2087 hS hI i0 i1 _) ?_
      refine Gz.ite (t_2112 hI _ _) ?_
      exact ⟨n, k, m, rfl, hI, by omega⟩
    obtain ⟨n1, k1, m1, e1, e2, e3⟩ := hg
    rw [e1, show (6 : Int32) = ii 6 from rfl, ii_add]
    obtain ⟨n2, k2, m2, e4, e5⟩ := ih N (i + 6) n1 k1 m1 (by omega) (by omega) (by omega) (by omega) e2
    exact ⟨n2, k2, m2, e4, by omega⟩
end LOOP
