/-! PLAIN 61: the component finds a name -/
set_option maxRecDepth 100000
theorem fn_none (c : Int → Prop) [DecidablePred c] : ∀ (d : Nat) (k : Int), (∀ p, k ≤ p → p < k + d → ¬ c p) → fn c d k = none := by
  intro d
  induction d with
  | zero => intro k h; rfl
  | succ d ih =>
    intro k h
    show (if c k then some k else fn c d (k + 1)) = none
    rw [if_neg (h k (by omega) (by omega))]
    exact ih (k + 1) (fun p p1 p2 => h p (by omega) (by omega))
theorem k_find {m : fk_M} {pa l4 e4 c : Nat} {φ ψ : Int → Int} {q : Int → Nat} {w : List Int} (hF : FI φ ψ) (hP : PN m pa l4 e4 φ q) (hc : StC m c w) (hw : Lt w) : f_X5_find (some pa) (some c) m = some (ii (fnd φ w)) := by
  obtain ⟨⟨V, v1, v2⟩, ⟨V4, w4, c4, gl, a1, a2, a3, a4, a5, a6⟩, hp⟩ := hP
  have h2 := hF.2.2.2.1
  have h10 := hF.2.2.2.2.2.2.2.2.2.1
  have hL : ∀ (d N : Nat) (k : Int), 0 ≤ k → k + d = 5 → d < N → f_X5_find_L2 (some pa) (some c) m N (ii k) = some (ii (fd (fun p => nmAt φ w p) d k (-1))) := by
    intro d
    induction d with
    | zero =>
      intro N k h1 h3 h4
      obtain ⟨N, rfl⟩ : ∃ M, N = M + 1 := ⟨N - 1, by omega⟩
      rw [f_X5_find_L2, gR_of v1 v2, Option.bind_some, isO_of a1, Option.bind_some, list_sz a1 a3, Option.bind_some, if_pos (by rw [ii_le (by omega) (by omega)]; omega)]
      rfl
    | succ d ih =>
      intro N k h1 h3 h4
      obtain ⟨N, rfl⟩ : ∃ M, N = M + 1 := ⟨N - 1, by omega⟩
      rw [f_X5_find_L2, gR_of v1 v2, Option.bind_some, isO_of a1, Option.bind_some, list_sz a1 a3, Option.bind_some]
      by_cases hk : φ 2 ≤ k
      · rw [if_pos (by rw [ii_le (by omega) (by omega)]; omega)]
        unfold fd
        rw [fn_none _ (d + 1) k (fun p p1 p2 hn => by
          have := (h10 p (by omega) (by omega)).2.1
          have := hn.1.1
          omega)]
        rfl
      · obtain ⟨W, s, wd, b1, b2, b3, b4, b5, b6, b7⟩ := hp k h1 (by omega)
        have hcst : cst m (some (q k)) 6 = some () := isO_of b1
        rw [if_neg (by rw [ii_le (by omega) (by omega)]; omega), Option.bind_some, isO_of a1, Option.bind_some, list_get a1 a2 a3 a4 h1 (by omega) a5 (by omega), Option.bind_some, a6 k h1 (by omega), hcst, Option.bind_some, gR_of b1 b2, Option.bind_some, b3.o, Option.bind_some, s_equals b3 hc b4 hw, Option.bind_some, show (1 : Int32) = ii 1 from rfl, ii_add]
        have hi := nmAt_iff (φ := φ) (w := w) (p := k) b5 b6 b7
        have ef : fd (fun p => nmAt φ w p) (d + 1) k (-1) = if nmAt φ w k then k else fd (fun p => nmAt φ w p) d (k + 1) (-1) := by
          unfold fd
          show (if nmAt φ w k then some k else fn (fun p => nmAt φ w p) d (k + 1)).getD (-1) = _
          split <;> rfl
        rw [ef]
        by_cases he : wd = w
        · rw [if_pos he, if_pos (hi.mpr he), if_neg (show ¬ ii 1 = 0 by decide)]
        · rw [if_neg he, if_neg (fun h => he (hi.mp h)), if_pos rfl]
          exact ih N (k + 1) (by omega) (by omega) (by omega)
  exact hL 5 fk_fuel 0 (by omega) (by omega) (by unfold fk_fuel; omega)
