/-! PLAIN 59: the component's reader: names -/
set_option maxRecDepth 100000
theorem kw_h2 : hsh (kw 2) 0 = 3440742 ∧ hsh (kw 3) 0 = 3433178 ∧ hsh (kw 4) 0 = -566947566 ∧ hsh (kw 5) 0 = 3079315 ∧ hsh (kw 6) 0 = -840227282 ∧ hsh (kw 7) 0 = 99151926 := by decide +kernel
theorem nmJ (g : Nat → Nat) (m : fk_M) : (∀ k : Int32, (k = 0 ∨ k = 1 ∨ k = 2 ∨ k = 3 ∨ k = 4 ∨ k = 5) → f_X6_isName_J161 g k m = some (0, m)) ∧ f_X6_isName_J161 g (-1) m = some (1, m) := by
  constructor
  · rintro k (rfl | rfl | rfl | rfl | rfl | rfl) <;> rfl
  · rfl
theorem k_isName {m : fk_M} {z : Nat} {t : Tkn} {n : Int} (g : Nat → Nat) (hK : TkC m z t) (h8 : Tok8 n t) (hc : ∀ i, i < 40 → StC m (g i) (kw i)) : ∃ m', f_X6_isName g (some z) m = some (if isNm t then 1 else 0, m') ∧ (∀ q, m' q = m q ∨ ∃ V V', m q = some (true, oB 16 V) ∧ m' q = some (true, oB 16 V')) ∧ ∀ q w, StC m q w → StC m' q w := by
  obtain ⟨k1, k2, k3, k4, s, k5, k6⟩ := hK.at
  have hr := h8.2.2.1
  unfold f_X6_isName
  rw [k2, Option.bind_some]
  by_cases h2 : t.1 = 2
  rotate_left
  · rw [if_neg (show ¬ ii t.1 = 2 by rw [show (2 : Int32) = ii 2 from rfl, ii_eq (by omega) (by omega)]; exact h2), if_neg (fun h => h2 h.1)]
    exact ⟨m, rfl, fun _ => Or.inl rfl, fun _ _ h => h⟩
  obtain ⟨m', a1, a2, a3, a4⟩ := s_hash k6 h8.2.2.2.2.1
  refine ⟨m', ?_, fun q => ?_, a4⟩
  · rw [if_pos (show ii t.1 = 2 by rw [h2]; rfl), k5, Option.bind_some, k6.o, Option.bind_some, a1, bn2_some]
    have hq : ∀ i, i < 40 → f_J5_equals (some s) (some (g i)) m' = some (if t.2.2.2.2 = kw i then 1 else 0) := fun i hi => s_equals (a4 _ _ k6) (a4 _ _ (hc i hi)) h8.2.2.2.2.1 (kw_lt hi)
    have ho := (a4 _ _ k6).o
    obtain ⟨j1, j2⟩ := nmJ g m'
    obtain ⟨h2', h3, h4, h5, h6, h7⟩ := kw_h2
    by_cases hk : keyw t.2.2.2.2
    · rw [if_neg (show ¬ isNm t from fun h => h.2 hk)]
      rcases hk with e | e | e | e | e | e
      · rw [show hsh t.2.2.2.2 0 = _ from (congrArg (fun v => hsh v 0) e).trans h2', if_neg (by decide), if_neg (by decide), if_neg (by decide), if_neg (by decide), if_pos rfl, ho, Option.bind_some, hq 10 (by omega), Option.bind_some, if_pos (show t.2.2.2.2 = kw 10 from e), if_neg (by decide)]
        exact j1 _ (by decide)
      · rw [show hsh t.2.2.2.2 0 = _ from (congrArg (fun v => hsh v 0) e).trans h3, if_neg (by decide), if_neg (by decide), if_neg (by decide), if_pos rfl, ho, Option.bind_some, hq 11 (by omega), Option.bind_some, if_pos (show t.2.2.2.2 = kw 11 from e), if_neg (by decide)]
        exact j1 _ (by decide)
      · rw [show hsh t.2.2.2.2 0 = _ from (congrArg (fun v => hsh v 0) e).trans h4, if_neg (by decide), if_pos rfl, ho, Option.bind_some, hq 12 (by omega), Option.bind_some, if_pos (show t.2.2.2.2 = kw 12 from e), if_neg (by decide)]
        exact j1 _ (by decide)
      · rw [show hsh t.2.2.2.2 0 = _ from (congrArg (fun v => hsh v 0) e).trans h5, if_neg (by decide), if_neg (by decide), if_pos rfl, ho, Option.bind_some, hq 13 (by omega), Option.bind_some, if_pos (show t.2.2.2.2 = kw 13 from e), if_neg (by decide)]
        exact j1 _ (by decide)
      · rw [show hsh t.2.2.2.2 0 = _ from (congrArg (fun v => hsh v 0) e).trans h6, if_pos rfl, ho, Option.bind_some, hq 14 (by omega), Option.bind_some, if_pos (show t.2.2.2.2 = kw 14 from e), if_neg (by decide)]
        exact j1 _ (by decide)
      · rw [show hsh t.2.2.2.2 0 = _ from (congrArg (fun v => hsh v 0) e).trans h7, if_neg (by decide), if_neg (by decide), if_neg (by decide), if_neg (by decide), if_neg (by decide), if_pos rfl, ho, Option.bind_some, hq 15 (by omega), Option.bind_some, if_pos (show t.2.2.2.2 = kw 15 from e), if_neg (by decide)]
        exact j1 _ (by decide)
    · rw [if_pos (show isNm t from ⟨h2, hk⟩), ho, hq 10 (by omega), hq 11 (by omega), hq 12 (by omega), hq 13 (by omega), hq 14 (by omega), hq 15 (by omega), if_neg (fun e : t.2.2.2.2 = kw 10 => hk (Or.inl e)), if_neg (fun e : t.2.2.2.2 = kw 11 => hk (Or.inr (Or.inl e))), if_neg (fun e : t.2.2.2.2 = kw 12 => hk (Or.inr (Or.inr (Or.inl e)))), if_neg (fun e : t.2.2.2.2 = kw 13 => hk (Or.inr (Or.inr (Or.inr (Or.inl e))))), if_neg (fun e : t.2.2.2.2 = kw 14 => hk (Or.inr (Or.inr (Or.inr (Or.inr (Or.inl e)))))), if_neg (fun e : t.2.2.2.2 = kw 15 => hk (Or.inr (Or.inr (Or.inr (Or.inr (Or.inr e))))))]
      simp only [Option.bind_some, if_true, j2, ite_self]
  · by_cases hq : q = s
    · rcases a3 with h | h
      · exact Or.inl (by rw [h])
      · exact Or.inr (by rw [hq]; exact h)
    · exact Or.inl (a2 q hq)
