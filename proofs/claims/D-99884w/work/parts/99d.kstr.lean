/-! PLAIN 47: Strings in any heap: equals, hashCode -/
set_option maxRecDepth 100000
/-- a String's cells in a heap -/
def StC (m : fk_M) (q : Nat) (w : List Int) : Prop := ∃ (wr : Bool) (V : Nat → fk_T) (v : Nat) (wv : Bool) (gv : Nat → Int32), m q = some (wr, oB 16 V) ∧ V 0 = tR (some v) ∧ V 1 = tI 0 ∧ m v = some (wv, aN 1 w.length gv) ∧ (∀ i : Nat, i < w.length → gv i = ii (w.getD i 0)) ∧ ((∃ z : Int32, V 2 = tI z ∧ z ≠ 0 ∧ z = hsh w 0) ∨ (V 2 = tI 0 ∧ V 3 = tI 1 ∧ hsh w 0 = 0) ∨ (V 2 = tI 0 ∧ V 3 = tI 0 ∧ wr = true))
theorem Str.c {x : Nat} {F : Nat → Int} {P : Nat → Option Nat} {A : Nat → Int → Int} {f l : Nat → Int} {a : Nat → Int → Int} {b : fk_M} {q : Nat} {w : List Int} (h : Str x b q w) : StC (hp x F P A f l a b) q w := by
  obtain ⟨ho, wr, V, v, wv, gv, h1, h2, h3, ov, h4, h5⟩ := h
  exact ⟨wr, V, v, wv, gv, (hp_out x F P A f l a b ho).trans h1, h2, h3, (hp_out x F P A f l a b ov).trans h4, h5⟩
theorem StC.o {m : fk_M} {q : Nat} {w : List Int} (h : StC m q w) : isO m (some q) 16 = some () := by
  obtain ⟨wr, V, v, wv, gv, h1, -⟩ := h
  exact isO_of h1
theorem s_equals {m : fk_M} {p q : Nat} {u v : List Int} (hp : StC m p u) (hq : StC m q v) (hu : Lt u) (hv : Lt v) : f_J5_equals (some p) (some q) m = some (if u = v then 1 else 0) := by
  obtain ⟨wr, V, va, wv, gv, h1, h2, h3, h4, h5, -⟩ := hp
  obtain ⟨wr', V', va', wv', gv', k1, k2, k3, k4, k5, -⟩ := hq
  have hu8 := hu.1
  have hv8 := hv.1
  unfold f_J5_equals f_J5_equals_J36
  by_cases hpq : p = q
  · subst hpq
    rw [if_pos rfl]
    rw [h1] at k1
    cases k1
    rw [h2] at k2
    cases k2
    rw [h4] at k4
    have e0 := Sum.inl.inj (Prod.mk.inj (Option.some.inj k4)).2
    have e1 : u.length = v.length ∧ gv = gv' := ⟨(Prod.mk.inj (Prod.mk.inj e0).2).1, (Prod.mk.inj (Prod.mk.inj e0).2).2⟩
    rw [if_pos (w_eq.mpr ⟨e1.1, fun i hi => ?_⟩)]
    have a1 := h5 i hi
    have a2 := k5 i (by omega)
    rw [← e1.2, a1] at a2
    have r1 := hu.2 i hi
    have r2 := hv.2 i (by omega)
    exact (ii_eq (by omega) (by omega)).mp a2
  rw [if_neg (fun e => hpq (Option.some.inj e))]
  have hist : ist m (some q) 16 = some 1 := by
    show (isO m (some q) 16).map (fun _ => 1) = some 1
    rw [isO_of k1]
    rfl
  have hcst : cst m (some q) 16 = some () := isO_of k1
  rw [hist, Option.bind_some, if_neg (show ¬ (1 : Int32) = 0 by decide), hcst, Option.bind_some, gI_of h1 h3, Option.bind_some, gI_of k1 k3, Option.bind_some, if_pos rfl, gR_of h1 h2, Option.bind_some, gR_of k1 k2, Option.bind_some]
  have key : f_J10_equals (some va) (some va') m = some (if u = v then 1 else 0) := by
    unfold f_J10_equals
    rw [aLn_ofI h4, Option.bind_some, aLn_ofI k4, Option.bind_some]
    by_cases hl : u.length = v.length
    rotate_left
    · rw [if_neg (show ¬ ii (u.length : Int) = ii (v.length : Int) by rw [ii_eq (by omega) (by omega)]; omega), if_neg (fun e => hl (by rw [e]))]
    rw [if_pos (show ii (u.length : Int) = ii (v.length : Int) by rw [hl])]
    have hL : ∀ (d N k : Nat), k + d = u.length → d < N → (∀ j : Nat, j < k → u.getD j 0 = v.getD j 0) → f_J10_equals_L9 (some va) (some va') m N (ii k) = some (if u = v then 1 else 0) := by
      intro d
      induction d with
      | zero =>
        intro N k h6 h7 h8
        obtain ⟨N, rfl⟩ : ∃ M, N = M + 1 := ⟨N - 1, by omega⟩
        rw [f_J10_equals_L9, aLn_ofI h4, Option.bind_some, if_pos (by rw [ii_le (by omega) (by omega)]; omega), if_pos (w_eq.mpr ⟨hl, fun i hi => h8 i (by omega)⟩)]
      | succ d ih =>
        intro N k h6 h7 h8
        obtain ⟨N, rfl⟩ : ∃ M, N = M + 1 := ⟨N - 1, by omega⟩
        have r1 := hu.2 k (by omega)
        have r2 := hv.2 k (by omega)
        have e1 : ii (k : Int) + 1 = ii ((k + 1 : Nat) : Int) := by rw [show (1 : Int32) = ii 1 from rfl, ii_add]; rfl
        rw [f_J10_equals_L9, aLn_ofI h4, Option.bind_some, if_neg (by rw [ii_le (by omega) (by omega)]; omega), aI_of h4 (by omega) (by omega) (by omega), Option.bind_some, aI_of k4 (by omega) (by omega) (by omega), Option.bind_some, show ((k : Int)).toNat = k from rfl, h5 k (by omega), k5 k (by omega), e1]
        by_cases hc : u.getD k 0 = v.getD k 0
        · rw [if_pos (show ii (u.getD k 0) = ii (v.getD k 0) by rw [hc])]
          exact ih N (k + 1) (by omega) (by omega) (fun j hj => by
            by_cases hjk : j = k
            · rw [hjk]; exact hc
            · exact h8 j (by omega))
        · rw [if_neg (show ¬ ii (u.getD k 0) = ii (v.getD k 0) by rw [ii_eq (by omega) (by omega)]; exact hc), if_neg (fun e => hc (by rw [e]))]
    exact hL u.length fk_fuel 0 (by omega) (by unfold fk_fuel; omega) (fun j hj => by omega)
  rw [key, Option.bind_some]
  by_cases huv : u = v
  · rw [if_pos huv, if_neg (by decide)]
  · rw [if_neg huv, if_pos rfl]
theorem hsh_cg : ∀ (w w' : List Int) (h : Int32), w.length = w'.length → (∀ i : Nat, i < w.length → ii (w.getD i 0) = ii (w'.getD i 0)) → hsh w h = hsh w' h := by
  intro w
  induction w with
  | nil =>
    intro w' h h1 h2
    cases w' with
    | nil => rfl
    | cons c cs => cases h1
  | cons c cs ih =>
    intro w' h h1 h2
    cases w' with
    | nil => cases h1
    | cons c' cs' =>
      have e0 : ii c = ii c' := h2 0 (by show 0 < cs.length + 1; omega)
      have h1' : cs.length + 1 = cs'.length + 1 := h1
      show hsh cs (31 * h + ii c) = hsh cs' (31 * h + ii c')
      rw [e0]
      exact ih cs' _ (by omega) (fun i hi => h2 (i + 1) (by show i + 1 < cs.length + 1; omega))
theorem drop_get (w : List Int) {k : Nat} (h : k < w.length) : w.drop k = w.getD k 0 :: w.drop (k + 1) := by
  rw [List.drop_eq_getElem_cons h, List.getD_eq_getElem?_getD, List.getElem?_eq_getElem h]
  rfl
theorem s_hash {m : fk_M} {q : Nat} {w : List Int} (hs : StC m q w) (hw : Lt w) : ∃ m', f_J5_hashCode (some q) m = some (hsh w 0, m') ∧ (∀ q', q' ≠ q → m' q' = m q') ∧ (m' = m ∨ ∃ V V', m q = some (true, oB 16 V) ∧ m' q = some (true, oB 16 V')) ∧ ∀ q' w', StC m q' w' → StC m' q' w' := by
  have hs0 := hs
  obtain ⟨wr, V, v, wv, gv, h1, h2, h3, h4, h5, h6⟩ := hs
  have h8 := hw.1
  unfold f_J5_hashCode
  have hL : ∀ (d N k : Nat) (h : Int32), k + d = w.length → d < N → f_J7_signedHashCode_L8 (some v) (ii (w.length : Int)) m N h (ii k) = some (hsh (w.drop k) h) := by
    intro d
    induction d with
    | zero =>
      intro N k h h6 h7
      obtain ⟨N, rfl⟩ : ∃ M, N = M + 1 := ⟨N - 1, by omega⟩
      rw [f_J7_signedHashCode_L8, if_pos (by rw [ii_le (by omega) (by omega)]; omega), show w.drop k = [] from List.drop_eq_nil_of_le (by omega)]
      rfl
    | succ d ih =>
      intro N k h h6 h7
      obtain ⟨N, rfl⟩ : ∃ M, N = M + 1 := ⟨N - 1, by omega⟩
      have r1 := hw.2 k (by omega)
      have e1 : ii (k : Int) + 1 = ii ((k + 1 : Nat) : Int) := by rw [show (1 : Int32) = ii 1 from rfl, ii_add]; rfl
      rw [f_J7_signedHashCode_L8, if_neg (by rw [ii_le (by omega) (by omega)]; omega), aI_of h4 (by omega) (by omega) (by omega), Option.bind_some, show ((k : Int)).toNat = k from rfl, h5 k (by omega), e1, ii_and255 (by omega) (by omega), ih N (k + 1) _ (by omega) (by omega), drop_get w (show k < w.length by omega)]
      rfl
  have hJ : f_J10_hashCode (some v) m = some (hsh w 0) := by
    unfold f_J10_hashCode
    rw [aLn_ofI h4, Option.bind_some]
    by_cases l0 : w.length = 0
    · rw [if_pos (show ii (w.length : Int) = 0 by rw [l0]; rfl), List.eq_nil_of_length_eq_zero l0]
      rfl
    rw [if_neg (show ¬ ii (w.length : Int) = 0 by rw [show (0 : Int32) = ii 0 from rfl, ii_eq (by omega) (by omega)]; omega)]
    by_cases l1 : w.length = 1
    · have r1 := hw.2 0 (by omega)
      rw [if_pos (show ii (w.length : Int) = 1 by rw [l1]; rfl), show (0 : Int32) = ii 0 from rfl, aI_of h4 (by omega) (by omega) (by omega), Option.bind_some, show ((0 : Int)).toNat = 0 from rfl, h5 0 (by omega), ii_and255 (by omega) (by omega)]
      have e : w = [w.getD 0 0] := by
        have := drop_get w (k := 0) (by omega)
        rw [List.drop_zero, show w.drop (0 + 1) = [] from List.drop_eq_nil_of_le (by omega)] at this
        exact this
      have e2 : hsh [w.getD 0 0] (ii 0) = ii (w.getD 0 0) := by
        show 31 * ii 0 + ii (w.getD 0 0) = _
        rw [show (31 : Int32) * ii 0 = ii 0 from rfl, ii_add, Int.zero_add]
      rw [← e2, ← e]
    rw [if_neg (show ¬ ii (w.length : Int) = 1 by rw [show (1 : Int32) = ii 1 from rfl, ii_eq (by omega) (by omega)]; omega), Option.bind_some]
    unfold f_J7_vectorizedHashCode f_J7_signedHashCode
    have hc : cstB m (some v) = some () := by
      unfold cstB
      simp only [h4]
      rfl
    rw [if_pos rfl, hc, Option.bind_some, show (0 : Int32) = ii 0 from rfl, ii_add, Int.zero_add, show (ii 0) = ii ((0 : Nat) : Int) from rfl, hL w.length fk_fuel 0 _ (by omega) (by unfold fk_fuel; omega), Option.bind_some, Option.bind_some, List.drop_zero]
  have hv : v ≠ q := fun e => by
    rw [e, h1] at h4
    cases h4
  have keep : ∀ V', V' 0 = V 0 → V' 1 = V 1 → ((∃ z : Int32, V' 2 = tI z ∧ z ≠ 0 ∧ z = hsh w 0) ∨ (V' 2 = tI 0 ∧ V' 3 = tI 1 ∧ hsh w 0 = 0)) → ∀ q' w', StC m q' w' → StC (fk_up m q (oB 16 V')) q' w' := by
    intro V' e0 e1 e2 q' w' hs'
    obtain ⟨wr', U, u, wu, gu, k1, k2, k3, k4, k5, k6⟩ := hs'
    have huq : u ≠ q := fun e => by
      rw [e, h1] at k4
      cases k4
    by_cases hq : q' = q
    · subst hq
      rw [h1] at k1
      cases k1
      rw [h2] at k2
      cases k2
      rw [h4] at k4
      have f0 := Sum.inl.inj (Prod.mk.inj (Option.some.inj k4)).2
      have f1 : w.length = w'.length ∧ gv = gu := ⟨(Prod.mk.inj (Prod.mk.inj f0).2).1, (Prod.mk.inj (Prod.mk.inj f0).2).2⟩
      have hh : hsh w 0 = hsh w' 0 := hsh_cg w w' 0 f1.1 (fun i hi => by
        rw [← h5 i hi, f1.2]
        exact k5 i (by omega))
      rw [hh] at e2
      refine ⟨true, V', v, wu, gu, up_eq .., e0.trans h2, e1.trans h3, (up_ne _ _ hv).trans (by rw [h4]; exact k4), k5, ?_⟩
      rcases e2 with e2 | e2
      · exact Or.inl e2
      · exact Or.inr (Or.inl e2)
    · exact ⟨wr', U, u, wu, gu, (up_ne _ _ hq).trans k1, k2, k3, (up_ne _ _ huq).trans k4, k5, k6⟩
  rcases h6 with ⟨z, z1, z2, z3⟩ | ⟨z1, z2, z3⟩ | ⟨z1, z2, rfl⟩
  · refine ⟨m, ?_, fun _ _ => rfl, Or.inl rfl, fun _ _ h => h⟩
    rw [gI_of h1 z1, Option.bind_some, if_neg z2, z3]
  · refine ⟨m, ?_, fun _ _ => rfl, Or.inl rfl, fun _ _ h => h⟩
    rw [gI_of h1 z1, Option.bind_some, if_pos rfl, gI_of h1 z2, Option.bind_some, if_neg (by decide), z3]
  · have hl : f_J5_isLatin1 (some q) m = some 1 := by
      unfold f_J5_isLatin1
      rw [gI_of h1 h3, Option.bind_some, if_pos rfl]
    rw [gI_of h1 z1, Option.bind_some, if_pos rfl, gI_of h1 z2, Option.bind_some, if_pos rfl, isO_of h1, Option.bind_some, hl, Option.bind_some, if_neg (show ¬ (1 : Int32) = 0 by decide), gR_of h1 h2, Option.bind_some, hJ, Option.bind_some]
    by_cases hz : hsh w 0 = 0
    · refine ⟨fk_up m q (oB 16 (fk_set V 3 (tI 1))), ?_, fun q' hq' => up_ne _ _ hq', Or.inr ⟨V, _, h1, up_eq ..⟩, keep _ rfl rfl (Or.inr ⟨z1, rfl, hz⟩)⟩
      unfold pZ
      rw [if_pos hz, if_pos (Or.inr rfl), pV_of 3 _ h1, Option.bind_some]
    · refine ⟨fk_up m q (oB 16 (fk_set V 2 (tI (hsh w 0)))), ?_, fun q' hq' => up_ne _ _ hq', Or.inr ⟨V, _, h1, up_eq ..⟩, keep _ rfl rfl (Or.inl ⟨hsh w 0, rfl, hz, rfl⟩)⟩
      rw [if_neg hz, pV_of 2 _ h1, Option.bind_some]
