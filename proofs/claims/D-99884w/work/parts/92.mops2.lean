/-! PLAIN 37: the model: names -/
set_option maxRecDepth 100000
/-- what the told numbers keep to -/
def Ph (φ : Int → Int) : Prop := ∀ t, 0 ≤ t → t < 95 → -1000 ≤ φ t ∧ φ t ≤ 1000
theorem m_mustName (x : Nat) (F : Nat → Int) (P : Nat → Option Nat) (A : Nat → Int → Int) (f l : Nat → Int) (a : Nat → Int → Int) (b : fk_M) (g : Nat → Nat) (hC : Cn x b g) {t : Tkn} (h1 : f 13 = 0) (h2 : TokM f a t) (h3 : Tok8 (f 3) t) : f_X2_mustName g (some (x + 8)) (hp x F P A f l a b) = some (hp x F P A (if isNm t then f else wf f 1 t.2.1) l a b) := by
  have hr := h3.2.2.1
  have hw : f_X2_mustName_J62 g (some (x + 8)) (hp x F P A f l a b) = some (hp x F P A (wf f 1 t.2.1) l a b) := by
    unfold f_X2_mustName_J62
    rw [gm4, Option.bind_some, ok1, Option.bind_some, h2.1, show (1 : Int32) = ii 1 from rfl, m_wrong0 x F P A f l a b h1, Option.bind_some]
  unfold f_X2_mustName
  rw [gm6, Option.bind_some, h2.2.2.1]
  by_cases hk : t.1 = 2
  rotate_left
  · have hc : ¬ ii (if t.1 = 1 then 0 else if t.1 = 0 then 1 else if t.1 = 4 then 59 else t.1) = 2 := by
      rw [show (2 : Int32) = ii 2 from rfl, ii_eq (by (repeat' split) <;> omega) (by omega)]
      (repeat' split) <;> omega
    rw [if_neg hc, hw, if_neg (fun h : isNm t => hk h.1)]
  have hcode : (if t.1 = 1 then (0 : Int) else if t.1 = 0 then 1 else if t.1 = 4 then 59 else t.1) = 2 := by
    rw [if_neg (by omega), if_neg (by omega), if_neg (by omega)]
    exact hk
  rw [hcode, if_pos (show ii 2 = 2 from rfl)]
  have w0 := m_isWord x F P A f l a b g hC h1 h2 h3 (i := 24) (by omega)
  have w1 := m_isWord x F P A f l a b g hC h1 h2 h3 (i := 27) (by omega)
  have w2 := m_isWord x F P A f l a b g hC h1 h2 h3 (i := 28) (by omega)
  have w3 := m_isWord x F P A f l a b g hC h1 h2 h3 (i := 29) (by omega)
  have w4 := m_isWord x F P A f l a b g hC h1 h2 h3 (i := 30) (by omega)
  have w5 := m_isWord x F P A f l a b g hC h1 h2 h3 (i := 31) (by omega)
  simp only [ok1, Option.bind_some, w0, w1, w2, w3, w4, w5, hw]
  have z1 : ¬ ii 1 = 0 := by decide
  by_cases c0 : isW t (kw 24)
  · rw [if_pos c0, if_neg z1, if_neg (fun h : isNm t => h.2 (Or.inl c0.2))]
  rw [if_neg c0, if_pos (show ii 0 = 0 from rfl)]
  by_cases c1 : isW t (kw 27)
  · rw [if_pos c1, if_neg z1, if_neg (fun h : isNm t => h.2 (Or.inr (Or.inl c1.2)))]
  rw [if_neg c1, if_pos (show ii 0 = 0 from rfl)]
  by_cases c2 : isW t (kw 28)
  · rw [if_pos c2, if_neg z1, if_neg (fun h : isNm t => h.2 (Or.inr (Or.inr (Or.inl c2.2))))]
  rw [if_neg c2, if_pos (show ii 0 = 0 from rfl)]
  by_cases c3 : isW t (kw 29)
  · rw [if_pos c3, if_neg z1, if_neg (fun h : isNm t => h.2 (Or.inr (Or.inr (Or.inr (Or.inl c3.2)))))]
  rw [if_neg c3, if_pos (show ii 0 = 0 from rfl)]
  by_cases c4 : isW t (kw 30)
  · rw [if_pos c4, if_neg z1, if_neg (fun h : isNm t => h.2 (Or.inr (Or.inr (Or.inr (Or.inr (Or.inl c4.2))))))]
  rw [if_neg c4, if_pos (show ii 0 = 0 from rfl)]
  by_cases c5 : isW t (kw 31)
  · rw [if_pos c5, if_neg z1, if_neg (fun h : isNm t => h.2 (Or.inr (Or.inr (Or.inr (Or.inr (Or.inr c5.2))))))]
  rw [if_neg c5, if_pos (show ii 0 = 0 from rfl), if_pos]
  refine ⟨hk, fun h => ?_⟩
  rcases h with h | h | h | h | h | h
  · exact c0 ⟨hk, h⟩
  · exact c1 ⟨hk, h⟩
  · exact c2 ⟨hk, h⟩
  · exact c3 ⟨hk, h⟩
  · exact c4 ⟨hk, h⟩
  · exact c5 ⟨hk, h⟩
theorem m_find43 (x : Nat) (F : Nat → Int) (P : Nat → Option Nat) (A : Nat → Int → Int) (f l : Nat → Int) (a : Nat → Int → Int) (b : fk_M) {w : List Int} (hw : Lt w) (hP : Ph (a 16)) (e8 : f 8 = w.length) (e12 : ∀ i : Nat, i < w.length → a 12 i = w.getD i 0) (R : Int32 → Option Int32) {p : Int} (p0 : 0 ≤ p) (p1 : p < 5) : ∀ (d N k : Nat) (s : Int), k + d = w.length → d < N → (s = 0 ∨ s = 1) → f_X2_find_L43 R (some (x + 8)) (ii p) (hp x F P A f l a b) N (ii s) (ii k) = if s = 1 ∧ ∀ j : Nat, j < w.length → k ≤ j → a 16 (55 + 8 * p + (j : Int)) = w.getD j 0 then some (ii p) else R (ii (p + 1)) := by
  have hw8 := hw.1
  intro d
  induction d with
  | zero =>
    intro N k s h1 h2 h3
    obtain ⟨N, rfl⟩ : ∃ M, N = M + 1 := ⟨N - 1, by omega⟩
    rw [f_X2_find_L43, gm8, Option.bind_some, e8, if_pos (by rw [ii_le (by omega) (by omega)]; omega)]
    unfold f_X2_find_J90
    rcases h3 with rfl | rfl
    · rw [if_pos (show ii 0 = 0 from rfl), if_neg (fun h => absurd h.1 (by decide)), show (1 : Int32) = ii 1 from rfl, ii_add]
    · rw [if_neg (show ¬ ii 1 = 0 by decide), if_pos ⟨rfl, fun j j1 j2 => by omega⟩]
  | succ d ih =>
    intro N k s h1 h2 h3
    obtain ⟨N, rfl⟩ : ∃ M, N = M + 1 := ⟨N - 1, by omega⟩
    rw [f_X2_find_L43, gm8, Option.bind_some, e8, if_neg (by rw [ii_le (by omega) (by omega)]; omega)]
    unfold f_X2_find_J90
    rcases h3 with rfl | rfl
    · rw [if_pos (show ii 0 = 0 from rfl), if_pos (show ii 0 = 0 from rfl), if_neg (fun h => absurd h.1 (by decide)), show (1 : Int32) = ii 1 from rfl, ii_add]
    · have hv := hw.2 k (by omega)
      have hφ := hP (55 + 8 * p + (k : Int)) (by omega) (by omega)
      have e1 : ii (k : Int) + 1 = ii ((k + 1 : Nat) : Int) := by rw [show (1 : Int32) = ii 1 from rfl, ii_add]; rfl
      rw [if_neg (show ¬ ii 1 = 0 by decide), gm16, Option.bind_some, show (55 : Int32) = ii 55 from rfl, show (8 : Int32) = ii 8 from rfl, ii_mul, ii_add, ii_add, rm16 x F P A f l a b (by omega) (by omega), Option.bind_some, gm12, Option.bind_some, rm12 x F P A f l a b (by omega) (by omega), Option.bind_some, e12 k (by omega), e1]
      by_cases hc : a 16 (55 + 8 * p + (k : Int)) = w.getD k 0
      · rw [if_pos (show ii (a 16 (55 + 8 * p + (k : Int))) = ii (w.getD k 0) by rw [hc])]
        refine (ih N (k + 1) 1 (by omega) (by omega) (Or.inr rfl)).trans ?_
        by_cases hall : ∀ j : Nat, j < w.length → k + 1 ≤ j → a 16 (55 + 8 * p + (j : Int)) = w.getD j 0
        · rw [if_pos ⟨rfl, hall⟩, if_pos ⟨rfl, fun j j1 j2 => by
            by_cases hj : j = k
            · rw [hj]; exact hc
            · exact hall j j1 (by omega)⟩]
        · rw [if_neg (fun h => hall h.2), if_neg (fun h => hall (fun j j1 j2 => h.2 j j1 (by omega)))]
      · rw [if_neg (show ¬ ii (a 16 (55 + 8 * p + (k : Int))) = ii (w.getD k 0) by rw [ii_eq (by omega) (by omega)]; exact hc)]
        refine (ih N (k + 1) 0 (by omega) (by omega) (Or.inl rfl)).trans ?_
        rw [if_neg (fun h => absurd h.1 (by decide)), if_neg (fun h => hc (h.2 k (by omega) (by omega)))]
theorem m_find (x : Nat) (F : Nat → Int) (P : Nat → Option Nat) (A : Nat → Int → Int) (f l : Nat → Int) (a : Nat → Int → Int) (b : fk_M) {w : List Int} (hw : Lt w) (hP : Ph (a 16)) (e8 : f 8 = w.length) (e12 : ∀ i : Nat, i < w.length → a 12 i = w.getD i 0) : f_X2_find (some (x + 8)) (hp x F P A f l a b) = some (ii (fnd (a 16) w)) := by
  have hw8 := hw.1
  unfold f_X2_find fnd
  refine loop_fd (fun N k => f_X2_find_L2 (some (x + 8)) (hp x F P A f l a b) N (ii k)) (fun p => nmAt (a 16) w p) (fun u => some (ii u)) (-1) (lo := 0) (hi := 5) ?_ ?_ 5 fk_fuel 0 (by omega) (by omega) (by unfold fk_fuel; omega)
  · intro N
    try dsimp only
    rw [f_X2_find_L2, if_pos (by decide)]
    rfl
  · intro N p p0 p1
    have hφ := hP (50 + p) (by omega) (by omega)
    try dsimp only
    rw [f_X2_find_L2, if_neg (by rw [show (5 : Int32) = ii 5 from rfl, ii_le (by omega) (by omega)]; omega), gm16, Option.bind_some, show (50 : Int32) = ii 50 from rfl, ii_add, rm16 x F P A f l a b (by omega) (by omega), Option.bind_some]
    unfold f_X2_find_J39 f_X2_find_J40
    by_cases hz : a 16 (50 + p) ≤ 0
    · rw [if_pos (show ii (a 16 (50 + p)) ≤ 0 by rw [show (0 : Int32) = ii 0 from rfl, ii_le (by omega) (by omega)]; exact hz)]
      refine (m_find43 x F P A f l a b hw hP e8 e12 (f_X2_find_L2 (some (x + 8)) (hp x F P A f l a b) N) p0 p1 w.length fk_fuel 0 0 (by omega) (by unfold fk_fuel; omega) (Or.inl rfl)).trans ?_
      rw [if_neg (fun h => absurd h.1 (by decide)), if_neg (fun h : nmAt (a 16) w p => by have := h.1.1; omega)]
    · rw [if_neg (show ¬ ii (a 16 (50 + p)) ≤ 0 by rw [show (0 : Int32) = ii 0 from rfl, ii_le (by omega) (by omega)]; exact hz), Option.bind_some, rm16 x F P A f l a b (by omega) (by omega), Option.bind_some, gm8, Option.bind_some, e8]
      by_cases hl : a 16 (50 + p) = (w.length : Int)
      · rw [if_pos (show ii (a 16 (50 + p)) = ii (w.length : Int) by rw [hl])]
        refine (m_find43 x F P A f l a b hw hP e8 e12 (f_X2_find_L2 (some (x + 8)) (hp x F P A f l a b) N) p0 p1 w.length fk_fuel 0 1 (by omega) (by unfold fk_fuel; omega) (Or.inr rfl)).trans ?_
        by_cases hall : ∀ j : Nat, j < w.length → a 16 (55 + 8 * p + (j : Int)) = w.getD j 0
        · rw [if_pos ⟨rfl, fun j j1 _ => hall j j1⟩, if_pos (show nmAt (a 16) w p from ⟨⟨by omega, hl⟩, hall⟩)]
        · rw [if_neg (fun h => hall (fun j j1 => h.2 j j1 (by omega))), if_neg (fun h : nmAt (a 16) w p => hall h.2)]
      · rw [if_neg (show ¬ ii (a 16 (50 + p)) = ii (w.length : Int) by rw [ii_eq (by omega) (by omega)]; exact hl)]
        refine (m_find43 x F P A f l a b hw hP e8 e12 (f_X2_find_L2 (some (x + 8)) (hp x F P A f l a b) N) p0 p1 w.length fk_fuel 0 0 (by omega) (by unfold fk_fuel; omega) (Or.inl rfl)).trans ?_
        rw [if_neg (fun h => absurd h.1 (by decide)), if_neg (fun h : nmAt (a 16) w p => hl h.1.2)]
theorem fnd_rg (φ : Int → Int) (w : List Int) : -1 ≤ fnd φ w ∧ fnd φ w < 5 := by
  unfold fnd fd
  rcases hf : fn (fun p => nmAt φ w p) 5 0 with _ | j
  · show -1 ≤ (-1 : Int) ∧ (-1 : Int) < 5
    omega
  · have := (fn_rg 5 0 j hf).1
    show -1 ≤ j ∧ j < 5
    omega
theorem m_pairHere (x : Nat) (F : Nat → Int) (P : Nat → Option Nat) (A : Nat → Int → Int) (f l : Nat → Int) (a : Nat → Int → Int) (b : fk_M) (g : Nat → Nat) (hC : Cn x b g) {r : Except Er Tkn} (hP : Ph (a 16)) (hM : MS (f 3) f a r) : ∃ f' z, f_X2_pairHere g (some (x + 8)) (hp x F P A f l a b) = some (z, hp x F P A f' l a b) ∧ MV (f 3) f' a z (r.bind (aKn (a 16))) ∧ FrF f f' := by
  unfold f_X2_pairHere f_X2_pairHere_J40
  rcases r with e | t
  · refine ⟨f, 0, ?_, hM, FrF.rfl' f⟩
    rw [gm13, Option.bind_some, hM.1, if_neg (show ¬ ii 1 = 0 by decide)]
  · obtain ⟨h1, h2, h3⟩ := hM
    have hmn := m_mustName x F P A f l a b g hC h1 h2 h3
    have eb : (Except.ok t : Except Er Tkn).bind (aKn (a 16)) = if isNm t then (if 0 ≤ fnd (a 16) t.2.2.2.2 then .ok (fnd (a 16) t.2.2.2.2, t) else .error (2, t.2.1)) else .error (1, t.2.1) := rfl
    rw [eb, gm13, Option.bind_some, h1, if_pos (show ii 0 = 0 from rfl), ok1, Option.bind_some, hmn, Option.bind_some]
    by_cases hn : isNm t
    rotate_left
    · have w13 := (wf_MS (f 3) f a 1 t.2.1).1
      rw [if_neg hn, if_neg hn]
      refine ⟨wf f 1 t.2.1, 0, ?_, wf_MS (f 3) f a 1 t.2.1, wf_Fr f 1 t.2.1⟩
      rw [gm13, Option.bind_some, w13, if_neg (show ¬ ii 1 = 0 by decide)]
    · obtain ⟨e8, e12⟩ := h2.2.2.2.2 hn.1
      have hfi := m_find x F P A f l a b h3.2.2.2.2.1 hP e8 e12
      have hfr := fnd_rg (a 16) t.2.2.2.2
      rw [if_pos hn, if_pos hn, gm13, Option.bind_some, h1, if_pos (show ii 0 = 0 from rfl), ok1, Option.bind_some, hfi, Option.bind_some]
      by_cases hc : 0 ≤ fnd (a 16) t.2.2.2.2
      · rw [if_pos hc, if_pos (show 0 ≤ ii (fnd (a 16) t.2.2.2.2) by rw [show (0 : Int32) = ii 0 from rfl, ii_le (by omega) (by omega)]; exact hc)]
        refine ⟨f, ii (fnd (a 16) t.2.2.2.2), ?_, ⟨rfl, h1, h2, h3⟩, FrF.rfl' f⟩
        rw [Option.bind_some, if_pos (show ii 0 = 0 from rfl)]
      · have w13 := (wf_MS (f 3) f a 2 t.2.1).1
        rw [if_neg hc, if_neg (show ¬ 0 ≤ ii (fnd (a 16) t.2.2.2.2) by rw [show (0 : Int32) = ii 0 from rfl, ii_le (by omega) (by omega)]; exact hc)]
        refine ⟨wf f 2 t.2.1, 0, ?_, wf_MS (f 3) f a 2 t.2.1, wf_Fr f 2 t.2.1⟩
        rw [gm4, Option.bind_some, h2.1, Option.bind_some, show (2 : Int32) = ii 2 from rfl, m_wrong0 x F P A f l a b h1, Option.bind_some, gm13, Option.bind_some, w13, if_neg (show ¬ ii 1 = 0 by decide)]
/-- a new name is written down -/
def nmS (φ : Int → Int) (p : Int) (w : List Int) : Int → Int := fun t => if t = 50 + p then (w.length : Int) else if 55 + 8 * p ≤ t ∧ t < 55 + 8 * p + w.length then w.getD (t - (55 + 8 * p)).toNat 0 else φ t
def aNew (T : Int → Int) (n : Int) (φ : Int → Int) (t : Tkn) : Except Er Tkn := if isNm t then (if 0 ≤ fnd φ t.2.2.2.2 then .error (3, t.2.1) else .ok (aOn T n t)) else .error (1, t.2.1)
theorem m_newName (x : Nat) (F : Nat → Int) (P : Nat → Option Nat) (A : Nat → Int → Int) (f l : Nat → Int) (a : Nat → Int → Int) (b : fk_M) (g : Nat → Nat) (hC : Cn x b g) {t : Tkn} (hT : Tx8 (a 1) (f 3)) (hP : Ph (a 16)) (hM : MS (f 3) f a (.ok t)) {p : Int} (p0 : 0 ≤ p) (p1 : p < 5) : ∃ f' a', f_X2_newName g (some (x + 8)) (ii p) (hp x F P A f l a b) = some (hp x F P A f' l a' b) ∧ MS (f 3) f' a' (aNew (a 1) (f 3) (a 16) t) ∧ FrF f f' ∧ (∀ j, j ≠ 12 → j ≠ 16 → a' j = a j) ∧ (∀ t', aNew (a 1) (f 3) (a 16) t = .ok t' → a' 16 = nmS (a 16) p t.2.2.2.2) := by
  obtain ⟨h1, h2, h3⟩ := hM
  have hmn := m_mustName x F P A f l a b g hC h1 h2 h3
  unfold f_X2_newName f_X2_newName_J35 aNew
  rw [gm13, Option.bind_some, h1, if_pos (show ii 0 = 0 from rfl), ok1, Option.bind_some, hmn, Option.bind_some]
  by_cases hn : isNm t
  rotate_left
  · have w13 := (wf_MS (f 3) f a 1 t.2.1).1
    rw [if_neg hn, if_neg hn]
    refine ⟨wf f 1 t.2.1, a, ?_, wf_MS (f 3) f a 1 t.2.1, wf_Fr f 1 t.2.1, fun _ _ _ => rfl, fun _ h => by cases h⟩
    rw [gm13, Option.bind_some, w13, if_neg (show ¬ ii 1 = 0 by decide), Option.bind_some, if_neg (show ¬ ii 1 = 0 by decide)]
  · obtain ⟨e8, e12⟩ := h2.2.2.2.2 hn.1
    have hw := h3.2.2.2.2.1
    have hw8 := hw.1
    have hfi := m_find x F P A f l a b hw hP e8 e12
    have hfr := fnd_rg (a 16) t.2.2.2.2
    rw [if_pos hn, if_pos hn, gm13, Option.bind_some, h1, if_pos (show ii 0 = 0 from rfl), ok1, Option.bind_some, hfi, Option.bind_some]
    by_cases hc : 0 ≤ fnd (a 16) t.2.2.2.2
    · have w13 := (wf_MS (f 3) f a 3 t.2.1).1
      rw [if_pos hc, if_neg (show ¬ ii (fnd (a 16) t.2.2.2.2) < 0 by rw [show (0 : Int32) = ii 0 from rfl, ii_lt (by omega) (by omega)]; omega)]
      refine ⟨wf f 3 t.2.1, a, ?_, wf_MS (f 3) f a 3 t.2.1, wf_Fr f 3 t.2.1, fun _ _ _ => rfl, fun _ h => by cases h⟩
      rw [gm4, Option.bind_some, h2.1, Option.bind_some, show (3 : Int32) = ii 3 from rfl, m_wrong0 x F P A f l a b h1, Option.bind_some, gm13, Option.bind_some, w13, if_neg (show ¬ ii 1 = 0 by decide)]
    · rw [if_neg hc, if_pos (show ii (fnd (a 16) t.2.2.2.2) < 0 by rw [show (0 : Int32) = ii 0 from rfl, ii_lt (by omega) (by omega)]; omega), Option.bind_some, if_pos (show ii 0 = 0 from rfl)]
      have hL := loop_ex (fun N (_ : Unit) k (y : Nat → Int → Int) => f_X2_newName_L45 g (some (x + 8)) (ii p) N (ii k) (hp x F P A f l y b)) (fun u _ => u) (fun _ y => (f_X2_next (some (x + 8)) (hp x F P A f l (u2 y 16 (50 + p) t.2.2.2.2.length) b)).bind fun m6 => some m6) (fun _ k y => (∀ j, j ≠ 16 → y j = a j) ∧ ∀ s, y 16 s = if 55 + 8 * p ≤ s ∧ s < 55 + 8 * p + k then t.2.2.2.2.getD (s - (55 + 8 * p)).toNat 0 else a 16 s) (lo := 0) (hi := t.2.2.2.2.length) ?_ ?_ t.2.2.2.2.length fk_fuel () 0 a (by omega) (by omega) (by unfold fk_fuel; omega) ⟨fun _ _ => rfl, fun s => by rw [if_neg (by omega)]⟩
      · obtain ⟨y, k1, k2, k3⟩ := hL
        have e1 : u2 y 16 (50 + p) t.2.2.2.2.length 1 = a 1 := (u2_nk _ _ _ (by omega)).trans (k2 1 (by omega))
        obtain ⟨f', a', g1, g2, g3, g4⟩ := m_next x F P A f l (u2 y 16 (50 + p) t.2.2.2.2.length) b (by rw [e1]; exact hT) (by rw [h2.2.1]; exact h3.2.1.1) (by rw [h2.2.1]; exact h3.2.1.2)
        rw [h2.2.1, e1] at g4
        refine ⟨f', a', ?_, ⟨(g2 13 (by omega) (by omega) (by omega) (by omega) (by omega)).trans h1, g4, tkn_ok hT h3.2.1.1 h3.2.1.2⟩, FrF.mk5 g2, fun j j1 j2 => (g3 j j1).trans ((u2_nk _ _ _ j2).trans (k2 j j2)), fun _ _ => ?_⟩
        · refine Eq.trans k1 ?_
          rw [g1, Option.bind_some]
        · rw [g3 16 (by omega)]
          funext s
          unfold nmS
          by_cases hs : s = 50 + p
          · rw [hs, u2_eq, if_pos rfl]
          · rw [u2_ni _ _ _ hs, if_neg hs, k3]
      · rintro N - y ⟨y1, y2⟩
        try dsimp only
        rw [f_X2_newName_L45, gm8, Option.bind_some, e8, if_pos (by rw [ii_le (by omega) (by omega)]; omega), gm16, Option.bind_some, Option.bind_some, show (50 : Int32) = ii 50 from rfl, ii_add, sm16 x F P A f l y b _ (by omega) (by omega), Option.bind_some, ok1, Option.bind_some]
      · rintro N - k y k1 k2 ⟨y1, y2⟩
        obtain ⟨j, rfl⟩ : ∃ j : Nat, k = j := ⟨k.toNat, by omega⟩
        have e12' : y 12 j = t.2.2.2.2.getD j 0 := by rw [y1 12 (by omega)]; exact e12 j (by omega)
        refine ⟨u2 y 16 (55 + 8 * p + j) (t.2.2.2.2.getD j 0), ⟨fun i hi => (u2_nk _ _ _ hi).trans (y1 i hi), fun s => ?_⟩, ?_⟩
        · by_cases hs : s = 55 + 8 * p + j
          · rw [hs, u2_eq, if_pos (by omega), show (55 + 8 * p + (j : Int) - (55 + 8 * p)).toNat = j by omega]
          · rw [u2_ni _ _ _ hs, y2]
            by_cases hc2 : 55 + 8 * p ≤ s ∧ s < 55 + 8 * p + j
            · rw [if_pos hc2, if_pos (by omega)]
            · rw [if_neg hc2, if_neg (by omega)]
        · try dsimp only
          rw [f_X2_newName_L45, gm8, Option.bind_some, e8, if_neg (by rw [ii_le (by omega) (by omega)]; omega), gm16, Option.bind_some, gm12, Option.bind_some, rm12 x F P A f l y b (by omega) (by omega), Option.bind_some, e12', show (55 : Int32) = ii 55 from rfl, show (8 : Int32) = ii 8 from rfl, ii_mul, ii_add, ii_add, sm16 x F P A f l y b _ (by omega) (by omega), Option.bind_some, show (1 : Int32) = ii 1 from rfl, ii_add]
