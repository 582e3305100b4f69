/-! PLAIN 42: lines: what a good line leaves -/
set_option maxRecDepth 100000
/-- a token further on -/
def Go (n : Int) (t t' : Tkn) : Prop := t.2.2.1 ≤ t'.2.2.1 ∧ Tok8 n t'
theorem Go.rfl' {n : Int} {t : Tkn} (h : Tok8 n t) : Go n t t := ⟨Int.le_refl _, h⟩
theorem Go.tr {n : Int} {t u v : Tkn} (h1 : Go n t u) (h2 : Go n u v) : Go n t v := ⟨Int.le_trans h1.1 h2.1, h2.2⟩
theorem tkn_ge {T : Int → Int} {n e : Int} (hT : Tx8 T n) (h0 : 0 ≤ e) (h1 : e ≤ n) : e ≤ (tkn T n e).2.2.1 ∧ ((tkn T n e).1 ≠ 1 → e < (tkn T n e).2.2.1) := by
  have hs := skp_rg (T := T) (n := n) 901 e h1
  unfold tkn
  generalize skp T n 901 e = p at hs ⊢
  by_cases c1 : ch T n p = -1
  · rw [if_pos c1]
    exact ⟨hs.1, fun h => absurd rfl h⟩
  have hpn := ch_lt c1
  rw [if_neg c1]
  by_cases c2 : 97 ≤ ch T n p ∧ ch T n p ≤ 122
  · have hgt : p + 1 ≤ rn T n 97 122 901 p := by
      show p + 1 ≤ (if 97 ≤ ch T n p ∧ ch T n p ≤ 122 then rn T n 97 122 900 (p + 1) else p)
      rw [if_pos c2]
      exact (rn_rg (T := T) (n := n) (lo := 97) (hi := 122) (by omega) 900 (p + 1) (by omega)).1
    rw [if_pos c2]
    exact ⟨by show e ≤ rn T n 97 122 901 p; omega, fun _ => by show e < rn T n 97 122 901 p; omega⟩
  rw [if_neg c2]
  by_cases c3 : 48 ≤ ch T n p ∧ ch T n p ≤ 57
  · have hgt : p + 1 ≤ rn T n 48 57 901 p := by
      show p + 1 ≤ (if 48 ≤ ch T n p ∧ ch T n p ≤ 57 then rn T n 48 57 900 (p + 1) else p)
      rw [if_pos c3]
      exact (rn_rg (T := T) (n := n) (lo := 48) (hi := 57) (by omega) 900 (p + 1) (by omega)).1
    rw [if_pos c3]
    exact ⟨by show e ≤ rn T n 48 57 901 p; omega, fun _ => by show e < rn T n 48 57 901 p; omega⟩
  · rw [if_neg c3]
    exact ⟨by show e ≤ p + 1; omega, fun _ => by show e < p + 1; omega⟩
theorem aOn_go {T : Int → Int} {n : Int} (hT : Tx8 T n) {t : Tkn} (h : Tok8 n t) : Go n t (aOn T n t) := ⟨(tkn_ge hT h.2.1.1 h.2.1.2).1, tkn_ok hT h.2.1.1 h.2.1.2⟩
theorem aMust_go {T : Int → Int} {n : Int} (hT : Tx8 T n) {w : List Int} {t t' : Tkn} (h : Tok8 n t) (he : aMust T n w t = .ok t') : Go n t t' := by
  unfold aMust at he
  split at he
  · cases he
    exact aOn_go hT h
  · cases he
theorem aWh_go {T : Int → Int} {n lo hi : Int} (hT : Tx8 T n) {t : Tkn} {v : Int × Tkn} (h : Tok8 n t) (he : aWh T n lo hi t = .ok v) : Go n t v.2 := by
  unfold aWh at he
  rcases hn : aNum lo hi t with e | w
  · rw [hn] at he; cases he
  · rw [hn] at he
    cases he
    show Go n t (aOn T n w.2)
    rw [(aNum_rg hn).2]
    exact aOn_go hT h
theorem aPt_go {T : Int → Int} {n lo hi : Int} (hT : Tx8 T n) {w : List Int} {t : Tkn} {v : Int × Tkn} (h : Tok8 n t) (he : aPt T n w lo hi t = .ok v) : Go n t v.2 := by
  unfold aPt at he
  rcases hn : aMust T n w t with e | u
  · rw [hn] at he; cases he
  · rw [hn] at he
    have h1 := aMust_go hT h hn
    exact h1.tr (aWh_go hT h1.2 he)
theorem aKn_go {φ : Int → Int} {n : Int} {t : Tkn} {k : Int × Tkn} (h : Tok8 n t) (he : aKn φ t = .ok k) : Go n t k.2 := by
  rw [(aKn_rg he).2.1]
  exact Go.rfl' h
theorem aNew_go {T : Int → Int} {n : Int} (hT : Tx8 T n) {φ : Int → Int} {t t' : Tkn} (h : Tok8 n t) (he : aNew T n φ t = .ok t') : Go n t t' ∧ isNm t ∧ fnd φ t.2.2.2.2 < 0 := by
  unfold aNew at he
  split at he
  · split at he
    · cases he
    · cases he
      exact ⟨aOn_go hT h, by assumption, by omega⟩
  · cases he
theorem ex_bind {α β : Type} {r : Except Er α} {f : α → Except Er β} {v : β} (h : r.bind f = .ok v) : ∃ u, r = .ok u ∧ f u = .ok v := by
  rcases r with e | u
  · cases h
  · exact ⟨u, rfl, h⟩
theorem aPier_ok {T : Int → Int} {n : Int} (hT : Tx8 T n) {s s' : Ls} (h : Tok8 n s.1) (he : aPier T n s = .ok s') : Go n s.1 s'.1 ∧ s.2.1 7 ≤ 0 ∧ ∃ w d, (2 ≤ w ∧ w ≤ 99) ∧ (0 ≤ d ∧ d ≤ 100) ∧ s'.2.1 = su1 (su1 (su1 s.2.1 0 w) 1 d) 7 1 ∧ s'.2.2 = s.2.2 := by
  unfold aPier at he
  split at he
  · rename_i h7
    obtain ⟨v, h1, he⟩ := ex_bind he
    obtain ⟨d, h2, he⟩ := ex_bind he
    have g0 := aOn_go hT h
    have g1 := aPt_go hT g0.2 h1
    have g2 := aPt_go hT g1.2 h2
    cases he
    exact ⟨(g0.tr g1).tr g2, h7, v.1, d.1, aPt_rg h1, aPt_rg h2, rfl, rfl⟩
  · cases he
theorem aPair_ok {T : Int → Int} {n : Int} (hT : Tx8 T n) {s s' : Ls} (h : Tok8 n s.1) (he : aPair T n s = .ok s') : Go n s.1 s'.1 ∧ isNm s.1 ∧ fnd s.2.1 s.1.2.2.2.2 < 0 ∧ ∃ lw v d, (0 ≤ lw ∧ lw ≤ 3) ∧ (0 ≤ v ∧ v ≤ s.2.1 0) ∧ (0 ≤ d ∧ d ≤ 20) ∧ s'.2.1 = su1 (su1 (nmS s.2.1 (s.2.1 2) s.1.2.2.2.2) (8 + s.2.1 2) lw) 2 (s.2.1 2 + 1) ∧ s'.2.2 = su1 (su1 s.2.2 (s.2.1 2) v) (5 + s.2.1 2) d := by
  unfold aPair at he
  obtain ⟨t1, h1, he1⟩ := ex_bind he
  obtain ⟨t2, h2, he2⟩ := ex_bind he1
  obtain ⟨v, h3, he3⟩ := ex_bind he2
  obtain ⟨d, h4, he4⟩ := ex_bind he3
  obtain ⟨g0, n1, n2⟩ := aNew_go hT h h1
  have hl : t1 = t2 ∧ 0 ≤ lawOf t2 := by
    unfold aLw at h2
    split at h2
    · cases h2
      exact ⟨rfl, by assumption⟩
    · cases h2
  have hl0 := hl.2
  rw [hl.1] at g0
  have hl3 : lawOf t2 ≤ 3 := by
    unfold lawOf
    (repeat' split) <;> omega
  have g1 := aOn_go hT g0.2
  have g2 := aPt_go hT g1.2 h3
  have g3 := aPt_go hT g2.2 h4
  have he4 : s' = (d.2, su1 (su1 (nmS s.2.1 (s.2.1 2) s.1.2.2.2.2) (8 + s.2.1 2) (lawOf t2)) 2 (s.2.1 2 + 1), su1 (su1 s.2.2 (s.2.1 2) v.1) (5 + s.2.1 2) d.1) := by
    cases he4
    rfl
  rw [he4]
  exact ⟨((g0.tr g1).tr g2).tr g3, n1, n2, lawOf t2, v.1, d.1, ⟨hl0, hl3⟩, aPt_rg h3, aPt_rg h4, rfl, rfl⟩
theorem aCon_ok {T : Int → Int} {n : Int} (hT : Tx8 T n) {s s' : Ls} (h : Tok8 n s.1) (he : aCon T n s = .ok s') : Go n s.1 s'.1 ∧ ∃ p v, (0 ≤ p ∧ p < 5) ∧ p = fnd s.2.1 s.1.2.2.2.2 ∧ s.2.1 (13 + p) ≤ 0 ∧ (1 ≤ v ∧ v ≤ 9) ∧ s'.2.1 = su1 (su1 s.2.1 (13 + p) v) 3 (s.2.1 3 + 1) ∧ s'.2.2 = s.2.2 := by
  unfold aCon at he
  obtain ⟨k, h1, he⟩ := ex_bind he
  have g0 := aKn_go h h1
  have hk := aKn_rg h1
  split at he
  · obtain ⟨v, h2, he⟩ := ex_bind he
    have g1 := aOn_go hT g0.2
    have g2 := aPt_go hT g1.2 h2
    cases he
    exact ⟨(g0.tr g1).tr g2, k.1, v.1, hk.1, hk.2.2.1, by assumption, aPt_rg h2, rfl, rfl⟩
  · cases he
theorem aDebt_ok {T : Int → Int} {n : Int} (hT : Tx8 T n) {s s' : Ls} (h : Tok8 n s.1) (he : aDebt T n s = .ok s') : Go n s.1 s'.1 ∧ ∃ p q v w, (0 ≤ p ∧ p < 5) ∧ (0 ≤ q ∧ q < 5) ∧ p = fnd s.2.1 s.1.2.2.2.2 ∧ q = fnd s.2.1 w ∧ p ≠ q ∧ s.2.2 (10 + 5 * p + q) ≤ 0 ∧ (1 ≤ v ∧ v ≤ 99) ∧ s'.2.1 = su1 s.2.1 4 (s.2.1 4 + 1) ∧ s'.2.2 = su1 s.2.2 (10 + 5 * p + q) v := by
  unfold aDebt at he
  obtain ⟨k, h1, he⟩ := ex_bind he
  obtain ⟨q, h2, he⟩ := ex_bind he
  have g0 := aKn_go h h1
  have g1 := aOn_go hT g0.2
  have g2 := aKn_go g1.2 h2
  have hk := aKn_rg h1
  have hq := aKn_rg h2
  split at he
  · cases he
  · rename_i hno
    obtain ⟨v, h3, he⟩ := ex_bind he
    have g3 := aOn_go hT g2.2
    have g4 := aWh_go hT g3.2 h3
    cases he
    exact ⟨(((g0.tr g1).tr g2).tr g3).tr g4, k.1, q.1, v.1, _, hk.1, hq.1, hk.2.2.1, hq.2.2.1, fun e => hno (Or.inl e), by omega, aWh_rg h3, rfl, rfl⟩
theorem aUns_ok {T : Int → Int} {n : Int} (hT : Tx8 T n) {s s' : Ls} (h : Tok8 n s.1) (he : aUns T n s = .ok s') : Go n s.1 s'.1 ∧ ∃ p v, (0 ≤ p ∧ p < 5) ∧ p = fnd s.2.1 s.1.2.2.2.2 ∧ ¬ isU s.2.1 p ∧ (0 ≤ v ∧ v ≤ 20) ∧ s'.2.1 = su1 (su1 (su1 s.2.1 (18 + 2 * s.2.1 5) p) (18 + 2 * s.2.1 5 + 1) v) 5 (s.2.1 5 + 1) ∧ s'.2.2 = s.2.2 := by
  unfold aUns at he
  obtain ⟨k, h1, he⟩ := ex_bind he
  have g0 := aKn_go h h1
  have hk := aKn_rg h1
  split at he
  · cases he
  · rename_i hno
    obtain ⟨v, h3, he⟩ := ex_bind he
    have g3 := aOn_go hT g0.2
    have g4 := aWh_go hT g3.2 h3
    cases he
    exact ⟨(g0.tr g3).tr g4, k.1, v.1, hk.1, hk.2.2.1, hno, aWh_rg h3, rfl, rfl⟩
theorem aHrd_ok {T : Int → Int} {n : Int} (hT : Tx8 T n) {s s' : Ls} (h : Tok8 n s.1) (he : aHrd T n s = .ok s') : Go n s.1 s'.1 ∧ ∃ p m v, (0 ≤ p ∧ p < 5) ∧ p = fnd s.2.1 s.1.2.2.2.2 ∧ (1 ≤ m ∧ m ≤ 30) ∧ ¬ isH s.2.1 p m ∧ (0 ≤ v ∧ v ≤ s.2.1 0) ∧ s'.2.1 = su1 (su1 (su1 (su1 s.2.1 (26 + 3 * s.2.1 6) p) (26 + 3 * s.2.1 6 + 1) m) (26 + 3 * s.2.1 6 + 2) v) 6 (s.2.1 6 + 1) ∧ s'.2.2 = s.2.2 := by
  unfold aHrd at he
  obtain ⟨k, h1, he⟩ := ex_bind he
  obtain ⟨t2, h2, he⟩ := ex_bind he
  obtain ⟨m, h3, he⟩ := ex_bind he
  have g0 := aKn_go h h1
  have g1 := aOn_go hT g0.2
  have g2 := aMust_go hT g1.2 h2
  have hk := aKn_rg h1
  have hm := aNum_rg h3
  have g3 : Go n t2 m.2 := by
    rw [hm.2]
    exact Go.rfl' g2.2
  split at he
  · cases he
  · rename_i hno
    obtain ⟨v, h4, he⟩ := ex_bind he
    have g4 := aOn_go hT g3.2
    have g5 := aPt_go hT g4.2 h4
    cases he
    exact ⟨((((g0.tr g1).tr g2).tr g3).tr g4).tr g5, k.1, m.1, v.1, hk.1, hk.2.2.1, hm.1, hno, aPt_rg h4, rfl, rfl⟩
theorem aBeg_ok {T : Int → Int} {n : Int} (hT : Tx8 T n) {c : Prop} [Decidable c] {s s' : Ls} (h : Tok8 n s.1) (he : aBeg T n c s = .ok s') : Go n s.1 s'.1 ∧ c ∧ s.2.1 7 ≠ 0 ∧ s'.2 = s.2 ∧ s'.1 = aOn T n s.1 := by
  unfold aBeg at he
  split at he
  · split at he
    · cases he
    · cases he
      exact ⟨aOn_go hT h, by assumption, by assumption, rfl, rfl⟩
  · cases he
/-! the whole text -/
def aEnd (s : Ls) : Except Er Ls := if s.1.1 = 1 then (if s.2.1 7 = 0 ∨ s.2.1 2 = 0 then .error (6, s.1.2.1) else .ok s) else .error (1, s.1.2.1)
def aLoop (T : Int → Int) (n : Int) : Nat → Ls → Except Er Ls
  | 0, _ => .error (0, 0)
  | d + 1, s => if s.1.1 = 4 then (aLine T n (aOn T n s.1, s.2)).bind (aLoop T n d) else aEnd s
def aAll (T : Int → Int) (n : Int) (φ ψ : Int → Int) : Except Er Ls := (aLine T n (tkn T n 0, φ, ψ)).bind (aLoop T n 1000)
theorem Ph.su {φ : Int → Int} (h : Ph φ) {i v : Int} (h1 : -1000 ≤ v) (h2 : v ≤ 1000) : Ph (su1 φ i v) := by
  intro t t0 t1
  unfold su1
  split
  · exact ⟨h1, h2⟩
  · exact h t t0 t1
theorem Ph.nm {φ : Int → Int} (h : Ph φ) {p : Int} {w : List Int} (hw : Lt w) : Ph (nmS φ p w) := by
  have h8 := hw.1
  intro t t0 t1
  unfold nmS
  split
  · omega
  · split
    · have := hw.2 (t - (55 + 8 * p)).toNat (by omega)
      omega
    · exact h t t0 t1
theorem su1_e (φ : Int → Int) (i v : Int) : su1 φ i v i = v := by
  unfold su1
  rw [if_pos rfl]
theorem su1_n (φ : Int → Int) {i t : Int} (v : Int) (h : t ≠ i) : su1 φ i v t = φ t := by
  unfold su1
  rw [if_neg h]
theorem nmS_lo (φ : Int → Int) {p : Int} (w : List Int) {t : Int} (p0 : 0 ≤ p) (h : t < 50) : nmS φ p w t = φ t := by
  unfold nmS
  rw [if_neg (by omega), if_neg (by omega)]
def b01 (v : Int) : Int := if 0 < v then 1 else 0
def ct (φ : Int → Int) : Int := b01 (φ 13) + b01 (φ 14) + b01 (φ 15) + b01 (φ 16) + b01 (φ 17)
/-- what is told so far -/
def FI (φ ψ : Int → Int) : Prop :=
  Ph φ ∧ (∀ t, 0 ≤ t → t < 36 → -1000 ≤ ψ t ∧ ψ t ≤ 1000) ∧ ((φ 7 = 0 ∧ φ 0 = 0 ∧ φ 2 = 0 ∧ φ 4 = 0 ∧ φ 5 = 0 ∧ φ 6 = 0) ∨ (φ 7 = 1 ∧ (2 ≤ φ 0 ∧ φ 0 ≤ 99) ∧ 0 ≤ φ 1 ∧ φ 1 ≤ 100)) ∧ (0 ≤ φ 2 ∧ φ 2 ≤ 5) ∧ φ 3 = ct φ ∧ (0 ≤ φ 4 ∧ φ 4 ≤ 10) ∧ (0 ≤ φ 5 ∧ φ 5 ≤ 4) ∧ (0 ≤ φ 6 ∧ φ 6 ≤ 8) ∧
  (∀ p, 0 ≤ p → p < φ 2 → (0 ≤ φ (8 + p) ∧ φ (8 + p) ≤ 3) ∧ (0 ≤ φ (13 + p) ∧ φ (13 + p) ≤ 9) ∧ (0 ≤ ψ p ∧ ψ p ≤ φ 0) ∧ (0 ≤ ψ (5 + p) ∧ ψ (5 + p) ≤ 20) ∧ (1 ≤ φ (50 + p) ∧ φ (50 + p) ≤ 8)) ∧
  (∀ p, φ 2 ≤ p → p < 5 → φ (13 + p) = 0 ∧ φ (50 + p) = 0 ∧ ψ p = 0 ∧ ψ (5 + p) = 0) ∧
  (∀ p q, 0 ≤ p → p < 5 → 0 ≤ q → q < 5 → (0 ≤ ψ (10 + 5 * p + q) ∧ ψ (10 + 5 * p + q) ≤ 99) ∧ (p = q → ψ (10 + 5 * p + q) = 0) ∧ (φ 2 ≤ p ∨ φ 2 ≤ q → ψ (10 + 5 * p + q) = 0)) ∧
  (∀ k, 0 ≤ k → k < φ 5 → (0 ≤ φ (18 + 2 * k) ∧ φ (18 + 2 * k) < φ 2) ∧ (0 ≤ φ (18 + 2 * k + 1) ∧ φ (18 + 2 * k + 1) ≤ 20)) ∧
  (∀ k j, 0 ≤ k → k < φ 5 → 0 ≤ j → j < φ 5 → φ (18 + 2 * k) = φ (18 + 2 * j) → k = j) ∧
  (∀ k, 0 ≤ k → k < φ 6 → (0 ≤ φ (26 + 3 * k) ∧ φ (26 + 3 * k) < φ 2) ∧ (1 ≤ φ (26 + 3 * k + 1) ∧ φ (26 + 3 * k + 1) ≤ 30) ∧ (0 ≤ φ (26 + 3 * k + 2) ∧ φ (26 + 3 * k + 2) ≤ φ 0)) ∧ ψ 35 = 0
theorem ct_rg (φ : Int → Int) : 0 ≤ ct φ ∧ ct φ ≤ 5 := by
  unfold ct b01
  (repeat' split) <;> omega
theorem ct_cg {φ φ' : Int → Int} (h : ∀ p, 0 ≤ p → p < 5 → φ' (13 + p) = φ (13 + p)) : ct φ' = ct φ := by
  have a0 := h 0 (by omega) (by omega)
  have a1 := h 1 (by omega) (by omega)
  have a2 := h 2 (by omega) (by omega)
  have a3 := h 3 (by omega) (by omega)
  have a4 := h 4 (by omega) (by omega)
  have a0 : φ' 13 = φ 13 := a0
  have a1 : φ' 14 = φ 14 := a1
  have a2 : φ' 15 = φ 15 := a2
  have a3 : φ' 16 = φ 16 := a3
  have a4 : φ' 17 = φ 17 := a4
  unfold ct
  rw [a0, a1, a2, a3, a4]
theorem ct_su {φ : Int → Int} {p v : Int} (p0 : 0 ≤ p) (p1 : p < 5) (h : φ (13 + p) ≤ 0) (hv : 1 ≤ v) : ct (su1 φ (13 + p) v) = ct φ + 1 := by
  have h5 : p = 0 ∨ p = 1 ∨ p = 2 ∨ p = 3 ∨ p = 4 := by omega
  have b1 : ∀ v : Int, 1 ≤ v → b01 v = 1 := fun v h => by unfold b01; rw [if_pos (by omega)]
  have b0 : ∀ v : Int, v ≤ 0 → b01 v = 0 := fun v h => by unfold b01; rw [if_neg (by omega)]
  unfold ct
  rcases h5 with rfl | rfl | rfl | rfl | rfl
  · have h : φ 13 ≤ 0 := h
    rw [show su1 φ (13 + 0) v 13 = v from su1_e .., su1_n φ v (show (14 : Int) ≠ 13 + 0 by omega), su1_n φ v (show (15 : Int) ≠ 13 + 0 by omega), su1_n φ v (show (16 : Int) ≠ 13 + 0 by omega), su1_n φ v (show (17 : Int) ≠ 13 + 0 by omega), b1 v hv, b0 _ h]
    omega
  · have h : φ 14 ≤ 0 := h
    rw [show su1 φ (13 + 1) v 14 = v from su1_e .., su1_n φ v (show (13 : Int) ≠ 13 + 1 by omega), su1_n φ v (show (15 : Int) ≠ 13 + 1 by omega), su1_n φ v (show (16 : Int) ≠ 13 + 1 by omega), su1_n φ v (show (17 : Int) ≠ 13 + 1 by omega), b1 v hv, b0 _ h]
    omega
  · have h : φ 15 ≤ 0 := h
    rw [show su1 φ (13 + 2) v 15 = v from su1_e .., su1_n φ v (show (13 : Int) ≠ 13 + 2 by omega), su1_n φ v (show (14 : Int) ≠ 13 + 2 by omega), su1_n φ v (show (16 : Int) ≠ 13 + 2 by omega), su1_n φ v (show (17 : Int) ≠ 13 + 2 by omega), b1 v hv, b0 _ h]
    omega
  · have h : φ 16 ≤ 0 := h
    rw [show su1 φ (13 + 3) v 16 = v from su1_e .., su1_n φ v (show (13 : Int) ≠ 13 + 3 by omega), su1_n φ v (show (14 : Int) ≠ 13 + 3 by omega), su1_n φ v (show (15 : Int) ≠ 13 + 3 by omega), su1_n φ v (show (17 : Int) ≠ 13 + 3 by omega), b1 v hv, b0 _ h]
    omega
  · have h : φ 17 ≤ 0 := h
    rw [show su1 φ (13 + 4) v 17 = v from su1_e .., su1_n φ v (show (13 : Int) ≠ 13 + 4 by omega), su1_n φ v (show (14 : Int) ≠ 13 + 4 by omega), su1_n φ v (show (15 : Int) ≠ 13 + 4 by omega), su1_n φ v (show (16 : Int) ≠ 13 + 4 by omega), b1 v hv, b0 _ h]
    omega
theorem FI.wf {φ ψ : Int → Int} (h : FI φ ψ) : Wf φ ψ := by
  obtain ⟨h1, h2, h3, h4, h5, h6, h7, h8, -⟩ := h
  have := ct_rg φ
  exact ⟨h1, h2, by omega, h4, by omega, h6, h7, h8, by omega⟩
theorem FI.rg {φ ψ : Int → Int} (h : FI φ ψ) (h7' : φ 7 ≠ 0) (h2' : φ 2 ≠ 0) : Rg φ ψ ψ := by
  obtain ⟨h1, h2, h3, h4, h5, h6, h7, h8, h9, h10, h11, h12, h13, h14, h15⟩ := h
  have := ct_rg φ
  refine ⟨by omega, by omega, by omega, by omega, h6, h7, h8, fun p p0 p1 => ?_, fun p q p0 p1 q0 q1 => ?_, h12, h13, h14, by omega⟩
  · have := h9 p p0 p1
    exact ⟨this.1, this.2.1, this.2.2.1, this.2.2.2.1, this.2.2.1, this.2.2.2.1⟩
  · have := h11 p q p0 (by omega) q0 (by omega)
    exact ⟨this.1, this.2.1⟩
theorem fnd_lt {φ ψ : Int → Int} (h : FI φ ψ) {w : List Int} (h0 : 0 ≤ fnd φ w) : fnd φ w < φ 2 ∧ nmAt φ w (fnd φ w) := by
  have hr := fnd_rg φ w
  have hat : nmAt φ w (fnd φ w) := by
    unfold fnd fd at h0 ⊢
    rcases hf : fn (fun p => nmAt φ w p) 5 0 with _ | j
    · rw [hf] at h0
      exact absurd h0 (by decide)
    · exact (fn_rg 5 0 j hf).2.1
  refine ⟨?_, hat⟩
  by_cases hc : fnd φ w < φ 2
  · exact hc
  · have := (h.2.2.2.2.2.2.2.2.2.1 (fnd φ w) (by omega) (by omega)).2.1
    have := hat.1.1
    omega
