/-! PLAIN 74: the component's reader: a line, the whole text -/
set_option maxRecDepth 100000
theorem bn3_id (x : Option (Nat × Nat × fk_M)) : (bn3 x fun a b c => some (a, b, c)) = x := by
  rcases x with _ | ⟨a, b, c⟩
  · rfl
  · rfl
/-- which line a word begins -/
def lnx (w : List Int) : Int := if w = kw 2 then 0 else if w = kw 3 then 1 else if w = kw 4 then 2 else if w = kw 5 then 3 else if w = kw 6 then 4 else if w = kw 7 then 5 else -1
theorem line23 {m : fk_M} {g : Nat → Nat} {x0 : Option Nat} {s : Nat} {w : List Int} (hs : StC m s w) (hw : Lt w) (hc : ∀ i, i < 40 → StC m (g i) (kw i)) (N kk : Nat) : ∃ m', Hz m m' ∧ f_X3_line_J23 g x0 (some s) N kk m = f_X3_line_J169 g x0 (ii (lnx w)) N kk m' := by
  obtain ⟨m', a1, a2, a3, a4⟩ := s_hash hs hw
  have hz : Hz m m' := ⟨fun q => by
    by_cases hq : q = s
    · rcases a3 with h | h
      · exact Or.inl (by rw [h])
      · exact Or.inr (by rw [hq]; exact h)
    · exact Or.inl (a2 q hq), a4⟩
  refine ⟨m', hz, ?_⟩
  have hq : ∀ i, i < 40 → f_J5_equals (some s) (some (g i)) m' = some (if w = kw i then 1 else 0) := fun i hi => s_equals (a4 _ _ hs) (a4 _ _ (hc i hi)) hw (kw_lt hi)
  have ho := (a4 _ _ hs).o
  obtain ⟨h2, h3, h4, h5, h6, h7⟩ := kw_h2
  unfold f_X3_line_J23
  rw [hs.o, Option.bind_some, a1, bn2_some]
  by_cases c2 : w = kw 2
  · subst c2
    rw [h2, if_neg (by decide), if_neg (by decide), if_neg (by decide), if_neg (by decide), if_pos rfl, ho, Option.bind_some, hq 2 (by omega), Option.bind_some, if_pos rfl, if_neg (by decide)]
    rfl
  by_cases c3 : w = kw 3
  · subst c3
    rw [h3, if_neg (by decide), if_neg (by decide), if_neg (by decide), if_pos rfl, ho, Option.bind_some, hq 3 (by omega), Option.bind_some, if_pos rfl, if_neg (by decide)]
    rfl
  by_cases c4 : w = kw 4
  · subst c4
    rw [h4, if_neg (by decide), if_pos rfl, ho, Option.bind_some, hq 4 (by omega), Option.bind_some, if_pos rfl, if_neg (by decide)]
    rfl
  by_cases c5 : w = kw 5
  · subst c5
    rw [h5, if_neg (by decide), if_neg (by decide), if_pos rfl, ho, Option.bind_some, hq 5 (by omega), Option.bind_some, if_pos rfl, if_neg (by decide)]
    rfl
  by_cases c6 : w = kw 6
  · subst c6
    rw [h6, if_pos rfl, ho, Option.bind_some, hq 6 (by omega), Option.bind_some, if_pos rfl, if_neg (by decide)]
    rfl
  by_cases c7 : w = kw 7
  · subst c7
    rw [h7, if_neg (by decide), if_neg (by decide), if_neg (by decide), if_neg (by decide), if_neg (by decide), if_pos rfl, ho, Option.bind_some, hq 7 (by omega), Option.bind_some, if_pos rfl, if_neg (by decide)]
    rfl
  have e : lnx w = -1 := by
    unfold lnx
    rw [if_neg c2, if_neg c3, if_neg c4, if_neg c5, if_neg c6, if_neg c7]
  rw [ho, hq 2 (by omega), hq 3 (by omega), hq 4 (by omega), hq 5 (by omega), hq 6 (by omega), hq 7 (by omega), if_neg c2, if_neg c3, if_neg c4, if_neg c5, if_neg c6, if_neg c7, e, show ii (-1) = -1 from rfl]
  simp only [Option.bind_some, if_true, ite_self]
/-- tokens that can still come: one less behind each -/
theorem tkc_on {T : Int → Int} {n : Int} {t : Tkn} (hT : Tx8 T n) (ht : isT T n t) (h1 : t.1 ≠ 1) : tkc n (aOn T n t) + 1 ≤ tkc n t := by
  have hok := ht.ok hT
  have hok' := (ht.on hT).ok hT
  have hge := tkn_ge hT hok.2.1.1 hok.2.1.2
  have hao : aOn T n t = tkn T n t.2.2.1 := rfl
  rw [hao] at hok' ⊢
  have b1 := hok.2.1
  have b2 := hok'.2.1
  unfold tkc
  rw [if_neg h1]
  split
  · omega
  · have := hge.2 (by assumption)
    omega
theorem tkc_le {n : Int} {t : Tkn} (h : Tok8 n t) (hn : n ≤ 900) : tkc n t ≤ 901 := by
  have := h.2.1
  unfold tkc
  split <;> omega
section LNR
variable {g : Nat → Nat} {r tp : Nat} {T : Int → Int} {n : Int} {m : fk_M} {N : Nat} {t : Tkn} {e : Er} {φ ψ : Int → Int}
theorem LN.pre {m0 : fk_M} {kk : Nat} {ρ : Except Er Ls} {res : Option (Nat × Nat × fk_M)} (hl : Lo r m0 m) (hk : Kt kp3 m0 m) (h : LN g r tp T n m N kk t e ρ res) : LN g r tp T n m0 N kk t e ρ res := by
  obtain ⟨N', k', m', t', e', s', h1, h2, h3, h4, h5, h6⟩ := h
  exact ⟨N', k', m', t', e', s', h1, h2, ⟨h3.1, hl.tr h3.2⟩, h4, h5, fun h0 => hk.k3 (h6 h0)⟩
theorem r_line (h : SS g r tp T n m N t e) (kk : Nat) (hP : PR g m r φ ψ) (hF : FI φ ψ) : LN g r tp T n m N kk t e (aLine T n (t, φ, ψ)) (f_X3_line g (some r) N kk m) := by
  obtain ⟨z, hz1, hK⟩ := h.tk
  obtain ⟨k1, k2, k3, k4, s, k5, k6⟩ := hK.at
  have h8 := h.ok
  have hr := h8.2.2.1
  have hc := h.2.2.2.2.2.2
  have hnil : Lt [] := ⟨by decide, fun i hi => absurd hi (by show ¬ i < 0; omega)⟩
  have hrun : ∃ m1, Hz m m1 ∧ f_X3_line g (some r) N kk m = f_X3_line_J169 g (some r) (ii (lnx (if t.1 = 2 then t.2.2.2.2 else []))) N kk m1 := by
    unfold f_X3_line
    rw [hz1, Option.bind_some, k2, Option.bind_some]
    by_cases h2 : t.1 = 2
    · obtain ⟨m1, a1, a2⟩ := line23 (x0 := some r) k6 h8.2.2.2.2.1 hc N kk
      rw [if_pos (show ii t.1 = 2 by rw [h2]; rfl), Option.bind_some, k5, Option.bind_some, a2, if_pos h2]
      exact ⟨m1, a1, rfl⟩
    · obtain ⟨m1, a1, a2⟩ := line23 (x0 := some r) (hc 1 (by omega)) hnil hc N kk
      rw [if_neg (show ¬ ii t.1 = 2 by rw [show (2 : Int32) = ii 2 from rfl, ii_eq (by omega) (by omega)]; exact h2), a2, if_neg h2]
      exact ⟨m1, a1, rfl⟩
  obtain ⟨m1, hz, hrun⟩ := hrun
  obtain ⟨s1, f1⟩ := h.hz kk hz
  have hP1 := hP.kp hF f1.2.1
  rw [hrun]
  refine LN.pre f1.2.2 f1.2.1 ?_
  have hw : ∀ i, isW t (kw i) → (if t.1 = 2 then t.2.2.2.2 else []) = kw i := fun i hi => by rw [if_pos hi.1, hi.2]
  unfold aLine f_X3_line_J169
  by_cases c2 : isW t (kw 2)
  · rw [hw 2 c2, show lnx (kw 2) = 0 by decide, if_pos (show ii 0 = 0 from rfl), s1.o, Option.bind_some, bn3_id]
    refine (?_ : LN _ _ _ _ _ _ _ _ _ _ (if isW t (kw 2) then _ else _) _)
    rw [if_pos c2]
    exact r_pierLine s1 kk hP1 hF
  have e2 : ∀ {X Y : Except Er Ls}, (if isW ((t, φ, ψ) : Ls).1 (kw 2) then X else Y) = Y := fun {X Y} => if_neg c2
  rw [e2]
  by_cases c3 : isW t (kw 3)
  · have e3 : ∀ {X Y : Except Er Ls}, (if isW ((t, φ, ψ) : Ls).1 (kw 3) then X else Y) = X := fun {X Y} => if_pos c3
    rw [e3, hw 3 c3, show lnx (kw 3) = 1 by decide, if_neg (by decide), if_pos (show ii 1 = 1 from rfl), s1.o, Option.bind_some, bn3_id]
    exact r_pair s1 kk hP1 hF
  have e3 : ∀ {X Y : Except Er Ls}, (if isW ((t, φ, ψ) : Ls).1 (kw 3) then X else Y) = Y := fun {X Y} => if_neg c3
  rw [e3]
  by_cases c4 : isW t (kw 4)
  · have e4 : ∀ {X Y : Except Er Ls}, (if isW ((t, φ, ψ) : Ls).1 (kw 4) then X else Y) = X := fun {X Y} => if_pos c4
    rw [e4, hw 4 c4, show lnx (kw 4) = 2 by decide, if_neg (by decide), if_neg (by decide), if_pos (show ii 2 = 2 from rfl), s1.o, Option.bind_some, bn3_id]
    exact r_contract s1 kk hP1 hF
  have e4 : ∀ {X Y : Except Er Ls}, (if isW ((t, φ, ψ) : Ls).1 (kw 4) then X else Y) = Y := fun {X Y} => if_neg c4
  rw [e4]
  by_cases c5 : isW t (kw 5)
  · have e5 : ∀ {X Y : Except Er Ls}, (if isW ((t, φ, ψ) : Ls).1 (kw 5) then X else Y) = X := fun {X Y} => if_pos c5
    rw [e5, hw 5 c5, show lnx (kw 5) = 3 by decide, if_neg (by decide), if_neg (by decide), if_neg (by decide), if_pos (show ii 3 = 3 from rfl), s1.o, Option.bind_some, bn3_id]
    exact r_debt s1 kk hP1 hF
  have e5 : ∀ {X Y : Except Er Ls}, (if isW ((t, φ, ψ) : Ls).1 (kw 5) then X else Y) = Y := fun {X Y} => if_neg c5
  rw [e5]
  by_cases c6 : isW t (kw 6)
  · have e6 : ∀ {X Y : Except Er Ls}, (if isW ((t, φ, ψ) : Ls).1 (kw 6) then X else Y) = X := fun {X Y} => if_pos c6
    rw [e6, hw 6 c6, show lnx (kw 6) = 4 by decide, if_neg (by decide), if_neg (by decide), if_neg (by decide), if_neg (by decide), if_pos (show ii 4 = 4 from rfl), s1.o, Option.bind_some, bn3_id]
    exact r_unsure s1 kk hP1 hF
  have e6 : ∀ {X Y : Except Er Ls}, (if isW ((t, φ, ψ) : Ls).1 (kw 6) then X else Y) = Y := fun {X Y} => if_neg c6
  rw [e6]
  by_cases c7 : isW t (kw 7)
  · have e7 : ∀ {X Y : Except Er Ls}, (if isW ((t, φ, ψ) : Ls).1 (kw 7) then X else Y) = X := fun {X Y} => if_pos c7
    rw [e7, hw 7 c7, show lnx (kw 7) = 5 by decide, if_neg (by decide), if_neg (by decide), if_neg (by decide), if_neg (by decide), if_neg (by decide), if_pos (show ii 5 = 5 from rfl), s1.o, Option.bind_some, bn3_id]
    exact r_heard s1 kk hP1 hF
  have e7 : ∀ {X Y : Except Er Ls}, (if isW ((t, φ, ψ) : Ls).1 (kw 7) then X else Y) = Y := fun {X Y} => if_neg c7
  have hl : lnx (if t.1 = 2 then t.2.2.2.2 else []) = -1 := by
    by_cases h2 : t.1 = 2
    · unfold lnx
      rw [if_pos h2, if_neg (fun k => c2 ⟨h2, k⟩), if_neg (fun k => c3 ⟨h2, k⟩), if_neg (fun k => c4 ⟨h2, k⟩), if_neg (fun k => c5 ⟨h2, k⟩), if_neg (fun k => c6 ⟨h2, k⟩), if_neg (fun k => c7 ⟨h2, k⟩)]
    · rw [if_neg h2]
      decide
  obtain ⟨m2, b1, s2, f2⟩ := o_wrong s1 kk (k := 1) (by omega)
  have hg := s1.rg
  rw [e7, hl, if_neg (by decide), if_neg (by decide), if_neg (by decide), if_neg (by decide), if_neg (by decide), if_neg (by decide), s1.o, Option.bind_some, show (1 : Int32) = ii 1 from rfl, b1, Option.bind_some]
  refine ⟨N, kk, m2, t, er1 e 1 t.2.1, (t, φ, ψ), rfl, s2, f2.rm (Lo.rfl' _ _), Lv.err _ e (by omega), fun h0 => ?_, fun _ => f2.2.1⟩
  have := er1_1 (e := e) (k := 1) (p := t.2.1) (by omega) hg.1
  omega
/-- the reader's end -/
def RD (g : Nat → Nat) (r tp : Nat) (T : Int → Int) (n : Int) (m : fk_M) (N kk c8 c69 : Nat) (e : Er) (ρ : Except Er Ls) (res : Option (Option Nat × Nat × Nat × fk_M)) : Prop := ∃ N' k' m' t' e' s', res = some (if e'.1 = 0 then some (r + 2) else none, N', k', m') ∧ SS g r tp T n m' N' t' e' ∧ ((N ≤ N' ∧ kk ≤ k') ∧ N' + 5 * tkc n t' ≤ N + c8 ∧ k' + 36 * tkc n t' ≤ kk + c69) ∧ Lo r m m' ∧ Lv ρ s' e e' ∧ (e'.1 = 0 → s'.1 = t' ∧ PR g m' r s'.2.1 s'.2.2 ∧ FI s'.2.1 s'.2.2)
theorem r_end (h : SS g r tp T n m N t e) (kk : Nat) (hP : PR g m r φ ψ) (hF : FI φ ψ) : RD g r tp T n m N kk (5 * tkc n t) (36 * tkc n t) e (aEnd (t, φ, ψ)) ((gR m (some r) 2 2).bind fun z10 => (gI m z10 5 0).bind fun z11 => if z11 = 1 then (f_X3_read_J27 g (some r) N kk m) else ((isO m (some r) 2).bind fun u12 => (f_X3_wrong (some r) 1 m).bind fun m13 => f_X3_read_J27 g (some r) N kk m13)) := by
  have r2 := hF.2.2.2.1
  have r7 : (φ 7 = 0 ∧ φ 0 = 0) ∨ (φ 7 = 1 ∧ 2 ≤ φ 0 ∧ φ 0 ≤ 99) := by
    rcases hF.2.2.1 with hh | hh
    · exact Or.inl ⟨hh.1, hh.2.1⟩
    · exact Or.inr ⟨hh.1, hh.2.1⟩
  obtain ⟨z, hz1, hK⟩ := h.tk
  obtain ⟨-, k2, -⟩ := hK.at
  have hr := h.ok.2.2.1
  obtain ⟨m1, e1, a1, a2, s1, f1, h1⟩ := o_chk h kk (t.1 = 1) (k := 1) (by omega)
  have hP1 := hP.kp hF f1.2.1
  obtain ⟨m2, e2, b1, b2, s2, f2, h2⟩ := o_chk s1 kk (¬ (φ 7 = 0 ∨ φ 2 = 0)) (k := 6) (by omega)
  have hP2 := hP1.kp hF f2.2.1
  have j57 : f_X3_read_J57 g (some r) N kk m2 = some (if e2.1 = 0 then some (r + 2) else none, N, kk, m2) := by
    unfold f_X3_read_J57
    rw [s2.o, Option.bind_some, s2.ov, Option.bind_some]
    by_cases h0 : e2.1 = 0
    · rw [if_pos h0, if_pos rfl, s2.pi, Option.bind_some, if_pos h0]
    · rw [if_neg h0, if_neg (by decide), if_neg h0]
  have j51 : (φ 7 = 0 ∨ φ 2 = 0) → f_X3_read_J51 g (some r) N kk m1 = some (if e2.1 = 0 then some (r + 2) else none, N, kk, m2) := fun hh => by
    unfold f_X3_read_J51
    rw [s1.o, Option.bind_some, show (6 : Int32) = ii 6 from rfl, b2 (fun k => k hh), Option.bind_some, j57]
  have j27 : f_X3_read_J27 g (some r) N kk m1 = some (if e2.1 = 0 then some (r + 2) else none, N, kk, m2) := by
    obtain ⟨V, v1, v2, v3, v4, v5, v6, -⟩ := hP1.pq
    obtain ⟨q, lw, hk, dk, du, dv, e4, e5, e6, g4, g5, g6, -, -, ⟨⟨⟨U, c, u1, u2, u3, u4⟩, -⟩, -⟩, -⟩ := hP1
    unfold f_X3_read_J27 f_J2_isEmpty
    rw [s1.pi, Option.bind_some, gI_of v1 v2, Option.bind_some]
    by_cases h7 : φ 7 = 0
    · rw [if_pos h7, if_pos (show ii (-1) = -1 from rfl), j51 (Or.inl h7)]
    · rw [if_neg h7, if_neg (show ¬ ii (φ 0) = -1 by rw [show (-1 : Int32) = ii (-1) from rfl, ii_eq (by omega) (by omega)]; omega), Option.bind_some, gR_of v1 v6, Option.bind_some, isO_of u1, Option.bind_some, gI_of u1 u4, Option.bind_some, Option.bind_some]
      by_cases h20 : φ 2 = 0
      · rw [if_pos (show ii (φ 2) = 0 by rw [h20]; rfl), if_neg (by decide), j51 (Or.inr h20)]
      · rw [if_neg (show ¬ ii (φ 2) = 0 by rw [show (0 : Int32) = ii 0 from rfl, ii_eq (by omega) (by omega)]; exact h20), if_pos rfl, ← b1 (fun hh => hh.elim h7 h20), j57]
  refine ⟨N, kk, m2, t, e2, (t, φ, ψ), ?_, s2, by omega, (f1.tr f2).2.2, ?_, fun _ => ⟨rfl, hP2, hF⟩⟩
  · rw [hz1, Option.bind_some, k2, Option.bind_some]
    by_cases ht : t.1 = 1
    · rw [if_pos (show ii t.1 = 1 by rw [ht]; rfl), ← a1 ht, j27]
    · rw [if_neg (show ¬ ii t.1 = 1 by rw [show (1 : Int32) = ii 1 from rfl, ii_eq (by omega) (by omega)]; exact ht), h.o, Option.bind_some, show (1 : Int32) = ii 1 from rfl, a2 ht, Option.bind_some, j27]
  · unfold aEnd
    refine Lv.ite (k := 1) (p := t.2.1) (by omega) h1 ?_
    have hsw : ∀ {X Y : Except Er Ls}, (if φ 7 = 0 ∨ φ 2 = 0 then X else Y) = if ¬ (φ 7 = 0 ∨ φ 2 = 0) then Y else X := fun {X Y} => by
      by_cases hh : φ 7 = 0 ∨ φ 2 = 0
      · rw [if_pos hh, if_neg (fun k => k hh)]
      · rw [if_neg hh, if_pos hh]
    show Lv (if φ 7 = 0 ∨ φ 2 = 0 then _ else _) _ _ _
    rw [hsw]
    exact Lv.ite (k := 6) (p := t.2.1) (by omega) h2 (Lv.ok _ _)
theorem Lv.dead {α : Type} {ρ ρ' : Except Er α} {v v' : α} {e e1 e2 : Er} (h : Lv ρ v e e1) (h0 : e.1 = 0) (h1 : e1.1 ≠ 0) (h2 : e2 = e1) {F : α → Except Er α} (he : ρ' = ρ.bind F) : Lv ρ' v' e e2 := by
  refine ⟨fun hd => absurd h0 hd, fun _ => ?_⟩
  rcases h.2 h0 with ⟨a, b⟩ | ⟨a, b⟩
  · exact absurd b h1
  · rw [he, a, h2]
    exact Or.inr ⟨rfl, b⟩
theorem r_loop (kk0 : Nat) : ∀ (d M N kk : Nat) (m : fk_M) (t : Tkn) (φ ψ : Int → Int), tkc n t < d → d < M → SS g r tp T n m N t (0, 0) → PR g m r φ ψ → FI φ ψ → RD g r tp T n m N kk (8 * tkc n t + 3) (69 * tkc n t + 33) (0, 0) ((aLine T n (t, φ, ψ)).bind (aLoop T n d)) (f_X3_read_L0 g (some r) M N kk m) := by
  intro d
  induction d with
  | zero => intro M N kk m t φ ψ h1; omega
  | succ d ih =>
    intro M N kk m t φ ψ h1 h2 h hP hF
    obtain ⟨M, rfl⟩ : ∃ M', M = M' + 1 := ⟨M - 1, by omega⟩
    obtain ⟨N1, k1, m1, t1, e1, s', a1, a2, ⟨a3, a4⟩, a5, a6, a7⟩ := r_line h kk hP hF
    have hr1 := a2.ok.2.2.1
    rw [f_X3_read_L0, h.o, Option.bind_some, a1, bn3_some, a2.o, Option.bind_some]
    unfold f_X3_eatsSemicolon
    rw [a2.o, Option.bind_some, a2.ov, Option.bind_some]
    by_cases h0 : e1.1 = 0
    rotate_left
    · -- a line failed
      have hP1 := hP.kp hF (a7 h0)
      obtain ⟨N2, k2, m2, t2, e2, s2, b1, b2, b3, b4, b5, b6⟩ := r_end a2 k1 hP1 hF
      have he : e2 = e1 := b5.1 h0
      rw [if_neg h0, if_neg (show ¬ (1 : Int32) = 0 by decide), bn4_some, if_pos rfl]
      refine ⟨N2, k2, m2, t2, e2, s2, b1, b2, by omega, a4.tr b4, a5.dead rfl h0 he rfl, fun hh => ?_⟩
      rw [he] at hh
      exact absurd hh h0
    obtain ⟨ht, hP1⟩ := a6 h0
    have hl := (a5.live h0).2
    obtain ⟨-, -, hF1⟩ := aLine_ok h.1 (s := (t, φ, ψ)) h.ok hF hl
    have he1 : e1.1 = 0 := h0
    obtain ⟨z, hz1, hK⟩ := a2.tk
    obtain ⟨-, k2', -⟩ := hK.at
    rw [if_pos h0, if_pos rfl, hz1, Option.bind_some, k2', Option.bind_some]
    by_cases h4 : t1.1 = 4
    · obtain ⟨N2, k2, m2, t2, b1, s2, f2, b4⟩ := o_on a2 k1
      have ht2 := b4 h0
      have hc := tkc_on h.1 a2.2.2.2.1 (by omega)
      rw [← ht2] at hc
      have e0 : RS m2 r tp n t2 (0, 0) := by
        obtain ⟨zz, ⟨V, v1, v2, v3, v4, v5, v6, v7⟩, q2, q3⟩ := s2.2.2.1
        exact ⟨zz, ⟨V, v1, v2, v3, v4, by rw [v5, h0], fun hh => absurd hh (by decide), by decide⟩, q2, q3⟩
      have s20 : SS g r tp T n m2 N2 t2 (0, 0) := ⟨s2.1, s2.2.1, e0, s2.2.2.2⟩
      obtain ⟨N3, k3, m3, t3, e3, s3, c1, c2, c3, c4, c5, c6⟩ := ih M N2 k2 m2 t2 s'.2.1 s'.2.2 (by omega) (by omega) s20 (hP1.kp hF1 f2.2.1) hF1
      have f2' := f2.1
      rw [if_pos (show ii t1.1 = 4 by rw [h4]; rfl), Option.bind_some, b1, bn3_some, bn4_some, if_neg (show ¬ (1 : Int32) = 0 by decide), c1]
      refine ⟨N3, k3, m3, t3, e3, s3, rfl, c2, by omega, (a4.tr f2.2.2).tr c4, ?_, c6⟩
      rw [hl]
      show Lv (aLoop T n (d + 1) s') s3 (0, 0) e3
      have hlp : aLoop T n (d + 1) s' = (aLine T n (aOn T n s'.1, s'.2)).bind (aLoop T n d) := by
        show (if s'.1.1 = 4 then _ else _) = _
        rw [if_pos (by rw [ht]; exact h4)]
      rw [hlp, ht, ← ht2]
      exact c5
    · obtain ⟨N2, k2, m2, t2, e2, s2, b1, b2, b3, b4, b5, b6⟩ := r_end a2 k1 hP1 hF1
      rw [if_neg (show ¬ ii t1.1 = 4 by rw [show (4 : Int32) = ii 4 from rfl, ii_eq (by omega) (by omega)]; exact h4), bn4_some, if_pos rfl, b1]
      refine ⟨N2, k2, m2, t2, e2, s2, rfl, b2, by omega, a4.tr b4, ?_, b6⟩
      rw [hl]
      show Lv (aLoop T n (d + 1) s') s2 (0, 0) e2
      have hlp : aLoop T n (d + 1) s' = aEnd s' := by
        show (if s'.1.1 = 4 then _ else _) = _
        rw [if_neg (by rw [ht]; exact h4)]
      have hs' : s' = (t1, s'.2.1, s'.2.2) := by rw [← ht]
      rw [hlp, hs']
      exact ⟨fun hd => absurd rfl hd, fun _ => b5.2 h0⟩
theorem k_read (h : SS g r tp T n m N (tkn T n 0) (0, 0)) (kk : Nat) (hP : PR g m r φ ψ) (hF : FI φ ψ) : RD g r tp T n m N kk 7211 62202 (0, 0) (aAll T n φ ψ) (f_X3_read g (some r) N kk m) := by
  have hc := tkc_le h.ok h.1.1.2
  obtain ⟨N', k', m', t', e', s', h1, h2, h3, h4⟩ := r_loop (g := g) (r := r) (tp := tp) (T := T) (n := n) 0 1000 fk_fuel N kk m (tkn T n 0) φ ψ (by omega) (by unfold fk_fuel; omega) h hP hF
  exact ⟨N', k', m', t', e', s', h1, h2, by omega, h4⟩
end LNR
