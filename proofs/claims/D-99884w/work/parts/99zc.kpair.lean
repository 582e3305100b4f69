/-! PLAIN 72: the component's lines: a law, a pair that is kept -/
set_option maxRecDepth 100000
theorem Kt.new {K : Nat → Prop} {m0 m : fk_M} {z : Nat} {w0 : Bool} {c0 : fk_C} (c : fk_C) (h : Kt K m0 m) (h0 : m0 z = none) (hz : m z = some (w0, c0)) (h1 : tg c0 ≠ 16) (h2 : tg c0 ≠ 101) : Kt K m0 (fk_up m z c) := by
  refine ⟨fun q w c' hq hn => (up_ne _ _ (fun e => ?_)).trans (h.1 q w c' hq hn), fun q w hs => (Kt.up1 (tg c0) c hz rfl h1 h2).2 q w (h.2 q w hs)⟩
  rw [e, h0] at hq
  cases hq
theorem kw_h3 : hsh (kw 16) 0 = 1823996737 ∧ hsh (kw 17) 0 = 50716538 ∧ hsh (kw 18) 0 = -1282128839 ∧ hsh (kw 19) 0 = -90697692 := by decide +kernel
/-- which law a word is -/
def lwx (w : List Int) : Int := if w = kw 16 then 0 else if w = kw 17 then 1 else if w = kw 18 then 2 else if w = kw 19 then 3 else -1
theorem lwx_of {n : Int} {t : Tkn} (h8 : Tok8 n t) : lawOf t = lwx (if t.1 = 2 then t.2.2.2.2 else []) := by
  unfold lawOf lwx
  by_cases h2 : t.1 = 2
  · rw [if_pos h2]
    have e : ∀ i, isW t (kw i) ↔ t.2.2.2.2 = kw i := fun i => ⟨fun h => h.2, fun h => ⟨h2, h⟩⟩
    simp only [e]
  · rw [if_neg h2, if_neg (fun h => h2 h.1), if_neg (fun h => h2 h.1), if_neg (fun h => h2 h.1), if_neg (fun h => h2 h.1)]
    decide
theorem law23 {m : fk_M} {g : Nat → Nat} {x0 : Option Nat} {s : Nat} {w : List Int} (hs : StC m s w) (hw : Lt w) (hc : ∀ i, i < 40 → StC m (g i) (kw i)) (N kk : Nat) : ∃ m', Hz m m' ∧ f_X3_law_J23 g x0 (some s) N kk m = f_X3_law_J125 g x0 (ii (lwx w)) N kk m' := by
  obtain ⟨m', a1, a2, a3, a4⟩ := s_hash hs hw
  have hz : Hz m m' := ⟨fun q => by
    by_cases hq : q = s
    · rcases a3 with h | h
      · exact Or.inl (by rw [h])
      · exact Or.inr (by rw [hq]; exact h)
    · exact Or.inl (a2 q hq), a4⟩
  refine ⟨m', hz, ?_⟩
  have hq : ∀ i, i < 40 → f_J5_equals (some s) (some (g i)) m' = some (if w = kw i then 1 else 0) := fun i hi => s_equals (a4 _ _ hs) (a4 _ _ (hc i hi)) hw (kw_lt hi)
  have ho := (a4 _ _ hs).o
  obtain ⟨h6, h7, h8, h9⟩ := kw_h3
  unfold f_X3_law_J23
  rw [hs.o, Option.bind_some, a1, bn2_some]
  by_cases c6 : w = kw 16
  · subst c6
    rw [h6, if_neg (by decide), if_neg (by decide), if_neg (by decide), if_pos rfl, ho, Option.bind_some, hq 16 (by omega), Option.bind_some, if_pos rfl, if_neg (by decide)]
    rfl
  by_cases c7 : w = kw 17
  · subst c7
    rw [h7, if_neg (by decide), if_neg (by decide), if_pos rfl, ho, Option.bind_some, hq 17 (by omega), Option.bind_some, if_pos rfl, if_neg (by decide)]
    rfl
  by_cases c8 : w = kw 18
  · subst c8
    rw [h8, if_pos rfl, ho, Option.bind_some, hq 18 (by omega), Option.bind_some, if_pos rfl, if_neg (by decide)]
    rfl
  by_cases c9 : w = kw 19
  · subst c9
    rw [h9, if_neg (by decide), if_pos rfl, ho, Option.bind_some, hq 19 (by omega), Option.bind_some, if_pos rfl, if_neg (by decide)]
    rfl
  have e : lwx w = -1 := by
    unfold lwx
    rw [if_neg c6, if_neg c7, if_neg c8, if_neg c9]
  rw [ho, hq 16 (by omega), hq 17 (by omega), hq 18 (by omega), hq 19 (by omega), if_neg c6, if_neg c7, if_neg c8, if_neg c9, e, show ii (-1) = -1 from rfl]
  simp only [Option.bind_some, if_true, ite_self]
theorem x8_init {m : fk_M} {N : Nat} {V : Nat → fk_T} {law : Int} (h0 : 0 ≤ law) (h1 : law ≤ 3) (v : Int32) : f_X8_init (some N) v (fk_up m N (oB (7 + law.toNat) V)) = some (fk_up m N (oB (7 + law.toNat) (fk_set V 0 (tI v)))) := by
  have hl : law = 0 ∨ law = 1 ∨ law = 2 ∨ law = 3 := by omega
  unfold f_X8_init pNum
  rw [show isS (some N) = some () from rfl, Option.bind_some]
  rcases hl with rfl | rfl | rfl | rfl
  · have e : fk_up m N (oB 7 V) N = some (true, oB 7 V) := up_eq ..
    show (if isO (fk_up m N (oB 7 V)) (some N) 7 = some () then pV (fk_up m N (oB 7 V)) (some N) 7 0 (tI v) else _).bind _ = some (fk_up m N (oB 7 (fk_set V 0 (tI v))))
    rw [if_pos (isO_of e), pV_of 0 _ e, Option.bind_some, up_up]
  · have e : fk_up m N (oB 8 V) N = some (true, oB 8 V) := up_eq ..
    show (if isO (fk_up m N (oB 8 V)) (some N) 7 = some () then pV (fk_up m N (oB 8 V)) (some N) 7 0 (tI v) else if isO (fk_up m N (oB 8 V)) (some N) 8 = some () then pV (fk_up m N (oB 8 V)) (some N) 8 0 (tI v) else _).bind _ = some (fk_up m N (oB 8 (fk_set V 0 (tI v))))
    rw [if_neg (isO_no e (by decide)), if_pos (isO_of e), pV_of 0 _ e, Option.bind_some, up_up]
  · have e : fk_up m N (oB 9 V) N = some (true, oB 9 V) := up_eq ..
    show (if isO (fk_up m N (oB 9 V)) (some N) 7 = some () then pV (fk_up m N (oB 9 V)) (some N) 7 0 (tI v) else if isO (fk_up m N (oB 9 V)) (some N) 8 = some () then pV (fk_up m N (oB 9 V)) (some N) 8 0 (tI v) else if isO (fk_up m N (oB 9 V)) (some N) 9 = some () then pV (fk_up m N (oB 9 V)) (some N) 9 0 (tI v) else _).bind _ = some (fk_up m N (oB 9 (fk_set V 0 (tI v))))
    rw [if_neg (isO_no e (by decide)), if_neg (isO_no e (by decide)), if_pos (isO_of e), pV_of 0 _ e, Option.bind_some, up_up]
  · have e : fk_up m N (oB 10 V) N = some (true, oB 10 V) := up_eq ..
    show (if isO (fk_up m N (oB 10 V)) (some N) 7 = some () then pV (fk_up m N (oB 10 V)) (some N) 7 0 (tI v) else if isO (fk_up m N (oB 10 V)) (some N) 8 = some () then pV (fk_up m N (oB 10 V)) (some N) 8 0 (tI v) else if isO (fk_up m N (oB 10 V)) (some N) 9 = some () then pV (fk_up m N (oB 10 V)) (some N) 9 0 (tI v) else if isO (fk_up m N (oB 10 V)) (some N) 10 = some () then pV (fk_up m N (oB 10 V)) (some N) 10 0 (tI v) else _).bind _ = some (fk_up m N (oB 10 (fk_set V 0 (tI v))))
    rw [if_neg (isO_no e (by decide)), if_neg (isO_no e (by decide)), if_neg (isO_no e (by decide)), if_pos (isO_of e), pV_of 0 _ e, Option.bind_some, up_up]
theorem law125 (g : Nat → Nat) (x0 : Option Nat) (m : fk_M) (N kk : Nat) {law : Int} (h0 : 0 ≤ law) (h1 : law ≤ 3) : ∃ V, f_X3_law_J125 g x0 (ii law) N kk m = some (some N, N + 1, kk + 1, fk_up m N (oB (7 + law.toNat) V)) ∧ V 0 = tI (ii law) := by
  have hl : law = 0 ∨ law = 1 ∨ law = 2 ∨ law = 3 := by omega
  have hs : isS (some N) = some () := rfl
  unfold f_X3_law_J125 f_X10_init f_X11_init f_X12_init f_X9_init
  rcases hl with rfl | rfl | rfl | rfl
  · have e := x8_init (m := m) (N := N) (V := fk_V0 tyX9) (law := 0) (by omega) (by omega) 0
    have e : f_X8_init (some N) 0 (fk_up m N (oB 7 (fk_V0 tyX9))) = some (fk_up m N (oB 7 (fk_set (fk_V0 tyX9) 0 (tI 0)))) := e
    rw [if_pos (show ii 0 = 0 from rfl), hs, Option.bind_some, Option.bind_some, e, Option.bind_some, Option.bind_some]
    exact ⟨_, rfl, rfl⟩
  · have e := x8_init (m := m) (N := N) (V := fk_V0 tyX10) (law := 1) (by omega) (by omega) 1
    have e : f_X8_init (some N) 1 (fk_up m N (oB 8 (fk_V0 tyX10))) = some (fk_up m N (oB 8 (fk_set (fk_V0 tyX10) 0 (tI 1)))) := e
    rw [if_neg (show ¬ ii 1 = 0 by decide), if_pos (show ii 1 = 1 from rfl), hs, Option.bind_some, Option.bind_some, Option.bind_some, e, Option.bind_some, Option.bind_some, Option.bind_some]
    exact ⟨_, rfl, rfl⟩
  · have e := x8_init (m := m) (N := N) (V := fk_V0 tyX11) (law := 2) (by omega) (by omega) 2
    have e : f_X8_init (some N) 2 (fk_up m N (oB 9 (fk_V0 tyX11))) = some (fk_up m N (oB 9 (fk_set (fk_V0 tyX11) 0 (tI 2)))) := e
    rw [if_neg (show ¬ ii 2 = 0 by decide), if_neg (show ¬ ii 2 = 1 by decide), if_pos (show ii 2 = 2 from rfl), hs, Option.bind_some, Option.bind_some, Option.bind_some, e, Option.bind_some, Option.bind_some, Option.bind_some]
    exact ⟨_, rfl, rfl⟩
  · have e := x8_init (m := m) (N := N) (V := fk_V0 tyX12) (law := 3) (by omega) (by omega) 3
    have e : f_X8_init (some N) 3 (fk_up m N (oB 10 (fk_V0 tyX12))) = some (fk_up m N (oB 10 (fk_set (fk_V0 tyX12) 0 (tI 3)))) := e
    rw [if_neg (show ¬ ii 3 = 0 by decide), if_neg (show ¬ ii 3 = 1 by decide), if_neg (show ¬ ii 3 = 2 by decide), if_pos (show ii 3 = 3 from rfl), hs, Option.bind_some, Option.bind_some, Option.bind_some, e, Option.bind_some, Option.bind_some, Option.bind_some]
    exact ⟨_, rfl, rfl⟩
theorem lawOf_rg (t : Tkn) : -1 ≤ lawOf t ∧ lawOf t ≤ 3 := by
  unfold lawOf
  (repeat' split) <;> omega
section LNP
variable {g : Nat → Nat} {r tp : Nat} {T : Int → Int} {n : Int} {m : fk_M} {N : Nat} {t : Tkn} {e : Er} {φ ψ : Int → Int}
theorem o_law (h : SS g r tp T n m N t e) (kk : Nat) : ∃ N' k' m' e' z, f_X3_law g (some r) N kk m = some (z, N', k', m') ∧ SS g r tp T n m' N' t e' ∧ (N ≤ N' ∧ N' ≤ N + 1 ∧ kk ≤ k' ∧ k' ≤ kk + 1) ∧ Kt kp3 m m' ∧ Lo r m m' ∧ Lv (aLw t) t e e' ∧ (0 ≤ lawOf t → z = some N ∧ ∃ V, m' N = some (true, oB (7 + (lawOf t).toNat) V) ∧ V 0 = tI (ii (lawOf t))) := by
  obtain ⟨z, hz1, hK⟩ := h.tk
  obtain ⟨k1, k2, k3, k4, s, k5, k6⟩ := hK.at
  have h8 := h.ok
  have hr := h8.2.2.1
  have hc := h.2.2.2.2.2.2
  have hlr := lawOf_rg t
  have hnil : Lt [] := ⟨by decide, fun i hi => absurd hi (by show ¬ i < 0; omega)⟩
  have hrun : ∃ m1, Hz m m1 ∧ f_X3_law g (some r) N kk m = f_X3_law_J125 g (some r) (ii (lawOf t)) N kk m1 := by
    rw [lwx_of h8]
    unfold f_X3_law
    rw [hz1, Option.bind_some, k2, Option.bind_some]
    by_cases h2 : t.1 = 2
    · obtain ⟨m1, a1, a2⟩ := law23 (x0 := some r) k6 h8.2.2.2.2.1 hc N kk
      rw [if_pos (show ii t.1 = 2 by rw [h2]; rfl), Option.bind_some, k5, Option.bind_some, a2, if_pos h2]
      exact ⟨m1, a1, rfl⟩
    · obtain ⟨m1, a1, a2⟩ := law23 (x0 := some r) (hc 1 (by omega)) hnil hc N kk
      rw [if_neg (show ¬ ii t.1 = 2 by rw [show (2 : Int32) = ii 2 from rfl, ii_eq (by omega) (by omega)]; exact h2), a2, if_neg h2]
      exact ⟨m1, a1, rfl⟩
  obtain ⟨m1, hz, hrun⟩ := hrun
  obtain ⟨s1, f1⟩ := h.hz kk hz
  unfold aLw
  by_cases h0 : 0 ≤ lawOf t
  · obtain ⟨V, b1, b2⟩ := law125 g (some r) m1 N kk h0 hlr.2
    have hN := s1.2.1 N (Nat.le_refl N)
    have kt : Kt (fun _ => False) m1 (fk_up m1 N (oB (7 + (lawOf t).toNat) V)) := Kt.up0 _ hN
    rw [if_pos h0]
    refine ⟨N + 1, kk + 1, _, e, some N, by rw [hrun, b1], s1.kt kt (fun h => h) (fun h => h) (fun h => h) (fun h => h) (by omega) (fun q hq => (up_ne _ _ (by omega)).trans (s1.2.1 q (by omega))), by omega, (f1.2.1.tr kt).mono (fun i hi => hi.elim id False.elim), f1.2.2.tr (fun q hq => Or.inl (up_ne _ _ (by have := s1.2.2.2.2.1; omega))), Lv.ok _ e, fun _ => ⟨rfl, V, up_eq .., b2⟩⟩
  · obtain ⟨m2, b1, s2, f2⟩ := o_wrong s1 kk (k := 1) (by omega)
    rw [if_neg h0]
    refine ⟨N, kk, m2, er1 e 1 t.2.1, none, ?_, s2, by omega, (f1.tr f2).2.1, (f1.tr f2).2.2, Lv.err _ e (by omega), fun h => absurd h h0⟩
    rw [hrun, show lawOf t = -1 by omega]
    unfold f_X3_law_J125
    rw [if_neg (show ¬ ii (-1) = 0 by decide), if_neg (show ¬ ii (-1) = 1 by decide), if_neg (show ¬ ii (-1) = 2 by decide), if_neg (show ¬ ii (-1) = 3 by decide), s1.o, Option.bind_some, show (1 : Int32) = ii 1 from rfl, b1, Option.bind_some]
/-- a pair is kept -/
theorem PR.pair {m0 : fk_M} (h : PR g m0 r φ ψ) (hF : FI φ ψ) (h2 : φ 2 < 5) (kt0 : Kt kp3 m0 m) {Np Lp s : Nat} {W L : Nat → fk_T} {w : List Int} {lw v d : Int} (hNp : m0 Np = none) (hrp : r ≤ Np) (hrl : r ≤ Lp) (hl : 0 ≤ lw ∧ lw ≤ 3) (hw : Lt w) (hw1 : 1 ≤ w.length) (w1 : m Np = some (true, oB 6 W)) (w2 : W 0 = tR (some s)) (w3 : StC m s w) (w4 : W 1 = tR (some Lp)) (w5 : W 2 = tI (ii v)) (w6 : W 3 = tI (ii d)) (w7 : W 4 = tI 0) (w8 : W 6 = tI 0) (l1 : m Lp = some (true, oB (7 + lw.toNat) L)) (l2 : L 0 = tI (ii lw)) (hrN : r + 7 ≤ N) (hfr : ∀ q, N ≤ q → m q = none) (k : Nat) : ∃ N' k' m', gR m (some (r + 2)) 4 4 = some (some (r + 3)) ∧ isO m (some (r + 3)) 14 = some () ∧ f_J2_add g (some (r + 3)) (some Np) N k m = some (1, N', k', m') ∧ (N ≤ N' ∧ N' ≤ N + 1 ∧ k ≤ k' ∧ k' ≤ k + 11) ∧ (∀ q, N' ≤ q → m' q = none) ∧ Kt (fun i => i = 14 ∨ i = 300) m m' ∧ (∀ q, q < r → m' q = m q) ∧ PR g m' r (su1 (su1 (nmS φ (φ 2) w) (8 + φ 2) lw) 2 (φ 2 + 1)) (su1 (su1 ψ (φ 2) v) (5 + φ 2) d) := by
  obtain ⟨q, lwp, hk, dk, du, dv, e4, e5, e6, g4, g5, g6, a0, a1, ⟨a2, a3, a4⟩, ⟨a51, a52, a53⟩, a6, a7, a8, a9, a10, a11⟩ := h
  have r2 := hF.2.2.2.1
  have r4 := hF.2.2.2.2.2.1
  have r5 := hF.2.2.2.2.2.2.1
  have r6 := hF.2.2.2.2.2.2.2.1
  have r9 := hF.2.2.2.2.2.2.2.2.1
  have r10 := hF.2.2.2.2.2.2.2.2.2.1 (φ 2) (by omega) h2
  have r12 := hF.2.2.2.2.2.2.2.2.2.2.2.1
  have hw8 := hw.1
  obtain ⟨φ', hφ⟩ : ∃ φ', φ' = su1 (su1 (nmS φ (φ 2) w) (8 + φ 2) lw) 2 (φ 2 + 1) := ⟨_, rfl⟩
  obtain ⟨ψ', hψ⟩ : ∃ ψ', ψ' = su1 (su1 ψ (φ 2) v) (5 + φ 2) d := ⟨_, rfl⟩
  have hn : ∀ j, j < 50 → j ≠ 2 → j ≠ 8 + φ 2 → φ' j = φ j := fun j j0 j1 j2 => by rw [hφ, su1_n _ _ j1, su1_n _ _ j2, nmS_lo φ w (by omega) j0]
  have n2 : φ' 2 = φ 2 + 1 := by rw [hφ, su1_e]
  have nl : φ' (8 + φ 2) = lw := by rw [hφ, su1_n _ _ (by omega), su1_e]
  have n50 : ∀ j, 0 ≤ j → j < φ 2 → φ' (50 + j) = φ (50 + j) := fun j j0 j1 => by rw [hφ, su1_n _ _ (by omega), su1_n _ _ (by omega), nmS_s φ w (by omega) (by omega) (by omega)]
  have n55 : ∀ j, 55 ≤ j → j < 55 + 8 * φ 2 → φ' j = φ j := fun j j0 j1 => by
    rw [hφ, su1_n _ _ (by omega), su1_n _ _ (by omega)]
    unfold nmS
    rw [if_neg (by omega), if_neg (by omega)]
  have nn : φ' (50 + φ 2) = (w.length : Int) := by rw [hφ, su1_n _ _ (by omega), su1_n _ _ (by omega), nmS_e]
  have nw : ∀ i : Nat, i < w.length → φ' (55 + 8 * φ 2 + (i : Int)) = w.getD i 0 := fun i hi => by
    rw [hφ, su1_n _ _ (by omega), su1_n _ _ (by omega)]
    unfold nmS
    rw [if_neg (by omega), if_pos (by omega), show (55 + 8 * φ 2 + (i : Int) - (55 + 8 * φ 2)).toNat = i by omega]
  have hs : ∀ j, j ≠ φ 2 → j ≠ 5 + φ 2 → ψ' j = ψ j := fun j j0 j1 => by rw [hψ, su1_n _ _ j1, su1_n _ _ j0]
  have sv : ψ' (φ 2) = v := by rw [hψ, su1_n _ _ (by omega), su1_e]
  have sd : ψ' (5 + φ 2) = d := by rw [hψ, su1_e]
  have b2 := a2.kt kt0 (by decide) (by decide)
  have b3 := a3.kt kt0 (by decide) (by decide)
  have b4 := a4.kt kt0 (by decide) (by decide)
  obtain ⟨ea', gl', N', k', m', x1, x2, x3, x4, x5, x6, x7, x8, x9⟩ := b2.add2 (k := k) a0 (by omega) (by omega) hfr w1 (Or.inl rfl) (by omega) (by omega)
  obtain ⟨c3, c3'⟩ := x9 _ _ _ _ b3 (by omega) a51
  obtain ⟨c4, c4'⟩ := x9 _ _ _ _ b4 (by omega) a52
  have b1 := a1.kt kt0 (by decide)
  obtain ⟨V, v1, v2, v3, v4, v5, v6, v7, v8, v9⟩ := id b1
  refine ⟨N', k', m', gR_of v1 v6, b2.sz.1, x1, x5, x6, x7, x8, ?_⟩
  rw [← hφ, ← hψ]
  have hUl : ∀ k : Int, 0 ≤ k → k < φ 5 → φ' (18 + 2 * k) = φ (18 + 2 * k) ∧ φ' (18 + 2 * k + 1) = φ (18 + 2 * k + 1) := fun k k0 k1 => ⟨hn _ (by omega) (by omega) (by omega), hn _ (by omega) (by omega) (by omega)⟩
  refine ⟨fun j => if j = φ 2 then Np else q j, fun j => if j = φ 2 then Lp else lwp j, hk, dk, du, dv, ea', e5, e6, gl', g5, g6, a0, ?_, ⟨?_, ?_, ?_⟩, ⟨?_, ?_, ?_⟩, ?_, fun j j0 j1 => ?_, fun j j' j0 j1 j2 j3 hjj => ?_, fun j j0 j1 => ?_, fun j j0 j1 => ?_, fun j j' j0 j1 j2 j3 hj => ?_⟩
  · obtain ⟨V, v1, v2, v3, v4, v5, v6, v7, v8⟩ := b1.kt x7 (by decide)
    exact ⟨V, v1, by rw [hn 7 (by omega) (by omega) (by omega), hn 0 (by omega) (by omega) (by omega)]; exact v2, by rw [hn 1 (by omega) (by omega) (by omega)]; exact v3, by rw [hn 3 (by omega) (by omega) (by omega)]; exact v4, by rw [hn 5 (by omega) (by omega) (by omega)]; exact v5, v6, v7, v8⟩
  · rw [n2]
    exact x2
  · rw [hn 4 (by omega) (by omega) (by omega)]
    exact c3
  · rw [hn 6 (by omega) (by omega) (by omega)]
    exact c4
  · rw [hn 4 (by omega) (by omega) (by omega)]
    exact fun _ h1 => c3' h1
  · rw [hn 6 (by omega) (by omega) (by omega)]
    exact fun _ h1 => c4' h1
  · rw [hn 4 (by omega) (by omega) (by omega), hn 6 (by omega) (by omega) (by omega)]
    exact a53
  · exact ((a6.kt kt0 (by decide)).kt x7 (by decide)).cg (hn 5 (by omega) (by omega) (by omega)) (fun j j0 j1 => (hUl j j0 j1).1)
  · dsimp only
    by_cases hj2 : j = φ 2
    · subst hj2
      rw [if_pos rfl, if_pos rfl]
      refine ⟨x4, ⟨hrp, W, s, w, x7.o w1 (by decide), w2, x7.2 _ _ w3, ⟨hw, hw1, nn, nw⟩, w4, by rw [sv]; exact w5, by rw [sd]; exact w6, by rw [hn _ (by omega) (by omega) (by omega), r10.1]; exact w7, ?_, fun k k0 k1 k2 => ?_⟩, hrl, L, by rw [nl]; exact x7.o l1 (by show ¬ (7 + lw.toNat = 14 ∨ 7 + lw.toNat = 300); omega), by rw [nl]; exact l2⟩
      · have hi := isU_cg (p := φ 2) (hn 5 (by omega) (by omega) (by omega)) (fun k k0 k1 => (hUl k k0 k1).1)
        rw [if_neg (fun hh => ?_)]
        · exact w8
        · obtain ⟨k, k1, k2⟩ := hi.mp hh
          have := (r12 k (by omega) k1).1
          omega
      · rw [hn 5 (by omega) (by omega) (by omega)] at k1
        rw [(hUl k k0 k1).1] at k2
        have := (r12 k k0 k1).1
        omega
    · rw [if_neg hj2, if_neg hj2]
      have hj1 : j < φ 2 := by omega
      obtain ⟨Wj, y1⟩ := (a7 j j0 hj1).2.c
      have y2 := kt0.o y1 (by decide)
      have y3 := x7.o y2 (by decide)
      refine ⟨by rw [x3 j.toNat (by omega)]; exact (a7 j j0 hj1).1, ?_⟩
      refine (((a7 j j0 hj1).2.kt kt0 (y2.trans y1.symm) (r9 j j0 hj1).1 (fun i i1 i2 => by show ¬ (i = 2 ∨ i = 3 ∨ i = 16); omega)).kt x7 (y3.trans y2.symm) (r9 j j0 hj1).1 (fun i i1 i2 => by show ¬ (i = 14 ∨ i = 300); omega)).cg (fun t' ht' => ?_) (hn 5 (by omega) (by omega) (by omega)) hUl ⟨hs _ (by omega) (by omega), hs _ (by omega) (by omega)⟩
      rcases ht' with rfl | rfl | rfl | ⟨t0, t1⟩
      · exact hn _ (by omega) (by omega) (by omega)
      · exact hn _ (by omega) (by omega) (by omega)
      · exact n50 j j0 hj1
      · exact n55 _ (by omega) (by omega)
  · dsimp only at hjj
    have hq : ∀ j, 0 ≤ j → j < φ 2 → q j ≠ Np := fun j j0 j1 e => by
      obtain ⟨Wj, y1⟩ := (a7 j j0 j1).2.c
      rw [e, hNp] at y1
      cases y1
    by_cases hj2 : j = φ 2
    · rw [if_pos hj2] at hjj
      by_cases hj3 : j' = φ 2
      · omega
      · rw [if_neg hj3] at hjj
        exact absurd hjj.symm (hq j' j2 (by omega))
    · rw [if_neg hj2] at hjj
      by_cases hj3 : j' = φ 2
      · rw [if_pos hj3] at hjj
        exact absurd hjj (hq j j0 (by omega))
      · rw [if_neg hj3] at hjj
        exact a8 j j' j0 (by omega) j2 (by omega) hjj
  · rw [hn 6 (by omega) (by omega) (by omega)] at j1
    exact ⟨(a9 j j0 j1).1, (((a9 j j0 j1).2.kt kt0 (by decide)).kt x7 (by decide)).cg ⟨hn _ (by omega) (by omega) (by omega), hn _ (by omega) (by omega) (by omega), hn _ (by omega) (by omega) (by omega)⟩⟩
  · rw [hn 4 (by omega) (by omega) (by omega)] at j1
    refine ⟨(a10 j j0 j1).1, ?_⟩
    obtain ⟨⟨Z, z1, z2, z3, z4⟩, z5, z6, z7⟩ := ((a10 j j0 j1).2.kt kt0 (by decide)).kt x7 (by decide)
    exact ⟨⟨Z, z1, z2, z3, by rw [hs _ (by omega) (by omega)]; exact z4⟩, by omega, by omega, by rw [hs _ (by omega) (by omega)]; exact z7⟩
  · rw [hn 4 (by omega) (by omega) (by omega)]
    rw [hs _ (by omega) (by omega)] at hj
    exact a11 j j' j0 j1 j2 j3 hj
end LNP
