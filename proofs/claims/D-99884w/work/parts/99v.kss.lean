/-! PLAIN 65: the reader's steps, bundled -/
set_option maxRecDepth 100000
/-- the kind of a cell -/
def tg (c : fk_C) : Nat := match c with
  | Sum.inl (t, _, _) => 100 + t
  | Sum.inr (Sum.inl _) => 200
  | Sum.inr (Sum.inr (Sum.inl _)) => 300
  | Sum.inr (Sum.inr (Sum.inr (ci, _))) => ci
/-- cells of other kinds are kept -/
def Kt (K : Nat → Prop) (m m' : fk_M) : Prop := (∀ q w c, m q = some (w, c) → ¬ K (tg c) → m' q = some (w, c)) ∧ ∀ q w, StC m q w → StC m' q w
theorem Kt.rfl' (K : Nat → Prop) (m : fk_M) : Kt K m m := ⟨fun _ _ _ h _ => h, fun _ _ h => h⟩
theorem Kt.tr {K K' : Nat → Prop} {m m1 m2 : fk_M} (h : Kt K m m1) (h' : Kt K' m1 m2) : Kt (fun i => K i ∨ K' i) m m2 := ⟨fun q w c hq hn => h'.1 q w c (h.1 q w c hq (fun k => hn (Or.inl k))) (fun k => hn (Or.inr k)), fun q w hs => h'.2 q w (h.2 q w hs)⟩
theorem Kt.mono {K K' : Nat → Prop} {m m' : fk_M} (h : Kt K m m') (hi : ∀ i, K i → K' i) : Kt K' m m' := ⟨fun q w c hq hn => h.1 q w c hq (fun k => hn (hi _ k)), h.2⟩
theorem Kt.o {K : Nat → Prop} {m m' : fk_M} (h : Kt K m m') {q ci : Nat} {w : Bool} {V : Nat → fk_T} (hq : m q = some (w, oB ci V)) (hn : ¬ K ci) : m' q = some (w, oB ci V) := h.1 _ _ _ hq hn
theorem Kt.q {K : Nat → Prop} {m m' : fk_M} (h : Kt K m m') {q c : Nat} {w : Bool} {gl : Nat → Option Nat} (hq : m q = some (w, aQ c gl)) (hn : ¬ K 300) : m' q = some (w, aQ c gl) := h.1 _ _ _ hq hn
theorem Kt.n {K : Nat → Prop} {m m' : fk_M} (h : Kt K m m') {q t c : Nat} {w : Bool} {gv : Nat → Int32} (hq : m q = some (w, aN t c gv)) (hn : ¬ K (100 + t)) : m' q = some (w, aN t c gv) := h.1 _ _ _ hq hn
theorem Kt.up0 {m : fk_M} {z : Nat} (c : fk_C) (hz : m z = none) : Kt (fun _ => False) m (fk_up m z c) := by
  refine ⟨fun q w c' hq _ => (up_ne _ _ (fun e => ?_)).trans hq, fun q w hs => hs.cg2 (fun q' hq' => up_ne _ _ (fun e => ?_))⟩
  · rw [e, hz] at hq
    cases hq
  · rw [e, hz] at hq'
    rcases hq' with ⟨wr, V, h⟩ | ⟨w, L, gg, h⟩
    · cases h
    · cases h
theorem Kt.up1 {m : fk_M} {z : Nat} {w0 : Bool} {c0 : fk_C} (ct : Nat) (c : fk_C) (hz : m z = some (w0, c0)) (hct : tg c0 = ct) (h1 : ct ≠ 16) (h2 : ct ≠ 101) : Kt (fun i => i = ct) m (fk_up m z c) := by
  refine ⟨fun q w c' hq hn => (up_ne _ _ (fun e => ?_)).trans hq, fun q w hs => hs.cg2 (fun q' hq' => up_ne _ _ (fun e => ?_))⟩
  · rw [e, hz] at hq
    cases hq
    exact hn hct
  · rw [e, hz] at hq'
    rcases hq' with ⟨wr, V, h⟩ | ⟨w, L, gg, h⟩
    · cases h
      exact h1 hct.symm
    · cases h
      exact h2 hct.symm
abbrev kp3 (i : Nat) : Prop := i = 2 ∨ i = 3 ∨ i = 16
/-- cells from before the reader: hashes alone change -/
def Lo (r : Nat) (m m' : fk_M) : Prop := ∀ q, q < r → m' q = m q ∨ ∃ V V', m q = some (true, oB 16 V) ∧ m' q = some (true, oB 16 V')
theorem Lo.rfl' (r : Nat) (m : fk_M) : Lo r m m := fun _ _ => Or.inl rfl
theorem Lo.tr {r : Nat} {m m1 m2 : fk_M} (h : Lo r m m1) (h' : Lo r m1 m2) : Lo r m m2 := by
  intro q hq
  rcases h' q hq with k | ⟨V, V', k, k'⟩
  · rw [k]
    exact h q hq
  · rcases h q hq with j | ⟨W, W', j, j'⟩
    · exact Or.inr ⟨V, V', by rw [← j]; exact k, k'⟩
    · exact Or.inr ⟨W, V', j, k'⟩
/-- the reader's state, whole -/
def SS (g : Nat → Nat) (r tp : Nat) (T : Int → Int) (n : Int) (m : fk_M) (N : Nat) (t : Tkn) (e : Er) : Prop := Tx8 T n ∧ (∀ q, N ≤ q → m q = none) ∧ RS m r tp n t e ∧ isT T n t ∧ (tp < r ∧ r + 7 ≤ N) ∧ TA m tp T n ∧ ∀ i, i < 40 → StC m (g i) (kw i)
/-- what a step keeps -/
def Fs (r : Nat) (n : Int) (m : fk_M) (N kk : Nat) (t : Tkn) (m' : fk_M) (N' k' : Nat) (t' : Tkn) : Prop := ((N ≤ N' ∧ kk ≤ k' ∧ tkc n t' ≤ tkc n t) ∧ (N' + 5 * tkc n t' ≤ N + 5 * tkc n t ∧ k' + 36 * tkc n t' ≤ kk + 36 * tkc n t)) ∧ Kt kp3 m m' ∧ Lo r m m'
theorem Fs.rfl' (r : Nat) (n : Int) (m : fk_M) (N kk : Nat) (t : Tkn) : Fs r n m N kk t m N kk t := ⟨by omega, Kt.rfl' _ _, Lo.rfl' _ _⟩
theorem Fs.tr {r : Nat} {n : Int} {m m1 m2 : fk_M} {N N1 N2 kk k1 k2 : Nat} {t t1 t2 : Tkn} (h : Fs r n m N kk t m1 N1 k1 t1) (h' : Fs r n m1 N1 k1 t1 m2 N2 k2 t2) : Fs r n m N kk t m2 N2 k2 t2 := by
  obtain ⟨a1, a2, a3⟩ := h
  obtain ⟨b1, b2, b3⟩ := h'
  exact ⟨by omega, (a2.tr b2).mono (fun i hi => hi.elim id id), a3.tr b3⟩
/-- what an answer and a failure say of a step -/
def Lv {α : Type} (ρ : Except Er α) (v : α) (e e' : Er) : Prop := (e.1 ≠ 0 → e' = e) ∧ (e.1 = 0 → (ρ = .ok v ∧ e'.1 = 0) ∨ (ρ = .error e' ∧ 1 ≤ e'.1))
theorem Lv.ok {α : Type} (v : α) (e : Er) : Lv (.ok v) v e e := ⟨fun _ => rfl, fun h => Or.inl ⟨rfl, h⟩⟩
theorem er1_l {e : Er} (h : e.1 = 0) (k p : Int) : er1 e k p = (k, p) := by
  unfold er1
  rw [if_pos h]
theorem er1_d {e : Er} (h : e.1 ≠ 0) (k p : Int) : er1 e k p = e := by
  unfold er1
  rw [if_neg h]
theorem Lv.err {α : Type} (v : α) (e : Er) {k p : Int} (hk : 1 ≤ k) : Lv (.error (k, p)) v e (er1 e k p) := ⟨fun h => er1_d h k p, fun h => Or.inr ⟨by rw [er1_l h], by rw [er1_l h]; exact hk⟩⟩
theorem Lv.cg {α : Type} {ρ ρ' : Except Er α} {v v' : α} {e e' : Er} (h : Lv ρ v e e') (hc : e.1 = 0 → ρ' = ρ ∧ v' = v) : Lv ρ' v' e e' := ⟨h.1, fun h0 => by rw [(hc h0).1, (hc h0).2]; exact h.2 h0⟩
theorem Lv.ex {α : Type} {ρ : Except Er α} {v v' : α} {e e' : Er} (h : Lv ρ v e e') (hc : e'.1 = 0 → v' = v) : Lv ρ v' e e' := ⟨h.1, fun h0 => (h.2 h0).imp (fun k => ⟨by rw [hc k.2]; exact k.1, k.2⟩) id⟩
theorem Lv.bind {α β : Type} {ρ : Except Er α} {v : α} {F : α → Except Er β} {u : β} {e e1 e2 : Er} (h : Lv ρ v e e1) (h' : Lv (F v) u e1 e2) : Lv (ρ.bind F) u e e2 := by
  refine ⟨fun hd => ?_, fun h0 => ?_⟩
  · have := h.1 hd
    subst this
    exact h'.1 hd
  · rcases h.2 h0 with ⟨a, b⟩ | ⟨a, b⟩
    · rw [a]
      exact h'.2 b
    · have := h'.1 (by omega)
      rw [a, this]
      exact Or.inr ⟨rfl, b⟩
theorem Lv.live {α : Type} {ρ : Except Er α} {v : α} {e e' : Er} (h : Lv ρ v e e') (h0 : e'.1 = 0) : e.1 = 0 ∧ ρ = .ok v := by
  by_cases he : e.1 = 0
  · rcases h.2 he with ⟨a, b⟩ | ⟨a, b⟩
    · exact ⟨he, a⟩
    · omega
  · exact absurd ((h.1 he) ▸ h0) he
/-- a check: it fails with a kind -/
theorem Lv.ite {α : Type} {c : Prop} [Decidable c] {ρ : Except Er α} {v : α} {e e1 e2 : Er} {k p : Int} (hk : 1 ≤ k) (h1 : e1 = if e.1 = 0 ∧ ¬ c then er1 e k p else e) (h : Lv ρ v e1 e2) : Lv (if c then ρ else .error (k, p)) v e e2 := by
  refine ⟨fun hd => ?_, fun h0 => ?_⟩
  · rw [if_neg (fun hh => hd hh.1)] at h1
    subst h1
    exact h.1 hd
  · by_cases hc : c
    · rw [if_neg (fun hh => hh.2 hc)] at h1
      subst h1
      rw [if_pos hc]
      exact h.2 h0
    · rw [if_pos ⟨h0, hc⟩, er1_l h0] at h1
      subst h1
      have := h.1 (show k ≠ 0 by omega)
      rw [if_neg hc, this]
      exact Or.inr ⟨rfl, hk⟩
section SSS
variable {g : Nat → Nat} {r tp : Nat} {T : Int → Int} {n : Int} {m : fk_M} {N : Nat} {t : Tkn} {e : Er}
theorem SS.fx (h : SS g r tp T n m N t e) {kk : Nat} {m' : fk_M} {N' k' : Nat} {t' : Tkn} {e' : Er} (hF : Fx r n m N kk t m' N' k' t') (hR : RS m' r tp n t' e') (ht' : isT T n t') : SS g r tp T n m' N' t' e' ∧ Fs r n m N kk t m' N' k' t' := by
  obtain ⟨hT, hfr, hRS, ht, hr, hA, hc⟩ := h
  have hA' := hA.fx (t := t) (t' := t) hfr hRS (by omega) hF
  obtain ⟨z, ⟨V, v1, -⟩, ⟨W, w1, -⟩, -⟩ := hRS
  obtain ⟨f1, f2, f3, f4, f5⟩ := hF
  refine ⟨⟨hT, f4, hR, ht', by omega, hA', fun i hi => f5 _ _ (hc i hi)⟩, by omega, ⟨fun q w c hq hn => ?_, f5⟩, fun q hq => f3 q (by omega) (by omega) (by omega)⟩
  have hqN : q < N := by
    by_cases hcc : N ≤ q
    · rw [hfr q hcc] at hq; cases hq
    · omega
  rcases f3 q hqN (fun e' => by rw [e', v1] at hq; cases hq; exact hn (Or.inl rfl)) (fun e' => by rw [e', w1] at hq; cases hq; exact hn (Or.inr (Or.inl rfl))) with h | ⟨V, V', h, -⟩
  · exact h.trans hq
  · rw [h] at hq
    cases hq
    exact absurd (Or.inr (Or.inr rfl)) hn
theorem SS.re (h : SS g r tp T n m N t e) (kk : Nat) {m' : fk_M} {e' : Er} (hk : ∀ q, q ≠ r → m' q = m q) (hR : RS m' r tp n t e') : SS g r tp T n m' N t e' ∧ Fs r n m N kk t m' N kk t := by
  obtain ⟨z, hz, -⟩ := id h.2.2.1
  exact h.fx (Fx.r h.2.1 hz hk) hR h.2.2.2.1
theorem SS.hz (h : SS g r tp T n m N t e) (kk : Nat) {m' : fk_M} (hz : Hz m m') : SS g r tp T n m' N t e ∧ Fs r n m N kk t m' N kk t := by
  refine h.fx (kk := kk) ⟨⟨Nat.le_refl _, Nat.le_refl _⟩, ⟨Nat.le_refl _, Nat.le_refl _⟩, fun q _ _ _ => hz.1 q, fun q hq => ?_, hz.2⟩ (h.2.2.1.hz hz) h.2.2.2.1
  rcases hz.1 q with k | ⟨V, V', k, -⟩
  · rw [k]
    exact h.2.1 q hq
  · rw [h.2.1 q hq] at k
    cases k
theorem SS.ok (h : SS g r tp T n m N t e) : Tok8 n t := h.2.2.2.1.ok h.1
theorem SS.o (h : SS g r tp T n m N t e) : isO m (some r) 2 = some () := by
  obtain ⟨z, hR, -⟩ := h.2.2.1
  exact hR.o
theorem SS.ov (h : SS g r tp T n m N t e) : f_X3_isOver (some r) m = some (if e.1 = 0 then 0 else 1) := by
  obtain ⟨z, hR, -⟩ := h.2.2.1
  exact hR.ov
theorem SS.rg (h : SS g r tp T n m N t e) : 0 ≤ e.1 ∧ e.1 ≤ 6 := by
  obtain ⟨z, hR, -⟩ := h.2.2.1
  exact hR.rg
theorem SS.pi (h : SS g r tp T n m N t e) : gR m (some r) 2 1 = some (some (r + 2)) := by
  obtain ⟨z, hR, -⟩ := h.2.2.1
  exact hR.tk.2.2
theorem SS.tk (h : SS g r tp T n m N t e) : ∃ z, gR m (some r) 2 2 = some (some z) ∧ TkC m z t := by
  obtain ⟨z, hR, -, hK⟩ := h.2.2.1
  exact ⟨z, hR.tk.1, hK⟩
theorem SS.c0 (h : SS g r tp T n m N t e) : StC m (g 0) [] := h.2.2.2.2.2.2 0 (by omega)
theorem o_wrong (h : SS g r tp T n m N t e) (kk : Nat) {k : Int} (hk : 1 ≤ k ∧ k ≤ 6) : ∃ m', f_X3_wrong (some r) (ii k) m = some m' ∧ SS g r tp T n m' N t (er1 e k t.2.1) ∧ Fs r n m N kk t m' N kk t := by
  obtain ⟨m', g1, g2, g3⟩ := k_wrong h.2.2.1 hk
  exact ⟨m', g1, h.re kk g3 g2⟩
theorem o_on (h : SS g r tp T n m N t e) (kk : Nat) : ∃ N' k' m' t', f_X3_on g (some r) N kk m = some (N', k', m') ∧ SS g r tp T n m' N' t' e ∧ Fs r n m N kk t m' N' k' t' ∧ (e.1 = 0 → t' = aOn T n t) := by
  obtain ⟨N', k', m', g1, g2, g3⟩ := k_on h.1 g h.2.1 h.2.2.1 h.2.2.2.1 h.2.2.2.2.2.1 h.c0 kk
  obtain ⟨a, b⟩ := h.fx g3 g2 (h.2.2.2.1.st h.1 e)
  exact ⟨N', k', m', _, g1, a, b, fun h0 => if_pos h0⟩
theorem o_needs (h : SS g r tp T n m N t e) (kk : Nat) {i : Nat} (hi : i < 40) : ∃ N' k' m' t' e', f_X3_needs g (some r) (some (g i)) N kk m = some (N', k', m') ∧ SS g r tp T n m' N' t' e' ∧ Fs r n m N kk t m' N' k' t' ∧ Lv (aMust T n (kw i) t) t' e e' := by
  obtain ⟨N', k', m', g1, g2, g3⟩ := k_needs h.1 g h.2.1 h.2.2.1 h.2.2.2.1 (by have := h.2.2.2.2.1; omega) h.2.2.2.2.2.1 h.c0 (h.2.2.2.2.2.2 i hi) (kw_lt hi) kk (e' := erW (kw i) t e) rfl
  obtain ⟨a, b⟩ := h.fx g3 g2 (h.2.2.2.1.st h.1 _)
  refine ⟨N', k', m', _, _, g1, a, b, ?_⟩
  unfold aMust erW
  by_cases hw : isW t (kw i)
  · rw [if_pos hw, if_pos hw]
    exact (Lv.ok _ e).cg (fun h0 => ⟨by rw [if_pos h0], rfl⟩)
  · rw [if_neg hw, if_neg hw]
    exact Lv.err _ e (by omega)
theorem erN_lv (lo hi : Int) (t : Tkn) (e : Er) : Lv (aNum lo hi t) (t.2.2.2.1, t) e (erN lo hi t e) := by
  unfold aNum erN
  by_cases h3 : t.1 = 3
  · rw [if_pos h3, if_pos h3]
    by_cases hc : lo ≤ t.2.2.2.1 ∧ t.2.2.2.1 ≤ hi
    · rw [if_pos hc, if_pos hc]
      exact Lv.ok _ e
    · rw [if_neg hc, if_neg hc]
      exact Lv.err _ e (by omega)
  · rw [if_neg h3, if_neg h3]
    exact Lv.err _ e (by omega)
theorem o_wholeAt (h : SS g r tp T n m N t e) (kk : Nat) {lo hi : Int} (hl : rg lo) (hh : rg hi) : ∃ m' e', f_X3_wholeAt (some r) (ii lo) (ii hi) m = some (ii t.2.2.2.1, m') ∧ SS g r tp T n m' N t e' ∧ Fs r n m N kk t m' N kk t ∧ Lv (aNum lo hi t) (t.2.2.2.1, t) e e' := by
  obtain ⟨m', g1, g2, g3⟩ := k_wholeAt h.1 h.2.2.1 h.2.2.2.1 hl hh
  obtain ⟨a, b⟩ := h.re kk g3 g2
  exact ⟨m', _, g1, a, b, erN_lv lo hi t e⟩
theorem o_whole (h : SS g r tp T n m N t e) (kk : Nat) {lo hi : Int} (hl : rg lo) (hh : rg hi) : ∃ N' k' m' t' e', f_X3_whole g (some r) (ii lo) (ii hi) N kk m = some (ii t.2.2.2.1, N', k', m') ∧ SS g r tp T n m' N' t' e' ∧ Fs r n m N kk t m' N' k' t' ∧ Lv (aWh T n lo hi t) (t.2.2.2.1, t') e e' := by
  obtain ⟨N', k', m', g1, g2, g3⟩ := r_whole h.1 g h.2.1 h.2.2.1 h.2.2.2.1 (by have := h.2.2.2.2.1; omega) h.2.2.2.2.2.1 h.c0 hl hh kk
  obtain ⟨a, b⟩ := h.fx g3 g2 (h.2.2.2.1.st h.1 _)
  refine ⟨N', k', m', _, _, g1, a, b, ?_⟩
  unfold aWh
  refine (erN_lv lo hi t e).bind ((Lv.ok _ _).cg (fun h0 => ⟨by unfold stp; rw [if_pos h0], rfl⟩))
theorem o_part (h : SS g r tp T n m N t e) (kk : Nat) {lo hi : Int} {i : Nat} (hi' : i < 40) (hl : rg lo) (hh : rg hi) : ∃ N' k' m' t' e' v, f_X3_part g (some r) (some (g i)) (ii lo) (ii hi) N kk m = some (ii v, N', k', m') ∧ SS g r tp T n m' N' t' e' ∧ Fs r n m N kk t m' N' k' t' ∧ Lv (aPt T n (kw i) lo hi t) (v, t') e e' := by
  obtain ⟨N1, k1, m1, t1, e1, a1, a2, a3, a4⟩ := o_needs h kk hi'
  obtain ⟨N2, k2, m2, t2, e2, b1, b2, b3, b4⟩ := o_whole a2 k1 hl hh
  refine ⟨N2, k2, m2, t2, e2, t1.2.2.2.1, ?_, b2, a3.tr b3, a4.bind b4⟩
  unfold f_X3_part
  rw [h.o, Option.bind_some, a1, bn3_some, a2.o, Option.bind_some, b1, bn4_some]
theorem o_isName (h : SS g r tp T n m N t e) (kk : Nat) : ∃ z m', gR m (some r) 2 2 = some (some z) ∧ isO m (some z) 5 = some () ∧ f_X6_isName g (some z) m = some (if isNm t then 1 else 0, m') ∧ SS g r tp T n m' N t e ∧ Fs r n m N kk t m' N kk t := by
  obtain ⟨z, hz, hK⟩ := h.tk
  obtain ⟨m1, a1, a2, a3⟩ := k_isName g hK h.ok h.2.2.2.2.2.2
  exact ⟨z, m1, hz, hK.at.1, a1, h.hz kk ⟨a2, a3⟩⟩
end SSS
