/-! PLAIN 66: the cells of a pier that is being read -/
set_option maxRecDepth 100000
def lv_ (V : Nat → fk_T) (c : Int) (e : Option Nat) (s : Int) : Nat → fk_T := fun j => if j = 0 then tI (ii c) else if j = 1 then tR e else if j = 2 then tI (ii s) else V j
theorem lv_0 (V : Nat → fk_T) (c : Int) (e : Option Nat) (s v : Int) : fk_set (lv_ V c e s) 0 (tI (ii v)) = lv_ V v e s := by
  funext j
  unfold fk_set lv_
  by_cases h : j = 0
  · simp only [if_pos h]
  · simp only [if_neg h]
theorem lv_1 (V : Nat → fk_T) (c : Int) (e : Option Nat) (s : Int) (v : Option Nat) : fk_set (lv_ V c e s) 1 (tR v) = lv_ V c v s := by
  funext j
  unfold fk_set lv_
  by_cases h : j = 1
  · subst h
    rfl
  · simp only [if_neg h]
theorem lv_2 (V : Nat → fk_T) (c : Int) (e : Option Nat) (s v : Int) : fk_set (lv_ V c e s) 2 (tI (ii v)) = lv_ V c e v := by
  funext j
  unfold fk_set lv_
  by_cases h : j = 2
  · subst h
    rfl
  · simp only [if_neg h]
theorem lv_s {V : Nat → fk_T} {c : Int} {e : Option Nat} {s : Int} (h0 : V 0 = tI (ii c)) (h1 : V 1 = tR e) (h2 : V 2 = tI (ii s)) : lv_ V c e s = V := by
  funext j
  unfold lv_
  by_cases j0 : j = 0
  · rw [if_pos j0, j0, h0]
  · rw [if_neg j0]
    by_cases j1 : j = 1
    · rw [if_pos j1, j1, h1]
    · rw [if_neg j1]
      by_cases j2 : j = 2
      · rw [if_pos j2, j2, h2]
      · rw [if_neg j2]
theorem up_self {m : fk_M} {z : Nat} {c : fk_C} (h : m z = some (true, c)) : fk_up m z c = m := by
  funext j
  by_cases hj : j = z
  · rw [hj, up_eq, h]
  · rw [up_ne _ _ hj]
theorem LHm (V : Nat → fk_T) (la : Nat) : LH (fun c e s b => fk_up b la (oB 14 (lv_ V c e s))) la (fun q => q ≠ la) := by
  refine ⟨fun c e s b => ⟨_, up_eq .., rfl, rfl, rfl⟩, fun c e s b v => ?_, fun c e s b v => ?_, fun c e s b v => ?_, fun c e s b q h => up_ne _ _ h, fun c e s b q z h => up_cm _ _ _ (fun e => h e.symm)⟩
  · show pV (fk_up b la (oB 14 (lv_ V c e s))) (some la) 14 0 (tI (ii v)) = some (fk_up b la (oB 14 (lv_ V v e s)))
    rw [pV_of 0 _ (up_eq ..), up_up, lv_0]
  · show pV (fk_up b la (oB 14 (lv_ V c e s))) (some la) 14 1 (tR v) = some (fk_up b la (oB 14 (lv_ V c v s)))
    rw [pV_of 1 _ (up_eq ..), up_up, lv_1]
  · show pV (fk_up b la (oB 14 (lv_ V c e s))) (some la) 14 2 (tI (ii v)) = some (fk_up b la (oB 14 (lv_ V c e v)))
    rw [pV_of 2 _ (up_eq ..), up_up, lv_2]
/-- a list: empty, or with an array of its own -/
def Lq (m : fk_M) (e0 r la : Nat) (sz : Int) (gl : Nat → Option Nat) (ea : Nat) : Prop := (∃ V c, m la = some (true, oB 14 V) ∧ V 0 = tI (ii c) ∧ V 1 = tR (some ea) ∧ V 2 = tI (ii sz)) ∧ ((sz = 0 ∧ ea = e0 ∧ ∃ w, m ea = some (w, aQ 0 gl)) ∨ (1 ≤ sz ∧ sz ≤ 10 ∧ r ≤ ea ∧ m ea = some (true, aQ 10 gl)))
theorem Lq.cg {m m' : fk_M} {e0 r la ea : Nat} {sz : Int} {gl : Nat → Option Nat} (h : Lq m e0 r la sz gl ea) (h1 : m' la = m la) (h2 : m' ea = m ea) : Lq m' e0 r la sz gl ea := by
  obtain ⟨⟨V, c, v1, v2⟩, hd⟩ := h
  refine ⟨⟨V, c, h1.trans v1, v2⟩, ?_⟩
  rcases hd with ⟨s1, s2, w, s3⟩ | ⟨s1, s2, s3, s4⟩
  · exact Or.inl ⟨s1, s2, w, h2.trans s3⟩
  · exact Or.inr ⟨s1, s2, s3, h2.trans s4⟩
theorem Lq.kt {m m' : fk_M} {e0 r la ea : Nat} {sz : Int} {gl : Nat → Option Nat} (h : Lq m e0 r la sz gl ea) {K : Nat → Prop} (k : Kt K m m') (h1 : ¬ K 14) (h2 : ¬ K 300) : Lq m' e0 r la sz gl ea := by
  obtain ⟨⟨V, c, v1, v2⟩, hd⟩ := id h
  refine h.cg ((k.o v1 h1).trans v1.symm) ?_
  rcases hd with ⟨s1, s2, w, s3⟩ | ⟨s1, s2, s3, s4⟩
  · exact (k.q s3 h2).trans s3.symm
  · exact (k.q s4 h2).trans s4.symm
theorem Lq.sz {m : fk_M} {e0 r la ea : Nat} {sz : Int} {gl : Nat → Option Nat} (h : Lq m e0 r la sz gl ea) : isO m (some la) 14 = some () ∧ f_J2_size (some la) m = some (ii sz) := by
  obtain ⟨⟨V, c, v1, v2, v3, v4⟩, -⟩ := h
  exact ⟨isO_of v1, list_sz v1 v4⟩
theorem Lq.get {m : fk_M} {e0 r la ea : Nat} {sz i : Int} {gl : Nat → Option Nat} (h : Lq m e0 r la sz gl ea) (i0 : 0 ≤ i) (i1 : i < sz) : f_J2_get (some la) (ii i) m = some (gl i.toNat) := by
  obtain ⟨⟨V, c, v1, v2, v3, v4⟩, hd⟩ := h
  rcases hd with ⟨s1, -⟩ | ⟨s1, s2, s3, s4⟩
  · omega
  · exact list_get v1 v3 v4 s4 i0 i1 (by omega) (by omega)
theorem Lq.add {g : Nat → Nat} {m : fk_M} {r la ea N k s ci : Nat} {sz : Int} {gl : Nat → Option Nat} {w : Bool} {V : Nat → fk_T} (h : Lq m (g 40) r la sz gl ea) (hg : g 40 < r) (hrN : r ≤ N) (hfr : ∀ q, N ≤ q → m q = none) (hs : m s = some (w, oB ci V)) (hci : ci = 6 ∨ ci = 11 ∨ ci = 12) (h0 : 0 ≤ sz) (hsz : sz < 10) : ∃ ea' gl' N' k' m', f_J2_add g (some la) (some s) N k m = some (1, N', k', m') ∧ Lq m' (g 40) r la (sz + 1) gl' ea' ∧ (∀ i : Nat, (i : Int) < sz → gl' i = gl i) ∧ gl' sz.toNat = some s ∧ (∀ q, q ≠ la → q ≠ ea' → m' q = m q) ∧ ((N' = N ∧ ea' = ea ∧ sz ≠ 0) ∨ (N' = N + 1 ∧ ea' = N)) ∧ (k ≤ k' ∧ k' ≤ k + 11) ∧ (∀ q, N' ≤ q → m' q = none) ∧ la < N := by
  obtain ⟨⟨V0, c, v1, v2, v3, v4⟩, hd⟩ := h
  have hlN : la < N := by
    by_cases hc : N ≤ la
    · rw [hfr la hc] at v1; cases v1
    · omega
  have hsl : s ≠ la := fun e => by
    rw [e, v1] at hs
    cases hs
    omega
  have hsN : s ≠ N := fun e => by
    rw [e, hfr N (Nat.le_refl N)] at hs
    cases hs
  have hci' : ci = 6 ∨ ci = 11 ∨ ci = 12 ∨ ci = 13 := by omega
  have e0 : fk_up m la (oB 14 (lv_ V0 c (some ea) sz)) = m := by rw [lv_s v2 v3 v4, up_self v1]
  rcases hd with ⟨rfl, rfl, w0, hb⟩ | ⟨s1, s2, s3, hb⟩
  · have hgl : g 40 ≠ la := fun e => by
      rw [e, v1] at hb
      cases hb
    have k1 : f_J2_add g (some la) (some s) N k (fk_up m la (oB 14 (lv_ V0 c (some (g 40)) 0))) = some (1, N + 1, k + 10, fk_up (fk_up m N (aQ 10 (va_up (fun _ => none) 0 (some s)))) la (oB 14 (lv_ V0 (c + 1) (some N) 1))) := (LHm V0 la).add0 (c := c) (k := k) g hb hgl (show N ≠ la by omega) hs hsl hsN hci'
    rw [e0] at k1
    refine ⟨N, _, N + 1, k + 10, _, k1, ⟨⟨_, c + 1, up_eq .., rfl, rfl, rfl⟩, Or.inr ⟨by omega, by omega, hrN, (up_ne _ _ (by omega)).trans (up_eq ..)⟩⟩, fun i hi => by omega, ?_, fun q q1 q2 => (up_ne _ _ q1).trans (up_ne _ _ q2), Or.inr ⟨rfl, rfl⟩, by omega, fun q hq => (up_ne _ _ (by omega)).trans ((up_ne _ _ (by omega)).trans (hfr q (by omega))), hlN⟩
    show va_up (fun _ => none) 0 (some s) 0 = some s
    unfold va_up
    rw [if_pos rfl]
  · obtain ⟨d, rfl⟩ : ∃ d : Nat, sz = (d : Int) := ⟨sz.toNat, by omega⟩
    have heN : ea < N := by
      by_cases hc : N ≤ ea
      · rw [hfr ea hc] at hb; cases hb
      · omega
    have hel : ea ≠ la := fun e => by
      rw [e, v1] at hb
      cases hb
    have k1 : f_J2_add g (some la) (some s) N k (fk_up m la (oB 14 (lv_ V0 c (some ea) (d : Int)))) = some (1, N, k, fk_up (fk_up m ea (aQ 10 (va_up gl d (some s)))) la (oB 14 (lv_ V0 (c + 1) (some ea) ((d : Int) + 1)))) := (LHm V0 la).add (c := c) (k := k) g hb hel (by omega) (by omega) hs hsl hci'
    rw [e0] at k1
    refine ⟨ea, _, N, k, _, k1, ⟨⟨_, c + 1, up_eq .., rfl, rfl, rfl⟩, Or.inr ⟨by omega, by omega, s3, (up_ne _ _ hel).trans (up_eq ..)⟩⟩, fun i hi => ?_, ?_, fun q q1 q2 => (up_ne _ _ q1).trans (up_ne _ _ q2), Or.inl ⟨rfl, rfl, by omega⟩, by omega, fun q hq => (up_ne _ _ (by omega)).trans ((up_ne _ _ (by omega)).trans (hfr q (by omega))), hlN⟩
    · unfold va_up
      rw [if_neg (by omega)]
    · show va_up gl d (some s) d = some s
      unfold va_up
      rw [if_pos rfl]
/-- the Pier's own cell -/
def Pq (m : fk_M) (r : Nat) (φ : Int → Int) : Prop := ∃ V, m (r + 2) = some (true, oB 4 V) ∧ V 0 = tI (ii (if φ 7 = 0 then -1 else φ 0)) ∧ V 1 = tI (ii (φ 1)) ∧ V 2 = tI (ii (φ 3)) ∧ V 3 = tI (ii (φ 5)) ∧ V 4 = tR (some (r + 3)) ∧ V 5 = tR (some (r + 4)) ∧ V 6 = tR (some (r + 5)) ∧ V 7 = tR (some (r + 6))
/-- whose steps are unsure -/
def Un (m : fk_M) (r : Nat) (φ : Int → Int) : Prop := ∃ gv, m (r + 6) = some (true, aN 0 4 gv) ∧ ∀ k : Int, 0 ≤ k → k < φ 5 → gv k.toNat = ii (φ (18 + 2 * k))
/-- a pair, its name, its law -/
def Pp (m : fk_M) (r : Nat) (φ ψ : Int → Int) (p : Int) (qp lp : Nat) : Prop := (r ≤ qp ∧ ∃ W s wd, m qp = some (true, oB 6 W) ∧ W 0 = tR (some s) ∧ StC m s wd ∧ (Lt wd ∧ 1 ≤ wd.length ∧ φ (50 + p) = (wd.length : Int) ∧ ∀ i : Nat, i < wd.length → φ (55 + 8 * p + (i : Int)) = wd.getD i 0) ∧ W 1 = tR (some lp) ∧ W 2 = tI (ii (ψ p)) ∧ W 3 = tI (ii (ψ (5 + p))) ∧ W 4 = tI (ii (φ (13 + p))) ∧ W 6 = tI (if isU φ p then 1 else 0) ∧ ∀ k : Int, 0 ≤ k → k < φ 5 → φ (18 + 2 * k) = p → W 5 = tI (ii (φ (18 + 2 * k + 1)))) ∧ r ≤ lp ∧ ∃ V, m lp = some (true, oB (7 + (φ (8 + p)).toNat) V) ∧ V 0 = tI (ii (φ (8 + p)))
def Hd (m : fk_M) (r : Nat) (φ : Int → Int) (k : Int) (hk : Nat) : Prop := r ≤ hk ∧ ∃ V, m hk = some (true, oB 12 V) ∧ V 0 = tI (ii (φ (26 + 3 * k))) ∧ V 1 = tI (ii (φ (26 + 3 * k + 1))) ∧ V 2 = tI (ii (φ (26 + 3 * k + 2)))
def Db (m : fk_M) (φ ψ : Int → Int) (dk : Nat) (u v : Int) : Prop := (∃ V, m dk = some (true, oB 11 V) ∧ V 0 = tI (ii u) ∧ V 1 = tI (ii v) ∧ V 2 = tI (ii (ψ (10 + 5 * u + v)))) ∧ (0 ≤ u ∧ u < φ 2) ∧ (0 ≤ v ∧ v < φ 2) ∧ 0 < ψ (10 + 5 * u + v)
/-- all that is told, in cells -/
def PR (g : Nat → Nat) (m : fk_M) (r : Nat) (φ ψ : Int → Int) : Prop := ∃ (q lw hk dk : Int → Nat) (du dv : Int → Int) (e4 e5 e6 : Nat) (g4 g5 g6 : Nat → Option Nat), g 40 < r ∧ Pq m r φ ∧ (Lq m (g 40) r (r + 3) (φ 2) g4 e4 ∧ Lq m (g 40) r (r + 4) (φ 4) g5 e5 ∧ Lq m (g 40) r (r + 5) (φ 6) g6 e6) ∧ ((φ 2 ≠ 0 → φ 4 ≠ 0 → e4 ≠ e5) ∧ (φ 2 ≠ 0 → φ 6 ≠ 0 → e4 ≠ e6) ∧ (φ 4 ≠ 0 → φ 6 ≠ 0 → e5 ≠ e6)) ∧ Un m r φ ∧ (∀ p, 0 ≤ p → p < φ 2 → g4 p.toNat = some (q p) ∧ Pp m r φ ψ p (q p) (lw p)) ∧ (∀ p p', 0 ≤ p → p < φ 2 → 0 ≤ p' → p' < φ 2 → q p = q p' → p = p') ∧ (∀ k, 0 ≤ k → k < φ 6 → g6 k.toNat = some (hk k) ∧ Hd m r φ k (hk k)) ∧ (∀ k, 0 ≤ k → k < φ 4 → g5 k.toNat = some (dk k) ∧ Db m φ ψ (dk k) (du k) (dv k)) ∧ (∀ p p', 0 ≤ p → p < 5 → 0 ≤ p' → p' < 5 → 0 < ψ (10 + 5 * p + p') → ∃ k, 0 ≤ k ∧ k < φ 4 ∧ du k = p ∧ dv k = p')
section PCS
variable {m m' : fk_M} {r : Nat} {φ φ' ψ ψ' : Int → Int} {K : Nat → Prop}
theorem Pq.kt (h : Pq m r φ) (k : Kt K m m') (h4 : ¬ K 4) : Pq m' r φ := by
  obtain ⟨V, v1, v2⟩ := h
  exact ⟨V, k.o v1 h4, v2⟩
theorem Un.kt (h : Un m r φ) (k : Kt K m m') (h4 : ¬ K 100) : Un m' r φ := by
  obtain ⟨V, v1, v2⟩ := h
  exact ⟨V, k.n v1 h4, v2⟩
theorem Hd.kt {j : Int} {hk : Nat} (h : Hd m r φ j hk) (k : Kt K m m') (h4 : ¬ K 12) : Hd m' r φ j hk := by
  obtain ⟨h0, V, v1, v2⟩ := h
  exact ⟨h0, V, k.o v1 h4, v2⟩
theorem Db.kt {dk : Nat} {u v : Int} (h : Db m φ ψ dk u v) (k : Kt K m m') (h4 : ¬ K 11) : Db m' φ ψ dk u v := by
  obtain ⟨⟨V, v1, v2⟩, h0⟩ := h
  exact ⟨⟨V, k.o v1 h4, v2⟩, h0⟩
theorem Pp.c {p : Int} {qp lp : Nat} (h : Pp m r φ ψ p qp lp) : ∃ W, m qp = some (true, oB 6 W) := by
  obtain ⟨⟨-, W, s, wd, w1, -⟩, -⟩ := h
  exact ⟨W, w1⟩
theorem Pp.kt {p : Int} {qp lp : Nat} (h : Pp m r φ ψ p qp lp) (k : Kt K m m') (hq : m' qp = m qp) (hl : 0 ≤ φ (8 + p) ∧ φ (8 + p) ≤ 3) (h7 : ∀ i, 7 ≤ i → i ≤ 10 → ¬ K i) : Pp m' r φ ψ p qp lp := by
  obtain ⟨⟨h0, W, s, wd, w1, w2, w3, w4⟩, h1, V, v1, v2⟩ := h
  exact ⟨⟨h0, W, s, wd, hq.trans w1, w2, k.2 _ _ w3, w4⟩, h1, V, k.o v1 (h7 _ (by omega) (by omega)), v2⟩
theorem isU_cg {p : Int} (h5 : φ' 5 = φ 5) (hU : ∀ k : Int, 0 ≤ k → k < φ 5 → φ' (18 + 2 * k) = φ (18 + 2 * k)) : isU φ' p ↔ isU φ p := by
  constructor
  · rintro ⟨k, k1, k2⟩
    exact ⟨k, by omega, by rw [← hU k (by omega) (by omega)]; exact k2⟩
  · rintro ⟨k, k1, k2⟩
    exact ⟨k, by omega, by rw [hU k (by omega) (by omega)]; exact k2⟩
theorem Pp.cg {p : Int} {qp lp : Nat} (h : Pp m r φ ψ p qp lp) (hA : ∀ t, (t = 13 + p ∨ t = 8 + p ∨ t = 50 + p ∨ (55 + 8 * p ≤ t ∧ t < 63 + 8 * p)) → φ' t = φ t) (h5 : φ' 5 = φ 5) (hU : ∀ k : Int, 0 ≤ k → k < φ 5 → φ' (18 + 2 * k) = φ (18 + 2 * k) ∧ φ' (18 + 2 * k + 1) = φ (18 + 2 * k + 1)) (hψ : ψ' p = ψ p ∧ ψ' (5 + p) = ψ (5 + p)) : Pp m r φ' ψ' p qp lp := by
  obtain ⟨⟨h0, W, s, wd, w1, w2, w3, ⟨w4, w5, w6, w7⟩, w8, w9, w10, w11, w12, w13⟩, h1, V, v1, v2⟩ := h
  have h8 := w4.1
  refine ⟨⟨h0, W, s, wd, w1, w2, w3, ⟨w4, w5, by rw [hA _ (Or.inr (Or.inr (Or.inl rfl)))]; exact w6, fun i hi => by rw [hA _ (Or.inr (Or.inr (Or.inr (by omega))))]; exact w7 i hi⟩, w8, by rw [hψ.1]; exact w9, by rw [hψ.2]; exact w10, by rw [hA _ (Or.inl rfl)]; exact w11, ?_, fun k k0 k1 k2 => ?_⟩, h1, V, by rw [hA _ (Or.inr (Or.inl rfl))]; exact v1, by rw [hA _ (Or.inr (Or.inl rfl))]; exact v2⟩
  · rw [w12]
    have := isU_cg (p := p) h5 (fun k k0 k1 => (hU k k0 k1).1)
    by_cases hu : isU φ p
    · rw [if_pos hu, if_pos (this.mpr hu)]
    · rw [if_neg hu, if_neg (fun hh => hu (this.mp hh))]
  · rw [h5] at k1
    rw [(hU k k0 k1).2]
    exact w13 k k0 k1 (by rw [← (hU k k0 k1).1]; exact k2)
theorem Hd.cg {j : Int} {hk : Nat} (h : Hd m r φ j hk) (hA : φ' (26 + 3 * j) = φ (26 + 3 * j) ∧ φ' (26 + 3 * j + 1) = φ (26 + 3 * j + 1) ∧ φ' (26 + 3 * j + 2) = φ (26 + 3 * j + 2)) : Hd m r φ' j hk := by
  obtain ⟨h0, V, v1, v2, v3, v4⟩ := h
  exact ⟨h0, V, v1, by rw [hA.1]; exact v2, by rw [hA.2.1]; exact v3, by rw [hA.2.2]; exact v4⟩
theorem Un.cg (h : Un m r φ) (h5 : φ' 5 = φ 5) (hU : ∀ k : Int, 0 ≤ k → k < φ 5 → φ' (18 + 2 * k) = φ (18 + 2 * k)) : Un m r φ' := by
  obtain ⟨gv, v1, v2⟩ := h
  exact ⟨gv, v1, fun k k0 k1 => by rw [hU k k0 (by omega)]; exact v2 k k0 (by omega)⟩
theorem PR.kt {g : Nat → Nat} (h : PR g m r φ ψ) (hF : FI φ ψ) (k : Kt K m m') (h4 : ¬ K 4) (h6 : ¬ K 6) (h7 : ∀ i, 7 ≤ i → i ≤ 10 → ¬ K i) (h11 : ¬ K 11) (h12 : ¬ K 12) (h14 : ¬ K 14) (h3 : ¬ K 300) (h1 : ¬ K 100) : PR g m' r φ ψ := by
  obtain ⟨q, lw, hk, dk, du, dv, e4, e5, e6, g4, g5, g6, a0, a1, ⟨a2, a3, a4⟩, a5, a6, a7, a8, a9, a10, a11⟩ := h
  refine ⟨q, lw, hk, dk, du, dv, e4, e5, e6, g4, g5, g6, a0, a1.kt k h4, ⟨a2.kt k h14 h3, a3.kt k h14 h3, a4.kt k h14 h3⟩, a5, a6.kt k h1, fun p p0 p1 => ⟨(a7 p p0 p1).1, ?_⟩, a8, fun j j0 j1 => ⟨(a9 j j0 j1).1, (a9 j j0 j1).2.kt k h12⟩, fun j j0 j1 => ⟨(a10 j j0 j1).1, (a10 j j0 j1).2.kt k h11⟩, a11⟩
  obtain ⟨W, w1⟩ := (a7 p p0 p1).2.c
  exact (a7 p p0 p1).2.kt k ((k.o w1 h6).trans w1.symm) (hF.2.2.2.2.2.2.2.2.1 p p0 p1).1 h7
theorem PR.kp {g : Nat → Nat} (h : PR g m r φ ψ) (hF : FI φ ψ) (k : Kt kp3 m m') : PR g m' r φ ψ := h.kt hF k (by decide) (by decide) (fun i i1 i2 => by unfold kp3; omega) (by decide) (by decide) (by decide) (by decide) (by decide)
theorem PR.pn {g : Nat → Nat} (h : PR g m r φ ψ) : ∃ e4 q, PN m (r + 2) (r + 3) e4 φ q := by
  obtain ⟨q, lw, hk, dk, du, dv, e4, e5, e6, g4, g5, g6, a0, ⟨V, v1, v2, v3, v4, v5, v6, -⟩, ⟨⟨⟨U, c, u1, u2, u3, u4⟩, hd⟩, -⟩, a5, a6, a7, -⟩ := h
  refine ⟨e4, q, ⟨V, v1, v6⟩, ?_, fun p p0 p1 => ?_⟩
  · rcases hd with ⟨s1, s2, w, s3⟩ | ⟨s1, s2, s3, s4⟩
    · exact ⟨U, w, 0, g4, u1, u3, u4, s3, by omega, fun p p0 p1 => (a7 p p0 p1).1⟩
    · exact ⟨U, true, 10, g4, u1, u3, u4, s4, by omega, fun p p0 p1 => (a7 p p0 p1).1⟩
  · obtain ⟨-, ⟨-, W, s, wd, w1, w2, w3, ⟨w4, w5, w6, w7⟩, -⟩, -⟩ := a7 p p0 p1
    exact ⟨W, s, wd, w1, w2, w3, w4, w5, w6, w7⟩
theorem PR.pq {g : Nat → Nat} (h : PR g m r φ ψ) : Pq m r φ := by
  obtain ⟨q, lw, hk, dk, du, dv, e4, e5, e6, g4, g5, g6, a0, a1, -⟩ := h
  exact a1
end PCS
