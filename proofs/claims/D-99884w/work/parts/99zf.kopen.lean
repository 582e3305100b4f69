/-! PLAIN 75: the component's reader begins -/
set_option maxRecDepth 100000
/-- cells from n on -/
def cs (m : fk_M) (n : Nat) (L : List fk_C) : fk_M := fun q => if n ≤ q then (match L[q - n]? with | some e => some (true, e) | none => m q) else m q
theorem cs_at {m : fk_M} {n i : Nat} {L : List fk_C} {e : fk_C} (h : L[i]? = some e) : cs m n L (n + i) = some (true, e) := by
  unfold cs
  rw [if_pos (by omega), show n + i - n = i by omega, h]
theorem cs_out {m : fk_M} {n q : Nat} {L : List fk_C} (h : q < n ∨ n + L.length ≤ q) : cs m n L q = m q := by
  unfold cs
  by_cases hq : n ≤ q
  · rw [if_pos hq, List.getElem?_eq_none (by omega)]
  · rw [if_neg hq]
theorem cs_nil (m : fk_M) (n : Nat) : cs m n [] = m := by
  funext q
  unfold cs
  by_cases hq : n ≤ q
  · rw [if_pos hq]
    rfl
  · rw [if_neg hq]
theorem cs_up {m : fk_M} {n i : Nat} {L : List fk_C} (e : fk_C) (h : i < L.length) : fk_up (cs m n L) (n + i) e = cs m n (L.set i e) := by
  funext q
  by_cases hq : q = n + i
  · rw [hq, up_eq, cs_at (List.getElem?_set_self h)]
  · rw [up_ne _ _ hq]
    unfold cs
    by_cases h1 : n ≤ q
    · rw [if_pos h1, if_pos h1, List.getElem?_set_ne (by omega)]
    · rw [if_neg h1, if_neg h1]
theorem cs_push {m : fk_M} {n : Nat} {L : List fk_C} (e : fk_C) : fk_up (cs m n L) (n + L.length) e = cs m n (L ++ [e]) := by
  funext q
  by_cases hq : q = n + L.length
  · rw [hq, up_eq, cs_at (by rw [List.getElem?_append_right (Nat.le_refl _), Nat.sub_self]; rfl)]
  · rw [up_ne _ _ hq]
    unfold cs
    by_cases h1 : n ≤ q
    · rw [if_pos h1, if_pos h1]
      by_cases h2 : q - n < L.length
      · rw [List.getElem?_append_left h2]
      · rw [List.getElem?_append_right (by omega), List.getElem?_eq_none (by omega), List.getElem?_eq_none (by show 1 ≤ q - n - L.length; omega)]
    · rw [if_neg h1, if_neg h1]
theorem cs_pV {m : fk_M} {n i ci : Nat} {L : List fk_C} {V : Nat → fk_T} (k : Nat) (v : fk_T) (h : L[i]? = some (oB ci V)) : pV (cs m n L) (some (n + i)) ci k v = some (cs m n (L.set i (oB ci (fk_set V k v)))) := by
  have hl : i < L.length := by
    by_cases hc : i < L.length
    · exact hc
    · rw [List.getElem?_eq_none (by omega)] at h
      cases h
  rw [pV_of k v (cs_at h), cs_up _ hl]
theorem cs_nA {m : fk_M} {n : Nat} {L : List fk_C} (t : Nat) {v : Int} (h0 : 0 ≤ v) (h1 : v ≤ 100000000) : nA (n + L.length) (cs m n L) t (ii v) = some (cs m n (L ++ [aN t v.toNat (fun _ => 0)])) := by
  rw [nA_of _ _ t h0 h1, cs_push]
theorem j2_init (g : Nat → Nat) (m : fk_M) (q : Nat) (V : Nat → fk_T) : f_J2_init g (some q) (fk_up m q (oB 14 V)) = some (fk_up m q (oB 14 (fk_set (fk_set V 0 (tI 0)) 1 (tR (some (g 40)))))) := by
  unfold f_J2_init f_J1_init f_J0_init
  rw [show isS (some q) = some () from rfl, Option.bind_some, Option.bind_some, Option.bind_some, pV_of 0 _ (up_eq ..), Option.bind_some, Option.bind_some, up_up, Option.bind_some, pV_of 1 _ (up_eq ..), Option.bind_some, up_up]
abbrev lc0 (g : Nat → Nat) : fk_C := oB 14 (fk_set (fk_set (fk_V0 tyJ2) 0 (tI 0)) 1 (tR (some (g 40))))
theorem Kt.new0 {m m' : fk_M} {r : Nat} (h : ∀ q, q < r → m' q = m q) (hf : ∀ q, r ≤ q → m q = none) : Kt (fun _ => False) m m' := by
  have hl : ∀ {q : Nat} {e : Bool × fk_C}, m q = some e → q < r := fun {q e} hq => by
    by_cases hc : q < r
    · exact hc
    · rw [hf q (by omega)] at hq
      cases hq
  exact ⟨fun q w c hq _ => (h q (hl hq)).trans hq, fun q w hs => hs.cg2 (fun q' hq' => h q' (by
    rcases hq' with ⟨wr, V, hh⟩ | ⟨w, L, gg, hh⟩
    · exact hl hh
    · exact hl hh))⟩
/-- a pier without anything -/
theorem x5_init (g : Nat → Nat) (m : fk_M) (r k : Nat) (e0 e1 : fk_C) : ∃ V k', f_X5_init g (some (r + 2)) (r + 2 + 1) k (fk_up (cs m r [e0, e1]) (r + 2) (oB 4 (fk_V0 tyX5))) = some (r + 7, k', cs m r [e0, e1, oB 4 V, lc0 g, lc0 g, lc0 g, aN 0 4 (fun _ => 0)]) ∧ (V 0 = tI (ii (-1)) ∧ V 1 = tI (ii 0) ∧ V 2 = tI (ii 0) ∧ V 3 = tI (ii 0) ∧ V 4 = tR (some (r + 3)) ∧ V 5 = tR (some (r + 4)) ∧ V 6 = tR (some (r + 5)) ∧ V 7 = tR (some (r + 6))) ∧ k ≤ k' ∧ k' ≤ k + 13 := by
  obtain ⟨V0, hV0⟩ : ∃ V0, V0 = fk_V0 tyX5 := ⟨_, rfl⟩
  have u2 : ∀ e, fk_up (cs m r [e0, e1]) (r + 2) e = cs m r [e0, e1, e] := fun e => cs_push e
  have p : ∀ (V : Nat → fk_T) (R : List fk_C) (k : Nat) (v : fk_T), pV (cs m r (e0 :: e1 :: oB 4 V :: R)) (some (r + 2)) 4 k v = some (cs m r (e0 :: e1 :: oB 4 (fk_set V k v) :: R)) := fun V R k v => cs_pV (i := 2) k v rfl
  have l3 : ∀ V, f_J2_init g (some (r + 2 + 1)) (fk_up (cs m r [e0, e1, oB 4 V]) (r + 2 + 1) (oB 14 (fk_V0 tyJ2))) = some (cs m r [e0, e1, oB 4 V, lc0 g]) := fun V => (j2_init g _ _ _).trans (congrArg some (cs_push (L := [e0, e1, oB 4 V]) _))
  have l4 : ∀ V a, f_J2_init g (some (r + 2 + 1 + 1)) (fk_up (cs m r [e0, e1, oB 4 V, a]) (r + 2 + 1 + 1) (oB 14 (fk_V0 tyJ2))) = some (cs m r [e0, e1, oB 4 V, a, lc0 g]) := fun V a => (j2_init g _ _ _).trans (congrArg some (cs_push (L := [e0, e1, oB 4 V, a]) _))
  have l5 : ∀ V a b, f_J2_init g (some (r + 2 + 1 + 1 + 1)) (fk_up (cs m r [e0, e1, oB 4 V, a, b]) (r + 2 + 1 + 1 + 1) (oB 14 (fk_V0 tyJ2))) = some (cs m r [e0, e1, oB 4 V, a, b, lc0 g]) := fun V a b => (j2_init g _ _ _).trans (congrArg some (cs_push (L := [e0, e1, oB 4 V, a, b]) _))
  have l6 : ∀ V a b c, nA (r + 2 + 1 + 1 + 1 + 1) (cs m r [e0, e1, oB 4 V, a, b, c]) 0 4 = some (cs m r [e0, e1, oB 4 V, a, b, c, aN 0 4 (fun _ => 0)]) := fun V a b c => cs_nA (L := [e0, e1, oB 4 V, a, b, c]) 0 (v := 4) (by omega) (by omega)
  unfold f_X5_init
  rw [← hV0, u2]
  have hs : ∀ q, isS (some q) = some () := fun _ => rfl
  simp only [hs, Option.bind_some, p, l3, l4, l5, l6]
  refine ⟨_, _, rfl, ⟨rfl, ?_, ?_, ?_, rfl, rfl, rfl, rfl⟩, ?_, ?_⟩
  · rw [hV0]; rfl
  · rw [hV0]; rfl
  · rw [hV0]; rfl
  · omega
  · have : Int32.toNatClampNeg 4 = 4 := by decide
    omega
theorem k_open {m0 : fk_M} {r tp : Nat} {T : Int → Int} {n : Int} {φ ψ : Int → Int} (g : Nat → Nat) (hT : Tx8 T n) (hfr : ∀ q, r ≤ q → m0 q = none) (htp : tp < r) (hA : TA m0 tp T n) (hc : ∀ i, i < 40 → StC m0 (g i) (kw i)) (hg : g 40 < r) (he : ∃ w gl, m0 (g 40) = some (w, aQ 0 gl)) (hz : Zr φ ψ) (kk : Nat) : ∃ m10 N k m1, f_X4_init (some (r + 1)) (some tp) (ii n) (fk_up (fk_up m0 r (oB 2 (fk_V0 tyX3))) (r + 1) (oB 3 (fk_V0 tyX4))) = some m10 ∧ f_X3_init g (some r) (some (r + 1)) (r + 1 + 1) kk m10 = some (N, k, m1) ∧ SS g r tp T n m1 N (tkn T n 0) (0, 0) ∧ PR g m1 r φ ψ ∧ (r ≤ N ∧ N ≤ r + 12 ∧ kk ≤ k ∧ k ≤ kk + 57) ∧ ∀ q, q < r → m1 q = m0 q := by
  obtain ⟨W, hW⟩ : ∃ W, W = fk_set (fk_set (fk_V0 tyX4) 0 (tR (some tp))) 1 (tI (ii n)) := ⟨_, rfl⟩
  have hm10 : f_X4_init (some (r + 1)) (some tp) (ii n) (fk_up (fk_up m0 r (oB 2 (fk_V0 tyX3))) (r + 1) (oB 3 (fk_V0 tyX4))) = some (cs m0 r [oB 2 (fk_V0 tyX3), oB 3 W]) := by
    unfold f_X4_init
    have e0 : fk_up m0 r (oB 2 (fk_V0 tyX3)) = cs m0 r [oB 2 (fk_V0 tyX3)] := by
      have := cs_push (m := m0) (n := r) (L := []) (oB 2 (fk_V0 tyX3))
      rw [cs_nil] at this
      exact this
    have e1 : fk_up (cs m0 r [oB 2 (fk_V0 tyX3)]) (r + 1) (oB 3 (fk_V0 tyX4)) = cs m0 r [oB 2 (fk_V0 tyX3), oB 3 (fk_V0 tyX4)] := cs_push (L := [oB 2 (fk_V0 tyX3)]) _
    have p : ∀ (V : Nat → fk_T) (k : Nat) (v : fk_T), pV (cs m0 r [oB 2 (fk_V0 tyX3), oB 3 V]) (some (r + 1)) 3 k v = some (cs m0 r [oB 2 (fk_V0 tyX3), oB 3 (fk_set V k v)]) := fun V k v => cs_pV (i := 1) k v rfl
    rw [show isS (some (r + 1)) = some () from rfl, Option.bind_some, e0, e1, p, Option.bind_some, p, Option.bind_some, hW]
  obtain ⟨V, k1, x1, ⟨v0, v1, v2, v3, v4, v5, v6, v7⟩, x2, x3⟩ := x5_init g m0 r (kk + 8) (oB 2 (fk_V0 tyX3)) (oB 3 W)
  obtain ⟨U, hU⟩ : ∃ U, U = fk_set (fk_set (fk_V0 tyX3) 1 (tR (some (r + 2)))) 0 (tR (some (r + 1))) := ⟨_, rfl⟩
  obtain ⟨m7, hm7⟩ : ∃ m7, m7 = cs m0 r [oB 2 U, oB 3 W, oB 4 V, lc0 g, lc0 g, lc0 g, aN 0 4 (fun _ => 0)] := ⟨_, rfl⟩
  have lo7 : ∀ q, q < r → m7 q = m0 q := fun q hq => by rw [hm7]; exact cs_out (Or.inl hq)
  have K7 : Kt (fun _ => False) m0 m7 := Kt.new0 lo7 hfr
  have fr7 : ∀ q, r + 7 ≤ q → m7 q = none := fun q hq => by rw [hm7, cs_out (Or.inr hq)]; exact hfr q (by omega)
  have c0 : m7 (r + 0) = some (true, oB 2 U) := by rw [hm7]; exact cs_at rfl
  have c1 : m7 (r + 1) = some (true, oB 3 W) := by rw [hm7]; exact cs_at rfl
  have c2 : m7 (r + 2) = some (true, oB 4 V) := by rw [hm7]; exact cs_at rfl
  have c3 : m7 (r + 3) = some (true, lc0 g) := by rw [hm7]; exact cs_at rfl
  have c4 : m7 (r + 4) = some (true, lc0 g) := by rw [hm7]; exact cs_at rfl
  have c5 : m7 (r + 5) = some (true, lc0 g) := by rw [hm7]; exact cs_at rfl
  have c6 : m7 (r + 6) = some (true, aN 0 4 (fun _ => 0)) := by rw [hm7]; exact cs_at rfl
  have hTC : TC m7 (r + 1) tp n 0 := ⟨W, c1, by rw [hW]; rfl, by rw [hW]; rfl, by rw [hW]; rfl⟩
  have hn := hT.1
  obtain ⟨z, N, k, m8, y1, y2, y3, y4, y5, y6, y7, y8⟩ := k_next hT g fr7 hTC (by omega) (K7.2 _ _ (hc 0 (by omega))) (hA.cg (lo7 tp htp)) (Int.le_refl 0) hn.1 k1
  have d0 : m8 r = some (true, oB 2 U) := (y7 r (by omega) (by omega)).trans c0
  obtain ⟨m9, hm9⟩ : ∃ m9, m9 = fk_up m8 r (oB 2 (fk_set U 2 (tR (some z)))) := ⟨_, rfl⟩
  have lo9 : ∀ q, q < r → m9 q = m0 q := fun q hq => by rw [hm9]; exact (up_ne _ _ (by omega)).trans ((y7 q (by omega) (by omega)).trans (lo7 q hq))
  have K9 : Kt (fun _ => False) m0 m9 := Kt.new0 lo9 hfr
  have g9 : ∀ q, r < q → q < r + 7 → q ≠ r + 1 → m9 q = m7 q := fun q q1 q2 q3 => by rw [hm9]; exact (up_ne _ _ (by omega)).trans (y7 q (by omega) q3)
  have hz2 := hz.2
  have z0 := hz.1 0 (by omega) (by omega)
  have z1 := hz.1 1 (by omega) (by omega)
  have z2 := hz.1 2 (by omega) (by omega)
  have z3 := hz.1 3 (by omega) (by omega)
  have z4 := hz.1 4 (by omega) (by omega)
  have z5 := hz.1 5 (by omega) (by omega)
  have z6 := hz.1 6 (by omega) (by omega)
  have z7 := hz.1 7 (by omega) (by omega)
  obtain ⟨w0, gl, hgl⟩ := he
  have hL : ∀ la, m9 la = some (true, lc0 g) → Lq m9 (g 40) r la 0 gl (g 40) := fun la hla => ⟨⟨_, 0, hla, rfl, rfl, rfl⟩, Or.inl ⟨rfl, rfl, w0, (lo9 _ hg).trans hgl⟩⟩
  refine ⟨_, N, k, m9, hm10, ?_, ⟨hT, fun q hq => ?_, ⟨z, ⟨_, by rw [hm9]; exact up_eq .., ?_, ?_, rfl, ?_, fun hh => absurd hh (by decide), by decide⟩, y2.cg ?_, ?_⟩, ⟨0, Int.le_refl 0, hn.1, rfl⟩, by omega, hA.cg (lo9 tp htp), fun i hi => K9.2 _ _ (hc i hi)⟩, ?_, by omega, lo9⟩
  · unfold f_X3_init
    have p1 : pV (cs m0 r [oB 2 (fk_V0 tyX3), oB 3 W, oB 4 V, lc0 g, lc0 g, lc0 g, aN 0 4 (fun _ => 0)]) (some r) 2 1 (tR (some (r + 2))) = some (cs m0 r [oB 2 (fk_set (fk_V0 tyX3) 1 (tR (some (r + 2)))), oB 3 W, oB 4 V, lc0 g, lc0 g, lc0 g, aN 0 4 (fun _ => 0)]) := cs_pV (n := r) (i := 0) 1 _ rfl
    have p2 : pV (cs m0 r [oB 2 (fk_set (fk_V0 tyX3) 1 (tR (some (r + 2)))), oB 3 W, oB 4 V, lc0 g, lc0 g, lc0 g, aN 0 4 (fun _ => 0)]) (some r) 2 0 (tR (some (r + 1))) = some m7 := by
      rw [hm7, hU]
      exact cs_pV (n := r) (i := 0) 0 _ rfl
    rw [show isS (some r) = some () from rfl, Option.bind_some, show isS (some (r + 1 + 1)) = some () from rfl, Option.bind_some, show r + 1 + 1 = r + 2 from rfl, x1, bn3_some, p1, Option.bind_some, p2, Option.bind_some, isO_of c1, Option.bind_some, y1, bn4_some, pV_of 2 _ d0, Option.bind_some, hm9]
  · rw [hm9, up_ne _ _ (by omega)]
    exact y8 q hq
  · rw [hU]; rfl
  · rw [hU]; rfl
  · rw [hU]; rfl
  · rw [hm9]
    exact up_ne _ _ (by omega)
  · obtain ⟨X, s, q1, q2, q3, q4, q5, q6⟩ := y3
    have hzr : z ≠ r := by omega
    refine ⟨X, s, by rw [hm9]; exact (up_ne _ _ hzr).trans q1, q2, q3, q4, q5, ?_⟩
    rw [hm9]
    exact (Kt.up1 2 _ d0 rfl (by decide) (by decide)).2 _ _ q6
  · refine ⟨fun _ => 0, fun _ => 0, fun _ => 0, fun _ => 0, fun _ => 0, fun _ => 0, g 40, g 40, g 40, gl, gl, gl, hg, ⟨V, (g9 _ (by omega) (by omega) (by omega)).trans c2, ?_, ?_, ?_, ?_, v4, v5, v6, v7⟩, ⟨?_, ?_, ?_⟩, ⟨fun hh => absurd z2 hh, fun hh => absurd z2 hh, fun hh => absurd z4 hh⟩, ⟨fun _ => 0, (g9 _ (by omega) (by omega) (by omega)).trans c6, fun j j0 j1 => by omega⟩, fun p p0 p1 => by omega, fun p p' p0 p1 => by omega, fun j j0 j1 => by omega, fun j j0 j1 => by omega, fun p p' p0 p1 p2 p3 hp => ?_⟩
    · rw [if_pos z7]
      exact v0
    · rw [z1]
      exact v1
    · rw [z3]
      exact v2
    · rw [z5]
      exact v3
    · rw [z2]
      exact hL _ ((g9 _ (by omega) (by omega) (by omega)).trans c3)
    · rw [z4]
      exact hL _ ((g9 _ (by omega) (by omega) (by omega)).trans c4)
    · rw [z6]
      exact hL _ ((g9 _ (by omega) (by omega) (by omega)).trans c5)
    · have := hz2 (10 + 5 * p + p') (by omega) (by omega)
      omega
