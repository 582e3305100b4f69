/-! PLAIN 57: the component's reader: needs -/
set_option maxRecDepth 100000
theorem k_is {m : fk_M} {z c : Nat} {t : Tkn} {w : List Int} {n : Int} (hK : TkC m z t) (h8 : Tok8 n t) (hc : StC m c w) (hw : Lt w) : f_X6_is (some z) (some c) m = some (if isW t w then 1 else 0) := by
  obtain ⟨k1, k2, k3, k4, s, k5, k6⟩ := hK.at
  have hr := h8.2.2.1
  unfold f_X6_is
  rw [k2, Option.bind_some]
  by_cases h2 : t.1 = 2
  · rw [if_pos (show ii t.1 = 2 by rw [h2]; rfl), k5, Option.bind_some, k6.o, Option.bind_some, s_equals k6 hc h8.2.2.2.2.1 hw, Option.bind_some]
    by_cases he : t.2.2.2.2 = w
    · rw [if_pos he, if_neg (by decide), if_pos ⟨h2, he⟩]
    · rw [if_neg he, if_pos rfl, if_neg (fun h => he h.2)]
  · rw [if_neg (show ¬ ii t.1 = 2 by rw [show (2 : Int32) = ii 2 from rfl, ii_eq (by omega) (by omega)]; exact h2), if_neg (fun h => h2 h.1)]
/-- a step that writes the Reader alone -/
theorem Fx.r {m m' : fk_M} {r N kk : Nat} {n : Int} {t : Tkn} {z : Nat} {e : Er} (hfr : ∀ q, N ≤ q → m q = none) (hR : RC m r z e) (hk : ∀ q, q ≠ r → m' q = m q) : Fx r n m N kk t m' N kk t := by
  obtain ⟨V, v1, -⟩ := hR
  have hrN : r < N := by
    by_cases hcc : N ≤ r
    · rw [hfr r hcc] at v1; cases v1
    · omega
  refine ⟨⟨Nat.le_refl _, Nat.le_refl _⟩, ⟨Nat.le_refl _, Nat.le_refl _⟩, fun q _ q1 _ => Or.inl (hk q q1), fun q hq => (hk q (by omega)).trans (hfr q hq), fun q w hs => hs.cg2 (fun q' hq' => hk q' (fun e' => ?_))⟩
  rw [e', v1] at hq'
  rcases hq' with ⟨wr, V, h⟩ | ⟨w, L, gg, h⟩
  · cases h
  · cases h
theorem Fx.tr {r : Nat} {n : Int} {m m1 m2 : fk_M} {N N1 N2 kk k1 k2 : Nat} {t t1 t2 : Tkn} (h : Fx r n m N kk t m1 N1 k1 t1) (h' : Fx r n m1 N1 k1 t1 m2 N2 k2 t2) : Fx r n m N kk t m2 N2 k2 t2 := by
  obtain ⟨a1, a2, a3, a4, a5⟩ := h
  obtain ⟨b1, b2, b3, b4, b5⟩ := h'
  refine ⟨⟨by omega, by omega⟩, ⟨by omega, by omega⟩, fun q q1 q2 q3 => ?_, b4, fun q w hs => b5 q w (a5 q w hs)⟩
  rcases b3 q (by omega) q2 q3 with h | ⟨V, V', h, h'⟩
  · rw [h]
    exact a3 q q1 q2 q3
  · rcases a3 q q1 q2 q3 with g | ⟨W, W', g, g'⟩
    · exact Or.inr ⟨V, V', by rw [← g]; exact h, h'⟩
    · exact Or.inr ⟨W, V', g, h'⟩
theorem k_needs {m : fk_M} {r tp N c : Nat} {T : Int → Int} {n : Int} {t : Tkn} {e : Er} {w : List Int} (hT : Tx8 T n) (g : Nat → Nat) (hfr : ∀ q, N ≤ q → m q = none) (h : RS m r tp n t e) (ht : isT T n t) (htp : tp ≠ r) (hA : TA m tp T n) (h0 : StC m (g 0) []) (hc : StC m c w) (hw : Lt w) (kk : Nat) {e' : Er} (he' : e' = if isW t w then e else er1 e 1 t.2.1) : ∃ N' k' m', f_X3_needs g (some r) (some c) N kk m = some (N', k', m') ∧ RS m' r tp n (if e'.1 = 0 then aOn T n t else t) e' ∧ Fx r n m N kk t m' N' k' (if e'.1 = 0 then aOn T n t else t) := by
  have hok := ht.ok hT
  obtain ⟨z, hR, hC, hK⟩ := id h
  unfold f_X3_needs f_X3_needs_J16
  rw [hR.tk.1, Option.bind_some, hK.at.1, Option.bind_some, k_is hK hok hc hw, Option.bind_some]
  by_cases hi : isW t w
  · rw [if_pos hi] at he'
    subst he'
    obtain ⟨N', k', m', g1, g2, g3⟩ := k_on hT g hfr h ht hA h0 kk
    rw [if_pos hi, if_neg (show ¬ (1 : Int32) = 0 by decide), hR.o, Option.bind_some, g1, bn3_some]
    exact ⟨N', k', m', rfl, g2, g3⟩
  · rw [if_neg hi] at he'
    subst he'
    obtain ⟨m1, a1, a2, a3⟩ := k_wrong h (k := 1) (by omega)
    have hF : Fx r n m N kk t m1 N kk t := Fx.r hfr hR a3
    obtain ⟨N', k', m', g1, g2, g3⟩ := k_on hT g hF.2.2.2.1 a2 ht (hA.cg (a3 tp htp)) (hF.2.2.2.2 _ _ h0) kk
    obtain ⟨z1, hR1, -⟩ := id a2
    rw [if_neg hi, if_pos rfl, hR.o, Option.bind_some, show (1 : Int32) = ii 1 from rfl, a1, Option.bind_some, hR1.o, Option.bind_some, g1, bn3_some]
    exact ⟨N', k', m', rfl, g2, hF.tr g3⟩
