/-! PLAIN 58: the component's reader: whole, part -/
set_option maxRecDepth 100000
/-- what a step leaves: failure, token -/
abbrev stp (T : Int → Int) (n : Int) (e : Er) (t : Tkn) : Tkn := if e.1 = 0 then aOn T n t else t
abbrev erN (lo hi : Int) (t : Tkn) (e : Er) : Er := if t.1 = 3 then (if lo ≤ t.2.2.2.1 ∧ t.2.2.2.1 ≤ hi then e else er1 e 4 t.2.1) else er1 e 1 t.2.1
abbrev erW (w : List Int) (t : Tkn) (e : Er) : Er := if isW t w then e else er1 e 1 t.2.1
theorem isT.st {T : Int → Int} {n : Int} {t : Tkn} (hT : Tx8 T n) (h : isT T n t) (e : Er) : isT T n (stp T n e t) := by
  unfold stp
  split
  · exact h.on hT
  · exact h
theorem r_whole {m : fk_M} {r tp N : Nat} {T : Int → Int} {n lo hi : Int} {t : Tkn} {e : Er} (hT : Tx8 T n) (g : Nat → Nat) (hfr : ∀ q, N ≤ q → m q = none) (h : RS m r tp n t e) (ht : isT T n t) (htp : tp ≠ r) (hA : TA m tp T n) (h0 : StC m (g 0) []) (hl : rg lo) (hh : rg hi) (kk : Nat) : ∃ N' k' m', f_X3_whole g (some r) (ii lo) (ii hi) N kk m = some (ii t.2.2.2.1, N', k', m') ∧ RS m' r tp n (stp T n (erN lo hi t e) t) (erN lo hi t e) ∧ Fx r n m N kk t m' N' k' (stp T n (erN lo hi t e) t) := by
  obtain ⟨z, hR, -⟩ := id h
  obtain ⟨m1, a1, a2, a3⟩ := k_wholeAt hT h ht hl hh
  have hF : Fx r n m N kk t m1 N kk t := Fx.r hfr hR a3
  obtain ⟨N', k', m', g1, g2, g3⟩ := k_on hT g hF.2.2.2.1 a2 ht (hA.cg (a3 tp htp)) (hF.2.2.2.2 _ _ h0) kk
  obtain ⟨z1, hR1, -⟩ := id a2
  refine ⟨N', k', m', ?_, g2, hF.tr g3⟩
  unfold f_X3_whole
  rw [hR.o, Option.bind_some, a1, bn2_some, hR1.o, Option.bind_some, g1, bn3_some]
theorem TA.fx {m m' : fk_M} {r tp N kk N' k' : Nat} {T : Int → Int} {n : Int} {t t' : Tkn} {e : Er} (hA : TA m tp T n) (hfr : ∀ q, N ≤ q → m q = none) (h : RS m r tp n t e) (htp : tp ≠ r) {u u' : Tkn} (hF : Fx r n m N kk u m' N' k' u') : TA m' tp T n := by
  obtain ⟨z, -, ⟨V, c1, -⟩, -⟩ := h
  obtain ⟨w, L, gv, t1, t2⟩ := hA
  have hN : tp < N := by
    by_cases hcc : N ≤ tp
    · rw [hfr tp hcc] at t1; cases t1
    · omega
  rcases hF.2.2.1 tp hN htp (fun e' => by rw [e', c1] at t1; cases t1) with h | ⟨V, V', h, -⟩
  · exact ⟨w, L, gv, h.trans t1, t2⟩
  · rw [h] at t1
    cases t1
theorem r_part {m : fk_M} {r tp N c : Nat} {T : Int → Int} {n lo hi : Int} {t : Tkn} {e : Er} {w : List Int} (hT : Tx8 T n) (g : Nat → Nat) (hfr : ∀ q, N ≤ q → m q = none) (h : RS m r tp n t e) (ht : isT T n t) (htp : tp ≠ r) (hA : TA m tp T n) (h0 : StC m (g 0) []) (hc : StC m c w) (hw : Lt w) (hl : rg lo) (hh : rg hi) (kk : Nat) : ∃ N' k' m' e1 t1, f_X3_part g (some r) (some c) (ii lo) (ii hi) N kk m = some (ii t1.2.2.2.1, N', k', m') ∧ (e1 = erW w t e ∧ t1 = stp T n e1 t) ∧ RS m' r tp n (stp T n (erN lo hi t1 e1) t1) (erN lo hi t1 e1) ∧ Fx r n m N kk t m' N' k' (stp T n (erN lo hi t1 e1) t1) := by
  obtain ⟨z, hR, -⟩ := id h
  obtain ⟨N1, k1, m1, a1, a2, a3⟩ := k_needs hT g hfr h ht htp hA h0 hc hw kk (e' := erW w t e) rfl
  obtain ⟨z1, hR1, -⟩ := id a2
  obtain ⟨N2, k2, m2, b1, b2, b3⟩ := r_whole hT g a3.2.2.2.1 a2 (ht.st hT (erW w t e)) htp (hA.fx (t := t) (t' := t) hfr h htp a3) (a3.2.2.2.2 _ _ h0) hl hh k1
  refine ⟨N2, k2, m2, erW w t e, stp T n (erW w t e) t, ?_, ⟨rfl, rfl⟩, b2, a3.tr b3⟩
  unfold f_X3_part
  rw [hR.o, Option.bind_some, a1, bn3_some, hR1.o, Option.bind_some, b1, bn4_some]
