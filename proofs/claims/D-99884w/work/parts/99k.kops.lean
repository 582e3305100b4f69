/-! PLAIN 54: the component's reader: its state, wrong, on -/
set_option maxRecDepth 100000
/-- the end stays the end -/
theorem aOn_end {T : Int → Int} {n e : Int} (hT : Tx8 T n) (e0 : 0 ≤ e) (e1 : e ≤ n) (h : (tkn T n e).1 = 1) : aOn T n (tkn T n e) = tkn T n e := by
  have hs := skp_rg (T := T) (n := n) 901 e e1
  have hc : ch T n (skp T n 901 e) = -1 := by
    unfold tkn at h
    by_cases c1 : ch T n (skp T n 901 e) = -1
    · exact c1
    · rw [if_neg c1] at h
      by_cases c2 : 97 ≤ ch T n (skp T n 901 e) ∧ ch T n (skp T n 901 e) ≤ 122
      · rw [if_pos c2] at h
        dsimp only at h
        split at h <;> omega
      · rw [if_neg c2] at h
        by_cases c3 : 48 ≤ ch T n (skp T n 901 e) ∧ ch T n (skp T n 901 e) ≤ 57
        · rw [if_pos c3] at h
          dsimp only at h
          split at h <;> omega
        · rw [if_neg c3] at h
          dsimp only at h
          split at h <;> omega
  have ht : tkn T n e = (1, skp T n 901 e, skp T n 901 e, 0, []) := by
    unfold tkn
    rw [if_pos hc]
  have hsk : skp T n 901 (skp T n 901 e) = skp T n 901 e := by
    show (if ch T n (skp T n 901 e) = 32 then skp T n 900 (skp T n 901 e + 1) else skp T n 901 e) = _
    rw [if_neg (by omega)]
  unfold aOn
  rw [ht]
  show tkn T n (skp T n 901 e) = _
  unfold tkn
  rw [hsk, if_pos hc]
/-- a token of the text -/
def isT (T : Int → Int) (n : Int) (t : Tkn) : Prop := ∃ e, 0 ≤ e ∧ e ≤ n ∧ t = tkn T n e
theorem isT.ok {T : Int → Int} {n : Int} {t : Tkn} (hT : Tx8 T n) (h : isT T n t) : Tok8 n t := by
  obtain ⟨e, e0, e1, rfl⟩ := h
  exact tkn_ok hT e0 e1
theorem isT.on {T : Int → Int} {n : Int} {t : Tkn} (hT : Tx8 T n) (h : isT T n t) : isT T n (aOn T n t) := by
  have := (h.ok hT).2.1
  exact ⟨t.2.2.1, this.1, this.2, rfl⟩
/-- the Reader's cell -/
def RC (m : fk_M) (r z : Nat) (e : Er) : Prop := ∃ V, m r = some (true, oB 2 V) ∧ V 0 = tR (some (r + 1)) ∧ V 1 = tR (some (r + 2)) ∧ V 2 = tR (some z) ∧ V 3 = tI (ii e.1) ∧ (1 ≤ e.1 → V 4 = tI (ii e.2)) ∧ (0 ≤ e.1 ∧ e.1 ≤ 6)
/-- the reader's state: which token, what went wrong -/
def RS (m : fk_M) (r tp : Nat) (n : Int) (t : Tkn) (e : Er) : Prop := ∃ z, RC m r z e ∧ TC m (r + 1) tp n t.2.2.1 ∧ TkC m z t
theorem RC.o {m : fk_M} {r z : Nat} {e : Er} (h : RC m r z e) : isO m (some r) 2 = some () := by
  obtain ⟨V, h1, -⟩ := h
  exact isO_of h1
theorem RC.ov {m : fk_M} {r z : Nat} {e : Er} (h : RC m r z e) : f_X3_isOver (some r) m = some (if e.1 = 0 then 0 else 1) := by
  obtain ⟨V, h1, h2, h3, h4, h5, h6, h7⟩ := h
  unfold f_X3_isOver
  rw [gI_of h1 h5, Option.bind_some]
  by_cases hc : e.1 = 0
  · rw [if_pos hc, hc, if_pos (by decide)]
  · rw [if_neg hc, if_neg (by rw [show (0 : Int32) = ii 0 from rfl, ii_le (by omega) (by omega)]; omega)]
theorem RC.tk {m : fk_M} {r z : Nat} {e : Er} (h : RC m r z e) : gR m (some r) 2 2 = some (some z) ∧ gR m (some r) 2 0 = some (some (r + 1)) ∧ gR m (some r) 2 1 = some (some (r + 2)) := by
  obtain ⟨V, h1, h2, h3, h4, -⟩ := h
  exact ⟨gR_of h1 h4, gR_of h1 h2, gR_of h1 h3⟩
theorem TkC.at {m : fk_M} {z : Nat} {t : Tkn} (h : TkC m z t) : isO m (some z) 5 = some () ∧ gI m (some z) 5 0 = some (ii t.1) ∧ gI m (some z) 5 1 = some (ii t.2.1) ∧ gI m (some z) 5 2 = some (ii t.2.2.2.1) ∧ ∃ s, gR m (some z) 5 3 = some (some s) ∧ StC m s t.2.2.2.2 := by
  obtain ⟨V, s, h1, h2, h3, h4, h5, h6⟩ := h
  exact ⟨isO_of h1, gI_of h1 h2, gI_of h1 h3, gI_of h1 h4, s, gR_of h1 h5, h6⟩
/-- the first failure stays -/
def er1 (e : Er) (k p : Int) : Er := if e.1 = 0 then (k, p) else e
theorem k_wrong {m : fk_M} {r tp : Nat} {n : Int} {t : Tkn} {e : Er} (h : RS m r tp n t e) {k : Int} (hk : 1 ≤ k ∧ k ≤ 6) : ∃ m', f_X3_wrong (some r) (ii k) m = some m' ∧ RS m' r tp n t (er1 e k t.2.1) ∧ ∀ q, q ≠ r → m' q = m q := by
  obtain ⟨z, hR, hC, hK⟩ := h
  unfold f_X3_wrong er1
  rw [hR.o, Option.bind_some, hR.ov, Option.bind_some]
  by_cases hc : e.1 = 0
  rotate_left
  · rw [if_neg hc, if_neg hc, if_neg (by decide)]
    exact ⟨m, rfl, ⟨z, hR, hC, hK⟩, fun _ _ => rfl⟩
  rw [if_pos hc, if_pos hc, if_pos rfl]
  obtain ⟨V, h1, h2, h3, h4, h5, h6, h7⟩ := hR
  obtain ⟨W, s, k1, k2, k3, k4, k5, k6⟩ := hK
  have hzr : z ≠ r := fun e' => by rw [e', h1] at k1; cases k1
  have hz1 : fk_up m r (oB 2 (fk_set V 3 (tI (ii k)))) z = some (true, oB 5 W) := (up_ne _ _ hzr).trans k1
  refine ⟨fk_up (fk_up m r (oB 2 (fk_set V 3 (tI (ii k))))) r (oB 2 (fk_set (fk_set V 3 (tI (ii k))) 4 (tI (ii t.2.1)))), ?_, ⟨z, ⟨_, up_eq .., h2, h3, h4, rfl, fun _ => rfl, by show 0 ≤ k ∧ k ≤ 6; omega⟩, hC.cg ((up_ne _ _ (by omega)).trans (up_ne _ _ (by omega))), ⟨W, s, (up_ne _ _ hzr).trans hz1, k2, k3, k4, k5, k6.cg2 (fun q' hq' => ?_)⟩⟩, fun q hq => (up_ne _ _ hq).trans (up_ne _ _ hq)⟩
  · rw [pV_of 3 _ h1, Option.bind_some, gR_of (k := 2) (up_eq m r (oB 2 (fk_set V 3 (tI (ii k))))) h4, Option.bind_some, gI_of hz1 k3, Option.bind_some, pV_of 4 _ (up_eq ..), Option.bind_some]
  · have : q' ≠ r := fun e' => by
      rw [e', h1] at hq'
      rcases hq' with ⟨wr, V, h⟩ | ⟨w, L, gg, h⟩
      · cases h
      · cases h
    rw [up_ne _ _ this, up_ne _ _ this]
