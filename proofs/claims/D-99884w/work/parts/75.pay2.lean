/-! PLAIN 21: payments: the table, and the model's groups by it -/
set_option maxRecDepth 100000
theorem y_rm {s : Nat} {p : Int} (hs : s < 32) (h0 : 0 ≤ p) (h1 : p < 5) (h : hb s p) : 2 ^ p.toNat ≤ s ∧ ii s &&& (i_shl 1 (ii p) ^^^ (-1)) = ii ((s - 2 ^ p.toNat : Nat) : Int) := by
  obtain ⟨k, rfl⟩ : ∃ k : Nat, p = k := ⟨p.toNat, by omega⟩
  exact z_rm ⟨s, hs⟩ ⟨k, by omega⟩ h
theorem y_bit {t s : Nat} {p : Int} (ht : t < 32) (hs : s < 32) (h : sb t s) (h0 : 0 ≤ p) (h1 : p < 5) : (hb ((df s t : Nat) : Int) p ↔ hb s p ∧ ¬ hb t p) ∧ (hb t p → hb s p) := by
  obtain ⟨k, rfl⟩ : ∃ k : Nat, p = k := ⟨p.toNat, by omega⟩
  exact z_bit ⟨t, ht⟩ ⟨s, hs⟩ h ⟨k, by omega⟩
theorem y_hi {n s : Nat} {p : Int} (hn : n ≤ 5) (hs : s < 2 ^ n) (h0 : 0 ≤ p) (h1 : p < 5) (h : hb s p) : p < n := by
  have h2 : (2 : Nat) ^ n ≤ 2 ^ 5 := Nat.pow_le_pow_right (by omega) hn
  obtain ⟨k, rfl⟩ : ∃ k : Nat, p = k := ⟨p.toNat, by omega⟩
  by_cases hk : n ≤ k
  · exact absurd h (z_hi ⟨n, by omega⟩ ⟨s, by omega⟩ hs ⟨k, by omega⟩ hk)
  · omega
theorem cmx (c : Int → Prop) [DecidablePred c] (g : Int → Int) : ∀ (d : Nat) (k u : Int), u ≤ itr (fun u p => if c p then max u (g p) else u) d k u ∧ (∀ p, k ≤ p → p < k + d → c p → g p ≤ itr (fun u p => if c p then max u (g p) else u) d k u) ∧ (itr (fun u p => if c p then max u (g p) else u) d k u = u ∨ ∃ p, k ≤ p ∧ p < k + d ∧ c p ∧ itr (fun u p => if c p then max u (g p) else u) d k u = g p) := by
  intro d
  induction d with
  | zero =>
    intro k u
    exact ⟨Int.le_refl u, fun p h1 h2 => by omega, Or.inl rfl⟩
  | succ d ih =>
    intro k u
    obtain ⟨i1, i2, i3⟩ := ih (k + 1) (if c k then max u (g k) else u)
    have e : itr (fun u p => if c p then max u (g p) else u) (d + 1) k u = itr (fun u p => if c p then max u (g p) else u) d (k + 1) (if c k then max u (g k) else u) := rfl
    rw [e]
    by_cases hc : c k
    · rw [if_pos hc] at i1 i2 i3 ⊢
      refine ⟨by omega, fun p h1 h2 h3 => ?_, ?_⟩
      · by_cases hp : p = k
        · subst hp
          omega
        · exact i2 p (by omega) (by omega) h3
      · rcases i3 with i3 | ⟨p, h1, h2, h3, h4⟩
        · by_cases hu : u ≤ g k
          · exact Or.inr ⟨k, by omega, by omega, hc, by rw [i3]; omega⟩
          · exact Or.inl (by rw [i3]; omega)
        · exact Or.inr ⟨p, by omega, by omega, h3, h4⟩
    · rw [if_neg hc] at i1 i2 i3 ⊢
      refine ⟨by omega, fun p h1 h2 h3 => ?_, ?_⟩
      · by_cases hp : p = k
        · subst hp
          exact absurd h3 hc
        · exact i2 p (by omega) (by omega) h3
      · rcases i3 with i3 | ⟨p, h1, h2, h3, h4⟩
        · exact Or.inl i3
        · exact Or.inr ⟨p, by omega, by omega, h3, h4⟩
def sm (w : Int → Int) (n s : Nat) : Int := su (fun p => if hb s p then w p else 0) n
def mx (T : Nat → Int) (n s : Nat) : Int := itr (fun u p => if hb s p then max u (T (s - 2 ^ p.toNat)) else u) n 0 0
def qs (w : Int → Int) (n : Nat) (T : Nat → Int) (s : Nat) : Int := mx T n s + (if s ≠ 0 ∧ sm w n s = 0 then 1 else 0)
def tq (w : Int → Int) (n : Nat) : Nat → Nat → Int
  | 0 => fun _ => 0
  | k + 1 => fun j => if j = k then qs w n (tq w n k) k else tq w n k j
def Qf (w : Int → Int) (n s : Nat) : Int := tq w n 32 s
theorem sm_df (w : Int → Int) {n t s : Nat} (hn : n ≤ 5) (ht : t < 32) (hs : s < 32) (h : sb t s) : sm w n (df s t) = sm w n s - sm w n t := by
  unfold sm
  rw [← su_sub]
  refine su_cg n (fun p h0 h1 => ?_)
  obtain ⟨b1, b2⟩ := y_bit ht hs h h0 (show p < 5 by omega)
  by_cases c1 : hb s p
  · by_cases c2 : hb t p
    · rw [if_pos c1, if_pos c2, if_neg (fun h => (b1.mp h).2 c2)]
      omega
    · rw [if_pos c1, if_neg c2, if_pos (b1.mpr ⟨c1, c2⟩)]
      omega
  · rw [if_neg c1, if_neg (fun h => c1 (b2 h)), if_neg (fun h => c1 (b1.mp h).1)]
    omega
theorem tq_lt (w : Int → Int) (n : Nat) : ∀ k j, j < k → tq w n k j = tq w n (j + 1) j := by
  intro k
  induction k with
  | zero => intro j h; omega
  | succ k ih =>
    intro j h
    by_cases hj : j = k
    · rw [hj]
    · show (if j = k then qs w n (tq w n k) k else tq w n k j) = _
      rw [if_neg hj]
      exact ih j (by omega)
theorem mx_cg {T T' : Nat → Int} {n s : Nat} (hn : n ≤ 5) (hs : s < 32) (h : ∀ j, j < s → T j = T' j) : mx T n s = mx T' n s := by
  unfold mx
  refine itr_cg n 0 0 (fun u p h0 h1 => ?_)
  by_cases hc : hb s p
  · have h2 := (y_rm hs h0 (show p < 5 by omega) hc).1
    have h3 : 0 < 2 ^ p.toNat := Nat.pow_pos (by omega)
    rw [if_pos hc, if_pos hc, h (s - 2 ^ p.toNat) (by omega)]
  · rw [if_neg hc, if_neg hc]
theorem qs_cg (w : Int → Int) {T T' : Nat → Int} {n s : Nat} (hn : n ≤ 5) (hs : s < 32) (h : ∀ j, j < s → T j = T' j) : qs w n T s = qs w n T' s := by
  unfold qs
  rw [mx_cg hn hs h]
theorem tq_eq (w : Int → Int) {n : Nat} {s : Nat} : tq w n (s + 1) s = qs w n (tq w n s) s := by
  show (if s = s then qs w n (tq w n s) s else tq w n s s) = _
  rw [if_pos rfl]
theorem Q_eq (w : Int → Int) {n s : Nat} (hn : n ≤ 5) (hs : s < 32) : Qf w n s = qs w n (Qf w n) s := by
  unfold Qf
  rw [tq_lt w n 32 s hs, tq_eq]
  exact qs_cg w hn hs (fun j hj => by rw [tq_lt w n s j hj, tq_lt w n 32 j (by omega)])
theorem Q_tq (w : Int → Int) {n k s : Nat} (hs : s < k) (hk : k ≤ 32) : tq w n k s = Qf w n s := by
  unfold Qf
  rw [tq_lt w n k s hs, tq_lt w n 32 s (by omega)]
theorem Q_up (w : Int → Int) {n s : Nat} {p : Int} (hn : n ≤ 5) (hs : s < 32) (h0 : 0 ≤ p) (h1 : p < n) (h : hb s p) : Qf w n (s - 2 ^ p.toNat) ≤ mx (Qf w n) n s := by
  have := (cmx (fun p => hb s p) (fun p => Qf w n (s - 2 ^ p.toNat)) n 0 0).2.1 p h0 (by omega) h
  exact this
theorem Q_ge (w : Int → Int) {n s : Nat} (hn : n ≤ 5) (hs : s < 32) : 0 ≤ mx (Qf w n) n s ∧ mx (Qf w n) n s ≤ Qf w n s := by
  have := (cmx (fun p => hb s p) (fun p => Qf w n (s - 2 ^ p.toNat)) n 0 0).1
  refine ⟨this, ?_⟩
  rw [Q_eq w hn hs]
  unfold qs
  split <;> omega
theorem Q_le (w : Int → Int) {n : Nat} (hn : n ≤ 5) : ∀ s : Nat, s < 32 → Qf w n s ≤ s := by
  intro s
  induction s using Nat.strongRecOn with
  | _ s ih =>
    intro hs
    have hm := (cmx (fun p => hb s p) (fun p => Qf w n (s - 2 ^ p.toNat)) n 0 0).2.2
    have hm : mx (Qf w n) n s = 0 ∨ ∃ p, 0 ≤ p ∧ p < 0 + (n : Int) ∧ hb s p ∧ mx (Qf w n) n s = Qf w n (s - 2 ^ p.toNat) := hm
    rw [Q_eq w hn hs]
    unfold qs
    rcases hm with h | ⟨p, h0, h1, h2, h3⟩
    · split <;> omega
    · have h4 := (y_rm hs h0 (show p < 5 by omega) h2).1
      have h5 : 0 < 2 ^ p.toNat := Nat.pow_pos (by omega)
      have := ih (s - 2 ^ p.toNat) (by omega) (by omega)
      split <;> omega
theorem p2_le {n : Nat} (hn : n ≤ 5) {s : Nat} (hs : s < 2 ^ n) : s < 32 := by
  have h2 : (2 : Nat) ^ n ≤ 2 ^ 5 := Nat.pow_le_pow_right (by omega) hn
  omega
theorem Q_mono (w : Int → Int) {n : Nat} (hn : n ≤ 5) : ∀ s : Nat, s < 2 ^ n → ∀ t : Nat, t < 32 → sb t s → Qf w n t ≤ Qf w n s := by
  intro s
  induction s using Nat.strongRecOn with
  | _ s ih =>
    intro hs t ht h
    have hs32 := p2_le hn hs
    by_cases he : t = s
    · subst he
      exact Int.le_refl _
    · obtain ⟨p, h1, h2⟩ := z_ex ⟨t, ht⟩ ⟨s, hs32⟩ h (fun h => he (Fin.mk.inj h))
      have h1 : hb (s : Int) (p.val : Int) := h1
      have h2 : sb t (s - 2 ^ p.val) := h2
      have hp := y_hi hn hs (show (0 : Int) ≤ (p.val : Int) by omega) (by omega) h1
      have h4 := (y_rm hs32 (show (0 : Int) ≤ (p.val : Int) by omega) (by omega) h1).1
      have h4 : 2 ^ p.val ≤ s := h4
      have h5 : 0 < 2 ^ p.val := Nat.pow_pos (by omega)
      have h6 := ih (s - 2 ^ p.val) (by omega) (by omega) t ht h2
      have h7 : Qf w n (s - 2 ^ p.val) ≤ mx (Qf w n) n s := Q_up w hn hs32 (show (0 : Int) ≤ (p.val : Int) by omega) hp h1
      have h8 := (Q_ge w hn hs32).2
      omega
theorem Q_core (w : Int → Int) {n : Nat} (hn : n ≤ 5) : ∀ t : Nat, t < 2 ^ n → 1 ≤ Qf w n t → ∃ u : Nat, u < 32 ∧ sb u t ∧ u ≠ 0 ∧ sm w n u = 0 ∧ Qf w n u = Qf w n t := by
  intro t
  induction t using Nat.strongRecOn with
  | _ t ih =>
    intro ht h1
    have ht32 := p2_le hn ht
    by_cases h0 : t = 0
    · have := Q_le w hn t ht32
      omega
    by_cases hz : sm w n t = 0
    · exact ⟨t, ht32, Nat.and_self t, h0, hz, rfl⟩
    · have e : Qf w n t = mx (Qf w n) n t := by
        rw [Q_eq w hn ht32]
        unfold qs
        rw [if_neg (fun h => hz h.2)]
        omega
      have hm := (cmx (fun p => hb t p) (fun p => Qf w n (t - 2 ^ p.toNat)) n 0 0).2.2
      have hm : mx (Qf w n) n t = 0 ∨ ∃ p, 0 ≤ p ∧ p < 0 + (n : Int) ∧ hb t p ∧ mx (Qf w n) n t = Qf w n (t - 2 ^ p.toNat) := hm
      rcases hm with h | ⟨p, h2, h3, h4, h5⟩
      · omega
      · obtain ⟨k, rfl⟩ : ∃ k : Nat, p = k := ⟨p.toNat, by omega⟩
        have h6 : 2 ^ k ≤ t := (y_rm ht32 h2 (show (k : Int) < 5 by omega) h4).1
        have h7 : 0 < 2 ^ k := Nat.pow_pos (by omega)
        have h5 : mx (Qf w n) n t = Qf w n (t - 2 ^ k) := h5
        obtain ⟨u, u1, u2, u3, u4, u5⟩ := ih (t - 2 ^ k) (by omega) (by omega) (by omega)
        have hsb := (z_of ⟨u, u1⟩ ⟨t, ht32⟩ ⟨k, by omega⟩ h4 u2).1
        exact ⟨u, u1, hsb, u3, u4, by rw [u5, e, h5]⟩
theorem Q_loop (w : Int → Int) {n s : Nat} (hn : n ≤ 5) (hs : s < 2 ^ n) (h0 : s ≠ 0) (hz : sm w n s = 0) : itr (fun (u t : Int) => if sb t.toNat s ∧ sm w n t.toNat = 0 then max u (1 + Qf w n (df s t.toNat)) else u) (s - 1) 1 1 = Qf w n s := by
  have hs32 := p2_le hn hs
  obtain ⟨c1, c2, c3⟩ := cmx (fun t : Int => sb t.toNat s ∧ sm w n t.toNat = 0) (fun t => 1 + Qf w n (df s t.toNat)) (s - 1) 1 1
  generalize itr (fun (u t : Int) => if sb t.toNat s ∧ sm w n t.toNat = 0 then max u (1 + Qf w n (df s t.toNat)) else u) (s - 1) 1 1 = r at c1 c2 c3 ⊢
  have hq : Qf w n s = mx (Qf w n) n s + 1 := by
    rw [Q_eq w hn hs32]
    unfold qs
    rw [if_pos ⟨h0, hz⟩]
  have hg := (Q_ge w hn hs32).1
  have hle : r ≤ Qf w n s := by
    rcases c3 with h | ⟨t, t1, t2, ⟨t3, t4⟩, t5⟩
    · omega
    · obtain ⟨k, rfl⟩ : ∃ k : Nat, t = k := ⟨t.toNat, by omega⟩
      have t3 : sb k s := t3
      have t5 : r = 1 + Qf w n (df s k) := t5
      obtain ⟨z1, z2, z3, z4, z5⟩ := z_lt ⟨k, by omega⟩ ⟨s, hs32⟩ t3
      obtain ⟨p, q1, q2⟩ := z5 (by show k ≠ 0; omega)
      have q1 : hb (s : Int) (p.val : Int) := q1
      have q2 : sb (df s k) (s - 2 ^ p.val) := q2
      have hp := y_hi hn hs (show (0 : Int) ≤ (p.val : Int) by omega) (by omega) q1
      have q3 : 2 ^ p.val ≤ s := (y_rm hs32 (show (0 : Int) ≤ (p.val : Int) by omega) (by omega) q1).1
      have q6 : 0 < 2 ^ p.val := Nat.pow_pos (by omega)
      have q4 := Q_mono w hn (s - 2 ^ p.val) (by omega) (df s k) z3 q2
      have q5 : Qf w n (s - 2 ^ p.val) ≤ mx (Qf w n) n s := Q_up w hn hs32 (show (0 : Int) ≤ (p.val : Int) by omega) hp q1
      omega
  have hge : Qf w n s ≤ r := by
    have hm := (cmx (fun p => hb s p) (fun p => Qf w n (s - 2 ^ p.toNat)) n 0 0).2.2
    have hm : mx (Qf w n) n s = 0 ∨ ∃ p, 0 ≤ p ∧ p < 0 + (n : Int) ∧ hb s p ∧ mx (Qf w n) n s = Qf w n (s - 2 ^ p.toNat) := hm
    by_cases hmz : mx (Qf w n) n s = 0
    · omega
    rcases hm with h | ⟨p, h2, h3, h4, h5⟩
    · omega
    · obtain ⟨k, rfl⟩ : ∃ k : Nat, p = k := ⟨p.toNat, by omega⟩
      have h5 : mx (Qf w n) n s = Qf w n (s - 2 ^ k) := h5
      have h6 : 2 ^ k ≤ s := (y_rm hs32 h2 (show (k : Int) < 5 by omega) h4).1
      have h7 : 0 < 2 ^ k := Nat.pow_pos (by omega)
      obtain ⟨u, u1, u2, u3, u4, u5⟩ := Q_core w hn (s - 2 ^ k) (by omega) (by omega)
      obtain ⟨v1, v2, v3, v4, v5, v6⟩ := z_of ⟨u, u1⟩ ⟨s, hs32⟩ ⟨k, by omega⟩ h4 u2
      have v1 : sb u s := v1
      have v3 : sb (df s u) s := v3
      have v4 : df s u ≠ 0 := v4
      have v5 : df s (df s u) = u := v5
      have v6 : df s u < s := v6 u3
      have hzz : sm w n (df s u) = 0 := by rw [sm_df w hn u1 hs32 v1, hz, u4]; rfl
      have := c2 ((df s u : Nat) : Int) (by omega) (by omega) ⟨v3, hzz⟩
      have this : 1 + Qf w n (df s (df s u)) ≤ r := this
      rw [v5] at this
      omega
  omega
/-! all who have a net -/
def al (w : Int → Int) : Nat → Nat
  | 0 => 0
  | n + 1 => if w n = 0 then al w n else al w n + 2 ^ n
theorem al_lt (w : Int → Int) : ∀ n, al w n < 2 ^ n := by
  intro n
  induction n with
  | zero => exact Nat.zero_lt_one
  | succ n ih =>
    show (if w n = 0 then al w n else al w n + 2 ^ n) < 2 ^ (n + 1)
    rw [Nat.pow_succ]
    split <;> omega
theorem al_bit (w : Int → Int) : ∀ n, n ≤ 5 → ∀ p : Nat, p < 5 → (hb (al w n : Int) (p : Int) ↔ p < n ∧ w p ≠ 0) := by
  intro n
  induction n with
  | zero =>
    intro _ p hp
    constructor
    · intro h
      have := y_hi (n := 0) (s := 0) (by omega) (by decide) (show (0 : Int) ≤ (p : Int) by omega) (by omega) h
      omega
    · intro h
      omega
  | succ n ih =>
    intro hn p hp
    have hlt := al_lt w n
    have h32 := p2_le (show n ≤ 5 by omega) hlt
    have e : al w (n + 1) = if w n = 0 then al w n else al w n + 2 ^ n := rfl
    rw [e]
    by_cases hw : w n = 0
    · rw [if_pos hw, ih (by omega) p hp]
      constructor
      · rintro ⟨h1, h2⟩
        exact ⟨by omega, h2⟩
      · rintro ⟨h1, h2⟩
        refine ⟨?_, h2⟩
        by_cases hpn : p = n
        · subst hpn
          exact absurd hw h2
        · omega
    · rw [if_neg hw]
      have := (z_or ⟨al w n, h32⟩ ⟨n, by omega⟩ hlt).2 ⟨p, hp⟩
      have this : hb ((al w n + 2 ^ n : Nat) : Int) (p : Int) ↔ hb (al w n : Int) (p : Int) ∨ (⟨p, hp⟩ : Fin 5) = ⟨n, by omega⟩ := this
      rw [this, ih (by omega) p hp]
      constructor
      · rintro (⟨h1, h2⟩ | h)
        · exact ⟨by omega, h2⟩
        · have := Fin.mk.inj h
          subst this
          exact ⟨by omega, hw⟩
      · rintro ⟨h1, h2⟩
        by_cases hpn : p = n
        · subst hpn
          exact Or.inr rfl
        · exact Or.inl ⟨by omega, h2⟩
theorem al_sm (w : Int → Int) {n : Nat} (hn : n ≤ 5) : sm w n (al w n) = su w n := by
  unfold sm
  refine su_cg n (fun p h0 h1 => ?_)
  obtain ⟨k, rfl⟩ : ∃ k : Nat, p = k := ⟨p.toNat, by omega⟩
  have := al_bit w n hn k (by omega)
  by_cases hc : hb (al w n : Int) (k : Int)
  · rw [if_pos hc]
  · rw [if_neg hc]
    by_cases hw : w k = 0
    · exact hw.symm
    · exact absurd (this.mpr ⟨by omega, hw⟩) hc
theorem al_itr (w : Int → Int) : ∀ n, n ≤ 5 → itr (fun (u : Int32) (p : Int) => u ||| (if w p = 0 then (0 : Int32) else i_shl 1 (ii p))) n 0 0 = ii (al w n) := by
  intro n
  induction n with
  | zero => intro _; rfl
  | succ n ih =>
    intro hn
    have hlt := al_lt w n
    have h32 := p2_le (show n ≤ 5 by omega) hlt
    rw [itr_end, ih (by omega)]
    show ii (al w n) ||| (if w (0 + (n : Int)) = 0 then (0 : Int32) else i_shl 1 (ii (0 + (n : Int)))) = ii ((if w n = 0 then al w n else al w n + 2 ^ n : Nat) : Int)
    rw [Int.zero_add]
    by_cases hw : w n = 0
    · rw [if_pos hw, if_pos hw]
      exact Int32.or_zero
    · rw [if_neg hw, if_neg hw]
      exact (z_or ⟨al w n, h32⟩ ⟨n, by omega⟩ hlt).1
def s_payments (h : Int) (ρ τ σ : Int → Int) : Int := if h = 1 then (bc (al (nt ρ σ) (ρ 2).toNat) : Int) - Qf (nt ρ σ) (ρ 2).toNat (al (nt ρ σ) (ρ 2).toNat) else -1
theorem nt_su (ρ σ : Int → Int) (n : Nat) (hn : (ρ 2).toNat = n) : su (nt ρ σ) n = 0 := by
  have h : su (nt ρ σ) n = su (fun p => su (fun q => σ (10 + 5 * q + p) - σ (10 + 5 * p + q)) n) n := su_cg n (fun p _ _ => by
    unfold nt
    rw [hn]
    exact itr_su (fun q => σ (10 + 5 * q + p) - σ (10 + 5 * p + q)) n)
  rw [h]
  exact su_anti (fun q p => σ (10 + 5 * q + p)) n
