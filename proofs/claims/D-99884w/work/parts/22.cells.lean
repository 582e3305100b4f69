/-! BASE 3: cells: what a method reads and writes, as functions; their rows -/
set_option maxRecDepth 100000
def asI : fk_T → Option Int32
  | Sum.inl x => some x
  | _ => none
def asL : fk_T → Option Int64
  | Sum.inr (Sum.inl x) => some x
  | _ => none
def asR : fk_T → Option (Option Nat)
  | Sum.inr (Sum.inr q) => some q
  | _ => none
theorem asI_eq {v : fk_T} {x : Int32} (h : asI v = some x) : v = tI x := by
  rcases v with y | y | y
  · cases h; rfl
  · cases h
  · cases h
theorem asL_eq {v : fk_T} {x : Int64} (h : asL v = some x) : v = tL x := by
  rcases v with y | y | y
  · cases h
  · cases h; rfl
  · cases h
theorem asR_eq {v : fk_T} {x : Option Nat} (h : asR v = some x) : v = tR x := by
  rcases v with y | y | y
  · cases h
  · cases h
  · cases h; rfl
/-- an object of the class ci: whether it may be written, its fields -/
def fk_o (mp : fk_M) (q : Option Nat) (ci : Nat) : Option (Bool × (Nat → fk_T)) := match q with
  | none => none
  | some a => match mp a with
    | some (w, Sum.inr (Sum.inr (Sum.inr (c, V)))) => if c = ci then some (w, V) else none
    | _ => none
theorem fk_o_eq {mp : fk_M} {q : Option Nat} {ci : Nat} {w : Bool} {V : Nat → fk_T} (h : fk_o mp q ci = some (w, V)) : ∃ a : Nat, q = some a ∧ mp a = some (w, oB ci V) := by
  unfold fk_o at h
  split at h
  · cases h
  · split at h
    · rename_i a _ w' c V' e
      by_cases hc : c = ci
      · rw [if_pos hc] at h
        cases h
        subst hc
        exact ⟨a, rfl, e⟩
      · rw [if_neg hc] at h
        cases h
    · cases h
def gI (mp : fk_M) (q : Option Nat) (ci k : Nat) : Option Int32 := (fk_o mp q ci).bind fun o => asI (o.2 k)
def gL (mp : fk_M) (q : Option Nat) (ci k : Nat) : Option Int64 := (fk_o mp q ci).bind fun o => asL (o.2 k)
def gR (mp : fk_M) (q : Option Nat) (ci k : Nat) : Option (Option Nat) := (fk_o mp q ci).bind fun o => asR (o.2 k)
theorem gI_eq {mp : fk_M} {q : Option Nat} {ci k : Nat} {x : Int32} (h : gI mp q ci k = some x) : ∃ (a : Nat) (w : Bool) (V : Nat → fk_T), q = some a ∧ mp a = some (w, oB ci V) ∧ V k = tI x := by
  obtain ⟨⟨w, V⟩, h1, h2⟩ := Option.bind_eq_some_iff.mp h
  obtain ⟨a, e1, e2⟩ := fk_o_eq h1
  exact ⟨a, w, V, e1, e2, asI_eq h2⟩
theorem gL_eq {mp : fk_M} {q : Option Nat} {ci k : Nat} {x : Int64} (h : gL mp q ci k = some x) : ∃ (a : Nat) (w : Bool) (V : Nat → fk_T), q = some a ∧ mp a = some (w, oB ci V) ∧ V k = tL x := by
  obtain ⟨⟨w, V⟩, h1, h2⟩ := Option.bind_eq_some_iff.mp h
  obtain ⟨a, e1, e2⟩ := fk_o_eq h1
  exact ⟨a, w, V, e1, e2, asL_eq h2⟩
theorem gR_eq {mp : fk_M} {q : Option Nat} {ci k : Nat} {x : Option Nat} (h : gR mp q ci k = some x) : ∃ (a : Nat) (w : Bool) (V : Nat → fk_T), q = some a ∧ mp a = some (w, oB ci V) ∧ V k = tR x := by
  obtain ⟨⟨w, V⟩, h1, h2⟩ := Option.bind_eq_some_iff.mp h
  obtain ⟨a, e1, e2⟩ := fk_o_eq h1
  exact ⟨a, w, V, e1, e2, asR_eq h2⟩
def fk_set (V : Nat → fk_T) (k : Nat) (v : fk_T) : Nat → fk_T := fun j => if j = k then v else V j
/-- a field is written -/
def pV (mp : fk_M) (q : Option Nat) (ci k : Nat) (v : fk_T) : Option fk_M := match q with
  | none => none
  | some a => match fk_o mp (some a) ci with
    | some (true, V) => some (fk_up mp a (oB ci (fk_set V k v)))
    | _ => none
theorem pV_eq {mp mp' : fk_M} {q : Option Nat} {ci k : Nat} {v : fk_T} (h : pV mp q ci k v = some mp') : ∃ (a : Nat) (V : Nat → fk_T), q = some a ∧ mp a = some (true, oB ci V) ∧ mp' = fk_up mp a (oB ci (fk_set V k v)) := by
  unfold pV at h
  split at h
  · cases h
  · split at h
    · rename_i a _ V e
      cases h
      obtain ⟨b, e1, e2⟩ := fk_o_eq e
      cases e1
      exact ⟨a, V, rfl, e2, rfl⟩
    · cases h
def pZ (mp : fk_M) (q : Option Nat) (ci k : Nat) (x : Int32) : Option fk_M := if x = 0 ∨ x = 1 then pV mp q ci k (tI x) else none
def pB (mp : fk_M) (q : Option Nat) (ci k : Nat) (x : Int32) : Option fk_M := if i_b x = x then pV mp q ci k (tI x) else none
theorem pZ_eq {mp mp' : fk_M} {q : Option Nat} {ci k : Nat} {x : Int32} (h : pZ mp q ci k x = some mp') : (x = 0 ∨ x = 1) ∧ pV mp q ci k (tI x) = some mp' := by
  unfold pZ at h
  split at h
  · rename_i hx; exact ⟨hx, h⟩
  · cases h
theorem pB_eq {mp mp' : fk_M} {q : Option Nat} {ci k : Nat} {x : Int32} (h : pB mp q ci k x = some mp') : i_b x = x ∧ pV mp q ci k (tI x) = some mp' := by
  unfold pB at h
  split at h
  · rename_i hx; exact ⟨hx, h⟩
  · cases h
def fk_fit (ty : FieldType) (v : fk_T) : Prop := narrow ty (fk_v v) = fk_v v ∧ fits ty (fk_v v) = true
theorem fit_I (x : Int32) : fk_fit .int (tI x) := ⟨rfl, rfl⟩
theorem fit_J (x : Int64) : fk_fit .long (tL x) := ⟨rfl, rfl⟩
theorem fit_Z {x : Int32} (h : x = 0 ∨ x = 1) : fk_fit .boolean (tI x) := by
  rcases h with rfl | rfl
  · exact ⟨by decide +kernel, by decide +kernel⟩
  · exact ⟨by decide +kernel, by decide +kernel⟩
theorem fit_B {x : Int32} (h : i_b x = x) : fk_fit .byte (tI x) := by
  constructor
  · show Value.int (i_b x) = Value.int x
    rw [h]
  · show fits .byte (.int x) = true
    rw [← h]
    exact pk_fb x
theorem fit_R {C : String} (q : Option Nat) : fk_fit (.object C) (tR q) := by cases q <;> exact ⟨rfl, rfl⟩
theorem fit_A {t : FieldType} (q : Option Nat) : fk_fit (.array t) (tR q) := by cases q <;> exact ⟨rfl, rfl⟩
/-- a field of a class of ours: its place, name, kind -/
def fk_Fd (ci k : Nat) (O nm ds : String) (ty : FieldType) (fin : Bool) : Prop := ∃ (C : String) (T : u_T) (N : Nat) (tyf : Nat → FieldType), fk_cl[ci]? = some (C, T, N) ∧ k < N ∧ T k = (O, nm, ds, fin) ∧ (∀ w ∈ u_ws C T N, w ∈ lw_all) ∧ (∀ j, j < N → parseFieldDescriptor (T j).2.2.1 = some (tyf j)) ∧ (∀ a, a < N → ∀ b, b < N → a ≠ b → (T a).2.1 ≠ (T b).2.1) ∧ parseFieldDescriptor ds = some ty
section FKC
variable {E : fk_E} {l0 : Launch} {G0 : fk_G} {b00 : Nat} {own mn : String} {cc : ByteArray} {nL fr lo rc rs n cs sl pc : Nat} {mp : fk_M} {lv : List (Nat × fk_T)} {st : List fk_T}
theorem fk_getV (X : fk_X E l0 G0 b00 own mn cc nL fr lo rc rs) {a ci k index : Nat} {w : Bool} {V : Nat → fk_T} {v : fk_T} {O nm ds ref : String} {ty : FieldType} {fin : Bool} (F : fk_Fd ci k O nm ds ty fin) (hs : ref = O ∨ Cond.sameField ref O nm ds ∈ lw_all) (lk : Cond.fieldLink own index ref nm ds ∈ lw_all) (d : decode cc pc = .ok (.getfield index, 3)) (ha : mp a = some (w, oB ci V)) (hv : V k = v) (kk : fk_W E nL n mp cs sl (pc + 3) lv (v :: st)) : fk_W E nL n mp cs sl pc lv (tR (some a) :: st) := by
  obtain ⟨p, l, e, R, s, m, args, below, meth, c, G, b0, Q⟩ := E
  obtain ⟨⟨⟨hx, hb, hml, hown, hts⟩, hK⟩, ⟨rfl, rfl, rfl⟩, hmn, hfr, hlo, hrc, hrs⟩ := X
  intro H locs ls hR hS hl
  obtain ⟨C, T, N, tyf, hcl, hk, hT, hin, hty, hnm, hd⟩ := F
  obtain ⟨⟨r, h1, cell, q1, q2, q3, q4⟩, -⟩ := hR.2.2 a w _ ha
  have hr : r = (C, T, N) := Option.some.inj (h1.symm.trans hcl)
  subst hr
  obtain ⟨hSl, hfc, kC, hkC, hkind⟩ := hK.1 ci _ hcl
  obtain ⟨cf, kf, fi, f, hi, hsl⟩ := hSl k hk
  have hst := (u_facts hfc hkC (u_lays hts hin hk) hi).1
  have hi : s.fieldFound? (T k).1 (T k).2.1 (T k).2.2.1 = some (cf, kf, fi, f) := hi
  rw [hT] at hi
  have hi2 : s.fieldFound? ref nm ds = some (cf, kf, fi, f) := by
    rcases hs with rfl | hs
    · exact hi
    · exact u_same (hts _ hs) _ hi
  refine W.getf hx hb hown (hts _ lk) hi2 hst q1 (by rw [q3]; exact fun h => by cases h) (v := fk_v v) ?_ rfl rfl d (kk H locs ls hR hS hl)
  rw [hsl, q4 k hk]
  show some (fk_v (V k)) = some (fk_v v)
  rw [hv]
theorem fk_getI (X : fk_X E l0 G0 b00 own mn cc nL fr lo rc rs) {q : Option Nat} {ci k index : Nat} {x : Int32} {O nm ds : String} {ty : FieldType} {fin : Bool} (F : fk_Fd ci k O nm ds ty fin) (lk : Cond.fieldLink own index O nm ds ∈ lw_all) (d : decode cc pc = .ok (.getfield index, 3)) (hv : gI mp q ci k = some x) (kk : fk_W E nL n mp cs sl (pc + 3) lv (tI x :: st)) : fk_W E nL n mp cs sl pc lv (tR q :: st) := by
  obtain ⟨a, w, V, rfl, h2, h3⟩ := gI_eq hv
  exact fk_getV X F (Or.inl rfl) lk d h2 h3 kk
theorem fk_getL (X : fk_X E l0 G0 b00 own mn cc nL fr lo rc rs) {q : Option Nat} {ci k index : Nat} {x : Int64} {O nm ds : String} {ty : FieldType} {fin : Bool} (F : fk_Fd ci k O nm ds ty fin) (lk : Cond.fieldLink own index O nm ds ∈ lw_all) (d : decode cc pc = .ok (.getfield index, 3)) (hv : gL mp q ci k = some x) (kk : fk_W E nL n mp cs sl (pc + 3) lv (tL x :: st)) : fk_W E nL n mp cs sl pc lv (tR q :: st) := by
  obtain ⟨a, w, V, rfl, h2, h3⟩ := gL_eq hv
  exact fk_getV X F (Or.inl rfl) lk d h2 h3 kk
theorem fk_getR (X : fk_X E l0 G0 b00 own mn cc nL fr lo rc rs) {q : Option Nat} {ci k index : Nat} {x : Option Nat} {O nm ds : String} {ty : FieldType} {fin : Bool} (F : fk_Fd ci k O nm ds ty fin) (lk : Cond.fieldLink own index O nm ds ∈ lw_all) (d : decode cc pc = .ok (.getfield index, 3)) (hv : gR mp q ci k = some x) (kk : fk_W E nL n mp cs sl (pc + 3) lv (tR x :: st)) : fk_W E nL n mp cs sl pc lv (tR q :: st) := by
  obtain ⟨a, w, V, rfl, h2, h3⟩ := gR_eq hv
  exact fk_getV X F (Or.inl rfl) lk d h2 h3 kk
theorem fk_getIs (X : fk_X E l0 G0 b00 own mn cc nL fr lo rc rs) {q : Option Nat} {ci k index : Nat} {x : Int32} {O nm ds ref : String} {ty : FieldType} {fin : Bool} (F : fk_Fd ci k O nm ds ty fin) (hs : Cond.sameField ref O nm ds ∈ lw_all) (lk : Cond.fieldLink own index ref nm ds ∈ lw_all) (d : decode cc pc = .ok (.getfield index, 3)) (hv : gI mp q ci k = some x) (kk : fk_W E nL n mp cs sl (pc + 3) lv (tI x :: st)) : fk_W E nL n mp cs sl pc lv (tR q :: st) := by
  obtain ⟨a, w, V, rfl, h2, h3⟩ := gI_eq hv
  exact fk_getV X F (Or.inr hs) lk d h2 h3 kk
theorem fk_S_put {b0 : Nat} {H0 H H1 : Heap} {locs : List Loc} {a k : Nat} (h : va_S (fun q => b0 ≤ q) H0 H locs) (z : H1.size = H.size) (oq : ∀ q : Nat, q ≠ a → H1[q]? = H[q]?) (ha : b0 ≤ a) : va_S (fun q => b0 ≤ q) H0 H1 (locs ++ [⟨a, k⟩]) := h.put z oq ha
theorem fk_putV (X : fk_X E l0 G0 b00 own mn cc nL fr lo rc rs) {q : Option Nat} {ci k index : Nat} {v : fk_T} {mp' : fk_M} {O nm ds ref : String} {ty : FieldType} (F : fk_Fd ci k O nm ds ty false) (hs : ref = O ∨ Cond.sameField ref O nm ds ∈ lw_all) (lk : Cond.fieldLink own index ref nm ds ∈ lw_all) (d : decode cc pc = .ok (.putfield index, 3)) (hf : fk_fit ty v) (hv : pV mp q ci k v = some mp') (kk : fk_W E nL n mp' cs sl (pc + 3) lv st) : fk_W E nL n mp cs sl pc lv (v :: tR q :: st) := by
  obtain ⟨a, V, rfl, ha, rfl⟩ := pV_eq hv
  obtain ⟨p, l, e, R, s, m, args, below, meth, c, G, b0, Q⟩ := E
  obtain ⟨⟨⟨hx, hb, hml, hown, hts⟩, hK⟩, ⟨rfl, rfl, rfl⟩, hmn, hfr, hlo, hrc, hrs⟩ := X
  intro H locs ls hR hS hl
  obtain ⟨C, T, N, tyf, hcl, hk, hT, hin, hty, hnm, hd⟩ := F
  obtain ⟨⟨r, h1, cell, q1, q2, q3, q4⟩, hw⟩ := hR.2.2 a true _ ha
  have hr : r = (C, T, N) := Option.some.inj (h1.symm.trans hcl)
  subst hr
  have hKn := hK.1 ci _ hcl
  obtain ⟨hSl, hfc, kC, hkC, hkind⟩ := hKn
  have hap : ∀ x y, x < N → y < N → x ≠ y → (G.1.2 ci) x ≠ (G.1.2 ci) y := by
    intro x y hx1 hy1 hne
    obtain ⟨_, _, _, fa, hia, ea⟩ := hSl x hx1
    obtain ⟨_, _, _, fb, hib, eb⟩ := hSl y hy1
    rw [← ea, ← eb]
    refine u_apart (u_lays hts hin hx1) (u_lays hts hin hy1) hia hib ?_
    rw [(State.fieldFound?_type hia (hty x hx1)).1, (State.fieldFound?_type hib (hty y hy1)).1]
    exact hnm x hx1 y hy1 hne
  obtain ⟨cf, kf, fi, f, hi, hsl⟩ := hSl k hk
  have hlay := hts _ (hin _ (u_in_lay hk))
  unfold u_lay at hlay
  have hi : s.fieldFound? (T k).1 (T k).2.1 (T k).2.2.1 = some (cf, kf, fi, f) := hi
  rw [hT] at hlay hi
  rw [if_neg (show ¬ false = true from fun h => by cases h)] at hlay
  have hst := (u_facts hfc hkC (Or.inl hlay) hi).1
  have h6 := u_store hfc hkC hkind hlay hi hd hf.1 hf.2
  have hi2 : s.fieldFound? ref nm ds = some (cf, kf, fi, f) := by
    rcases hs with rfl | hs
    · exact hi
    · exact u_same (hts _ hs) _ hi
  refine W.putK hx hb (f := f) ⟨hown, hts _ lk, ⟨_, _, _, hi2⟩, hst⟩ (by rw [q2]; exact h6) q1 q3 (by rw [hsl]; exact k2_hasslot (q4 k hk)) rfl rfl d fun H' e1 e2 e3 => ?_
  rw [hsl] at e1 ⊢
  refine kk H' _ ls (hR.set ha ⟨_, hcl, t_OB.to (V := updV (fun j => fk_v (V j)) k (fk_v v)) ⟨_, e1, q2, q3, t_set q4 hap hk (fk_v v)⟩ (fun j _ => ?_)⟩ e2 e3) (fk_S_put hS e2 e3 (hw rfl)) hl
  unfold updV fk_set
  by_cases hj : j = k
  · rw [if_pos hj, if_pos hj]
  · rw [if_neg hj, if_neg hj]
/-- a final field, in its class's constructor -/
theorem fk_putF (X : fk_X E l0 G0 b00 own "<init>" cc nL fr lo rc rs) {q : Option Nat} {ci k index : Nat} {v : fk_T} {mp' : fk_M} {nm ds : String} {ty : FieldType} (F : fk_Fd ci k own nm ds ty true) (lk : Cond.fieldLink own index own nm ds ∈ lw_all) (d : decode cc pc = .ok (.putfield index, 3)) (hf : fk_fit ty v) (hv : pV mp q ci k v = some mp') (kk : fk_W E nL n mp' cs sl (pc + 3) lv st) : fk_W E nL n mp cs sl pc lv (v :: tR q :: st) := by
  obtain ⟨a, V, rfl, ha, rfl⟩ := pV_eq hv
  obtain ⟨p, l, e, R, s, m, args, below, meth, c, G, b0, Q⟩ := E
  obtain ⟨⟨⟨hx, hb, hml, hown, hts⟩, hK⟩, ⟨rfl, rfl, rfl⟩, hmn, hfr, hlo, hrc, hrs⟩ := X
  intro H locs ls hR hS hl
  obtain ⟨C, T, N, tyf, hcl, hk, hT, hin, hty, hnm, hd⟩ := F
  obtain ⟨⟨r, h1, cell, q1, q2, q3, q4⟩, hw⟩ := hR.2.2 a true _ ha
  have hr : r = (C, T, N) := Option.some.inj (h1.symm.trans hcl)
  subst hr
  have hKn := hK.1 ci _ hcl
  obtain ⟨hSl, hfc, kC, hkC, hkind⟩ := hKn
  have hap : ∀ x y, x < N → y < N → x ≠ y → (G.1.2 ci) x ≠ (G.1.2 ci) y := by
    intro x y hx1 hy1 hne
    obtain ⟨_, _, _, fa, hia, ea⟩ := hSl x hx1
    obtain ⟨_, _, _, fb, hib, eb⟩ := hSl y hy1
    rw [← ea, ← eb]
    refine u_apart (u_lays hts hin hx1) (u_lays hts hin hy1) hia hib ?_
    rw [(State.fieldFound?_type hia (hty x hx1)).1, (State.fieldFound?_type hib (hty y hy1)).1]
    exact hnm x hx1 y hy1 hne
  obtain ⟨cf, kf, fi, f, hi, hsl⟩ := hSl k hk
  have hlay := hts _ (hin _ (u_in_lay hk))
  unfold u_lay at hlay
  have hi : s.fieldFound? (T k).1 (T k).2.1 (T k).2.2.1 = some (cf, kf, fi, f) := hi
  rw [hT] at hlay hi
  rw [if_pos rfl] at hlay
  have hst := (u_facts hfc hkC (Or.inr hlay) hi).1
  have hcf : m.cls = cf := by
    obtain ⟨_, _, c', _, _, _, -, -, hf', -, -, -, hown2, -⟩ := Cond.laysFinal_spec hlay
    have e1 : c' = cf := by have := hi.symm.trans hf'; simp at this; exact this.1.symm
    rw [← e1]; exact Option.some.inj (hown.symm.trans hown2)
  have h6 := u_fits hfc hkC hkind (Or.inr hlay) hi hd hf.1 hf.2
  refine W.putFinK hx hb hown (hts _ lk) hi hst hcf hmn (by rw [q2]; exact h6) q1 q3 (by rw [hsl]; exact k2_hasslot (q4 k hk)) rfl rfl d fun H' e1 e2 e3 => ?_
  rw [hsl] at e1 ⊢
  refine kk H' _ ls (hR.set ha ⟨_, hcl, t_OB.to (V := updV (fun j => fk_v (V j)) k (fk_v v)) ⟨_, e1, q2, q3, t_set q4 hap hk (fk_v v)⟩ (fun j _ => ?_)⟩ e2 e3) (fk_S_put hS e2 e3 (hw rfl)) hl
  unfold updV fk_set
  by_cases hj : j = k
  · rw [if_pos hj, if_pos hj]
  · rw [if_neg hj, if_neg hj]
end FKC
