/-! BASE 5: arrays, new cells, casts, statics -/
set_option maxRecDepth 100000
def fk_nr (t : Nat) (x : Int32) : Int32 := match t with
  | 0 => x
  | 1 => i_b x
  | _ => i_s x
/-- an element of an array of the kind t -/
def aI (mp : fk_M) (q : Option Nat) (t : Nat) (i : Int32) : Option Int32 := match q with
  | none => none
  | some a => match mp a with
    | some (_, Sum.inl (t', n, f)) => if t' = t then (if i < 0 ∨ n ≤ i.toNatClampNeg then none else some (f i.toNatClampNeg)) else none
    | _ => none
theorem aI_eq {mp : fk_M} {q : Option Nat} {t : Nat} {i x : Int32} (h : aI mp q t i = some x) : ∃ (a : Nat) (w : Bool) (n : Nat) (f : Nat → Int32), q = some a ∧ mp a = some (w, aN t n f) ∧ vp_in i n ∧ x = f i.toNatClampNeg := by
  unfold aI at h
  split at h
  · cases h
  · split at h
    · rename_i a _ w t' n f e
      by_cases ht : t' = t
      · subst ht
        rw [if_pos rfl] at h
        by_cases hi : i < 0 ∨ n ≤ i.toNatClampNeg
        · rw [if_pos hi] at h; cases h
        · rw [if_neg hi] at h
          exact ⟨a, w, n, f, rfl, e, hi, (Option.some.inj h).symm⟩
      · rw [if_neg ht] at h; cases h
    · cases h
/-- an element is written -/
def sI (mp : fk_M) (q : Option Nat) (t : Nat) (i x : Int32) : Option fk_M := match q with
  | none => none
  | some a => match mp a with
    | some (true, Sum.inl (t', n, f)) => if t' = t then (if i < 0 ∨ n ≤ i.toNatClampNeg then none else some (fk_up mp a (aN t n (upd f i.toNatClampNeg (fk_nr t x))))) else none
    | _ => none
theorem sI_eq {mp mp' : fk_M} {q : Option Nat} {t : Nat} {i x : Int32} (h : sI mp q t i x = some mp') : ∃ (a n : Nat) (f : Nat → Int32), q = some a ∧ mp a = some (true, aN t n f) ∧ vp_in i n ∧ mp' = fk_up mp a (aN t n (upd f i.toNatClampNeg (fk_nr t x))) := by
  unfold sI at h
  split at h
  · cases h
  · split at h
    · rename_i a _ t' n f e
      by_cases ht : t' = t
      · subst ht
        rw [if_pos rfl] at h
        by_cases hi : i < 0 ∨ n ≤ i.toNatClampNeg
        · rw [if_pos hi] at h; cases h
        · rw [if_neg hi] at h
          exact ⟨a, n, f, rfl, e, hi, (Option.some.inj h).symm⟩
      · rw [if_neg ht] at h; cases h
    · cases h
/-- .. of longs -/
def aL (mp : fk_M) (q : Option Nat) (i : Int32) : Option Int64 := match q with
  | none => none
  | some a => match mp a with
    | some (_, Sum.inr (Sum.inl (n, f))) => if i < 0 ∨ n ≤ i.toNatClampNeg then none else some (f i.toNatClampNeg)
    | _ => none
theorem aL_eq {mp : fk_M} {q : Option Nat} {i : Int32} {x : Int64} (h : aL mp q i = some x) : ∃ (a : Nat) (w : Bool) (n : Nat) (f : Nat → Int64), q = some a ∧ mp a = some (w, aJ n f) ∧ vp_in i n ∧ x = f i.toNatClampNeg := by
  unfold aL at h
  split at h
  · cases h
  · split at h
    · rename_i a _ w n f e
      by_cases hi : i < 0 ∨ n ≤ i.toNatClampNeg
      · rw [if_pos hi] at h; cases h
      · rw [if_neg hi] at h
        exact ⟨a, w, n, f, rfl, e, hi, (Option.some.inj h).symm⟩
    · cases h
def sL (mp : fk_M) (q : Option Nat) (i : Int32) (x : Int64) : Option fk_M := match q with
  | none => none
  | some a => match mp a with
    | some (true, Sum.inr (Sum.inl (n, f))) => if i < 0 ∨ n ≤ i.toNatClampNeg then none else some (fk_up mp a (aJ n (vp_updL f i.toNatClampNeg x)))
    | _ => none
theorem sL_eq {mp mp' : fk_M} {q : Option Nat} {i : Int32} {x : Int64} (h : sL mp q i x = some mp') : ∃ (a n : Nat) (f : Nat → Int64), q = some a ∧ mp a = some (true, aJ n f) ∧ vp_in i n ∧ mp' = fk_up mp a (aJ n (vp_updL f i.toNatClampNeg x)) := by
  unfold sL at h
  split at h
  · cases h
  · split at h
    · rename_i a _ n f e
      by_cases hi : i < 0 ∨ n ≤ i.toNatClampNeg
      · rw [if_pos hi] at h; cases h
      · rw [if_neg hi] at h
        exact ⟨a, n, f, rfl, e, hi, (Option.some.inj h).symm⟩
    · cases h
/-- .. of references -/
def aR (mp : fk_M) (q : Option Nat) (i : Int32) : Option (Option Nat) := match q with
  | none => none
  | some a => match mp a with
    | some (_, Sum.inr (Sum.inr (Sum.inl (n, f)))) => if i < 0 ∨ n ≤ i.toNatClampNeg then none else some (f i.toNatClampNeg)
    | _ => none
theorem aR_eq {mp : fk_M} {q : Option Nat} {i : Int32} {x : Option Nat} (h : aR mp q i = some x) : ∃ (a : Nat) (w : Bool) (n : Nat) (f : Nat → Option Nat), q = some a ∧ mp a = some (w, aQ n f) ∧ vp_in i n ∧ x = f i.toNatClampNeg := by
  unfold aR at h
  split at h
  · cases h
  · split at h
    · rename_i a _ w n f e
      by_cases hi : i < 0 ∨ n ≤ i.toNatClampNeg
      · rw [if_pos hi] at h; cases h
      · rw [if_neg hi] at h
        exact ⟨a, w, n, f, rfl, e, hi, (Option.some.inj h).symm⟩
    · cases h
/-- what may be put into an Object[]: null, a pair, a debt, a heard one, a stage -/
def fk_ok (mp : fk_M) (v : Option Nat) : Bool := match v with
  | none => true
  | some b => match mp b with
    | some (_, Sum.inr (Sum.inr (Sum.inr (c, _)))) => c == 6 || (c == 11 || (c == 12 || c == 13))
    | _ => false
def sR (mp : fk_M) (q : Option Nat) (i : Int32) (v : Option Nat) : Option fk_M := match q with
  | none => none
  | some a => match mp a with
    | some (true, Sum.inr (Sum.inr (Sum.inl (n, f)))) => if i < 0 ∨ n ≤ i.toNatClampNeg then none else (if fk_ok mp v = true then some (fk_up mp a (aQ n (va_up f i.toNatClampNeg v))) else none)
    | _ => none
theorem sR_eq {mp mp' : fk_M} {q : Option Nat} {i : Int32} {v : Option Nat} (h : sR mp q i v = some mp') : ∃ (a n : Nat) (f : Nat → Option Nat), q = some a ∧ mp a = some (true, aQ n f) ∧ vp_in i n ∧ fk_ok mp v = true ∧ mp' = fk_up mp a (aQ n (va_up f i.toNatClampNeg v)) := by
  unfold sR at h
  split at h
  · cases h
  · split at h
    · rename_i a _ n f e
      by_cases hi : i < 0 ∨ n ≤ i.toNatClampNeg
      · rw [if_pos hi] at h; cases h
      · rw [if_neg hi] at h
        by_cases hk : fk_ok mp v = true
        · rw [if_pos hk] at h
          exact ⟨a, n, f, rfl, e, hi, hk, (Option.some.inj h).symm⟩
        · rw [if_neg hk] at h; cases h
    · cases h
def aLn (mp : fk_M) (q : Option Nat) : Option Int32 := match q with
  | none => none
  | some a => match mp a with
    | some (_, Sum.inl (_, n, _)) => some (Int32.ofNat n)
    | some (_, Sum.inr (Sum.inl (n, _))) => some (Int32.ofNat n)
    | some (_, Sum.inr (Sum.inr (Sum.inl (n, _)))) => some (Int32.ofNat n)
    | _ => none
theorem fk_arrI {G : fk_G} {b0 t n : Nat} {s : State} {f : Nat → Int32} (hK : fk_K G b0 s) (ht : t < 5) : s.isArrayOf (arrV (G.2.1 t) n (fun j => .int (f j))) (fk_ty t) := (hK.2.1 t ht).1 n _
theorem fk_upI (f : Nat → Int32) (k : Nat) (x : Int32) : updV (fun j => Value.int (f j)) k (.int x) = fun j => Value.int (upd f k x j) := by
  funext j
  unfold updV upd
  by_cases h : j = k
  · rw [if_pos h, if_pos h]
  · rw [if_neg h, if_neg h]
theorem fk_fits_up {ty : FieldType} {f : Nat → Int32} {k : Nat} {x : Int32} (h : ∀ j : Nat, fits ty (.int (f j)) = true) (hx : fits ty (.int x) = true) : ∀ j : Nat, fits ty (.int (upd f k x j)) = true := by
  intro j
  unfold upd
  by_cases e : j = k
  · rw [if_pos e]; exact hx
  · rw [if_neg e]; exact h j
section FKA
variable {E : fk_E} {l0 : Launch} {G0 : fk_G} {b00 : Nat} {own mn : String} {cc : ByteArray} {nL fr lo rc rs n cs sl pc : Nat} {mp : fk_M} {lv : List (Nat × fk_T)} {st : List fk_T}
theorem fk_iaload (X : fk_X E l0 G0 b00 own mn cc nL fr lo rc rs) {q : Option Nat} {i x : Int32} (d : decode cc pc = .ok (.iaload, 1)) (hv : aI mp q 0 i = some x) (kk : fk_W E nL n mp cs sl (pc + 1) lv (tI x :: st)) : fk_W E nL n mp cs sl pc lv (tI i :: tR q :: st) := by
  obtain ⟨a, w, k, f, rfl, ha, hi, rfl⟩ := aI_eq hv
  obtain ⟨p, l, e, R, s, m, args, below, meth, c, G, b0, Q⟩ := E
  obtain ⟨⟨⟨hx, hb, hml, hown, hts⟩, hK⟩, ⟨rfl, rfl, rfl⟩, hmn, hfr, hlo, hrc, hrs⟩ := X
  intro H locs ls hR hS hl
  have hlt : i.toNatClampNeg < k := Nat.not_le.mp fun q => hi (Or.inr q)
  exact W.iald (v := .int (f i.toNatClampNeg)) hx hb (hR.2.2 a w _ ha).1.2 (fk_arrI hK (by decide)) (fun q => by cases q) (by rw [arrV_size]; exact hi) (by rw [arrV_read _ _ hlt]) rfl rfl d (kk H locs ls hR hS hl)
theorem fk_baload (X : fk_X E l0 G0 b00 own mn cc nL fr lo rc rs) {q : Option Nat} {i x : Int32} (d : decode cc pc = .ok (.baload, 1)) (hv : aI mp q 1 i = some x) (kk : fk_W E nL n mp cs sl (pc + 1) lv (tI x :: st)) : fk_W E nL n mp cs sl pc lv (tI i :: tR q :: st) := by
  obtain ⟨a, w, k, f, rfl, ha, hi, rfl⟩ := aI_eq hv
  obtain ⟨p, l, e, R, s, m, args, below, meth, c, G, b0, Q⟩ := E
  obtain ⟨⟨⟨hx, hb, hml, hown, hts⟩, hK⟩, ⟨rfl, rfl, rfl⟩, hmn, hfr, hlo, hrc, hrs⟩ := X
  intro H locs ls hR hS hl
  have hlt : i.toNatClampNeg < k := Nat.not_le.mp fun q => hi (Or.inr q)
  exact W.bald (v := .int (f i.toNatClampNeg)) hx hb (hR.2.2 a w _ ha).1.2 (fk_arrI hK (by decide)) (fun q => by cases q) (by rw [arrV_size]; exact hi) (by rw [arrV_read _ _ hlt]) rfl rfl d (kk H locs ls hR hS hl)
theorem fk_saload (X : fk_X E l0 G0 b00 own mn cc nL fr lo rc rs) {q : Option Nat} {i x : Int32} (d : decode cc pc = .ok (.saload, 1)) (hv : aI mp q 2 i = some x) (kk : fk_W E nL n mp cs sl (pc + 1) lv (tI x :: st)) : fk_W E nL n mp cs sl pc lv (tI i :: tR q :: st) := by
  obtain ⟨a, w, k, f, rfl, ha, hi, rfl⟩ := aI_eq hv
  obtain ⟨p, l, e, R, s, m, args, below, meth, c, G, b0, Q⟩ := E
  obtain ⟨⟨⟨hx, hb, hml, hown, hts⟩, hK⟩, ⟨rfl, rfl, rfl⟩, hmn, hfr, hlo, hrc, hrs⟩ := X
  intro H locs ls hR hS hl
  have hlt : i.toNatClampNeg < k := Nat.not_le.mp fun q => hi (Or.inr q)
  exact W.sald (v := .int (f i.toNatClampNeg)) hx hb (hR.2.2 a w _ ha).1.2 (fk_arrI hK (by decide)) (fun q => by cases q) (by rw [arrV_size]; exact hi) (by rw [arrV_read _ _ hlt]) rfl rfl d (kk H locs ls hR hS hl)
theorem fk_laload (X : fk_X E l0 G0 b00 own mn cc nL fr lo rc rs) {q : Option Nat} {i : Int32} {x : Int64} (d : decode cc pc = .ok (.laload, 1)) (hv : aL mp q i = some x) (kk : fk_W E nL n mp cs sl (pc + 1) lv (tL x :: st)) : fk_W E nL n mp cs sl pc lv (tI i :: tR q :: st) := by
  obtain ⟨a, w, k, f, rfl, ha, hi, rfl⟩ := aL_eq hv
  obtain ⟨p, l, e, R, s, m, args, below, meth, c, G, b0, Q⟩ := E
  obtain ⟨⟨⟨hx, hb, hml, hown, hts⟩, hK⟩, ⟨rfl, rfl, rfl⟩, hmn, hfr, hlo, hrc, hrs⟩ := X
  intro H locs ls hR hS hl
  have hlt : i.toNatClampNeg < k := Nat.not_le.mp fun q => hi (Or.inr q)
  exact W.lald (v := .long (f i.toNatClampNeg)) hx hb (hR.2.2 a w _ ha).1 ((hK.2.1 3 (by decide)).1 k _) (fun q => by cases q) (by rw [arrV_size]; exact hi) (by rw [arrV_read _ _ hlt]) rfl rfl d (kk H locs ls hR hS hl)
theorem fk_aaload (X : fk_X E l0 G0 b00 own mn cc nL fr lo rc rs) {q : Option Nat} {i : Int32} {x : Option Nat} (d : decode cc pc = .ok (.aaload, 1)) (hv : aR mp q i = some x) (kk : fk_W E nL n mp cs sl (pc + 1) lv (tR x :: st)) : fk_W E nL n mp cs sl pc lv (tI i :: tR q :: st) := by
  obtain ⟨a, w, k, f, rfl, ha, hi, rfl⟩ := aR_eq hv
  obtain ⟨p, l, e, R, s, m, args, below, meth, c, G, b0, Q⟩ := E
  obtain ⟨⟨⟨hx, hb, hml, hown, hts⟩, hK⟩, ⟨rfl, rfl, rfl⟩, hmn, hfr, hlo, hrc, hrs⟩ := X
  intro H locs ls hR hS hl
  have hlt : i.toNatClampNeg < k := Nat.not_le.mp fun q => hi (Or.inr q)
  exact W.aald (v := va_rf (f i.toNatClampNeg)) hx hb (hR.2.2 a w _ ha).1 ((hK.2.1 4 (by decide)).1 k _) rfl (fun q => by cases q) (by rw [arrV_size]; exact hi) (by rw [arrV_read _ _ hlt]) rfl rfl d (kk H locs ls hR hS hl)
theorem fk_iastore (X : fk_X E l0 G0 b00 own mn cc nL fr lo rc rs) {q : Option Nat} {i x : Int32} {mp' : fk_M} (d : decode cc pc = .ok (.iastore, 1)) (hv : sI mp q 0 i x = some mp') (kk : fk_W E nL n mp' cs sl (pc + 1) lv st) : fk_W E nL n mp cs sl pc lv (tI x :: tI i :: tR q :: st) := by
  obtain ⟨a, k, f, rfl, ha, hi, rfl⟩ := sI_eq hv
  obtain ⟨p, l, e, R, s, m, args, below, meth, c, G, b0, Q⟩ := E
  obtain ⟨⟨⟨hx, hb, hml, hown, hts⟩, hK⟩, ⟨rfl, rfl, rfl⟩, hmn, hfr, hlo, hrc, hrs⟩ := X
  intro H locs ls hR hS hl
  obtain ⟨⟨⟨h3, hfit⟩, hcell⟩, hw⟩ := hR.2.2 a true _ ha
  refine W.iast hx hb hcell (fk_arrI hK (by decide)) (fun q => by cases q) (by rw [arrV_size]; exact hi) rfl rfl d fun H1 e1 z oq => ?_
  refine kk H1 _ ls (hR.set ha ⟨⟨h3, fk_fits_up hfit rfl⟩, ?_⟩ z oq) (fk_S_put hS z oq (hw rfl)) hl
  rw [e1, arrV_store, fk_upI]
  rfl
theorem fk_bastore (X : fk_X E l0 G0 b00 own mn cc nL fr lo rc rs) {q : Option Nat} {i x : Int32} {mp' : fk_M} (d : decode cc pc = .ok (.bastore, 1)) (hv : sI mp q 1 i x = some mp') (kk : fk_W E nL n mp' cs sl (pc + 1) lv st) : fk_W E nL n mp cs sl pc lv (tI x :: tI i :: tR q :: st) := by
  obtain ⟨a, k, f, rfl, ha, hi, rfl⟩ := sI_eq hv
  obtain ⟨p, l, e, R, s, m, args, below, meth, c, G, b0, Q⟩ := E
  obtain ⟨⟨⟨hx, hb, hml, hown, hts⟩, hK⟩, ⟨rfl, rfl, rfl⟩, hmn, hfr, hlo, hrc, hrs⟩ := X
  intro H locs ls hR hS hl
  obtain ⟨⟨⟨h3, hfit⟩, hcell⟩, hw⟩ := hR.2.2 a true _ ha
  refine W.bast hx hb hcell (fk_arrI hK (by decide)) (fun q => by cases q) (by rw [arrV_size]; exact hi) rfl rfl d fun H1 e1 z oq => ?_
  refine kk H1 _ ls (hR.set ha ⟨⟨h3, fk_fits_up hfit (pk_fb x)⟩, ?_⟩ z oq) (fk_S_put hS z oq (hw rfl)) hl
  rw [e1, arrV_store]
  show some (arrV _ _ (updV _ _ (Value.int (i_b x)))) = _
  rw [fk_upI]
  rfl
theorem fk_sastore (X : fk_X E l0 G0 b00 own mn cc nL fr lo rc rs) {q : Option Nat} {i x : Int32} {mp' : fk_M} (d : decode cc pc = .ok (.sastore, 1)) (hv : sI mp q 2 i x = some mp') (kk : fk_W E nL n mp' cs sl (pc + 1) lv st) : fk_W E nL n mp cs sl pc lv (tI x :: tI i :: tR q :: st) := by
  obtain ⟨a, k, f, rfl, ha, hi, rfl⟩ := sI_eq hv
  obtain ⟨p, l, e, R, s, m, args, below, meth, c, G, b0, Q⟩ := E
  obtain ⟨⟨⟨hx, hb, hml, hown, hts⟩, hK⟩, ⟨rfl, rfl, rfl⟩, hmn, hfr, hlo, hrc, hrs⟩ := X
  intro H locs ls hR hS hl
  obtain ⟨⟨⟨h3, hfit⟩, hcell⟩, hw⟩ := hR.2.2 a true _ ha
  refine W.sast hx hb hcell (fk_arrI hK (by decide)) (fun q => by cases q) (by rw [arrV_size]; exact hi) rfl rfl d fun H1 e1 z oq => ?_
  refine kk H1 _ ls (hR.set ha ⟨⟨h3, fk_fits_up hfit (pk_fs x)⟩, ?_⟩ z oq) (fk_S_put hS z oq (hw rfl)) hl
  rw [e1, arrV_store]
  show some (arrV _ _ (updV _ _ (Value.int (i_s x)))) = _
  rw [fk_upI]
  rfl
theorem fk_lastore (X : fk_X E l0 G0 b00 own mn cc nL fr lo rc rs) {q : Option Nat} {i : Int32} {x : Int64} {mp' : fk_M} (d : decode cc pc = .ok (.lastore, 1)) (hv : sL mp q i x = some mp') (kk : fk_W E nL n mp' cs sl (pc + 1) lv st) : fk_W E nL n mp cs sl pc lv (tL x :: tI i :: tR q :: st) := by
  obtain ⟨a, k, f, rfl, ha, hi, rfl⟩ := sL_eq hv
  obtain ⟨p, l, e, R, s, m, args, below, meth, c, G, b0, Q⟩ := E
  obtain ⟨⟨⟨hx, hb, hml, hown, hts⟩, hK⟩, ⟨rfl, rfl, rfl⟩, hmn, hfr, hlo, hrc, hrs⟩ := X
  intro H locs ls hR hS hl
  obtain ⟨hcell, hw⟩ := hR.2.2 a true _ ha
  refine W.last hx hb hcell ((hK.2.1 3 (by decide)).1 k _) (fun q => by cases q) (by rw [arrV_size]; exact hi) rfl rfl d fun H1 e1 z oq => ?_
  refine kk H1 _ ls (hR.set ha ?_ z oq) (fk_S_put hS z oq (hw rfl)) hl
  show H1[a]? = some (arrV _ _ _)
  rw [e1, arrV_store]
  congr 2
  funext j
  unfold updV vp_updL
  by_cases h : j = i.toNatClampNeg
  · rw [if_pos h, if_pos h]
  · rw [if_neg h, if_neg h]
theorem fk_alen (X : fk_X E l0 G0 b00 own mn cc nL fr lo rc rs) {q : Option Nat} {x : Int32} (d : decode cc pc = .ok (.arraylength, 1)) (hv : aLn mp q = some x) (kk : fk_W E nL n mp cs sl (pc + 1) lv (tI x :: st)) : fk_W E nL n mp cs sl pc lv (tR q :: st) := by
  obtain ⟨p, l, e, R, s, m, args, below, meth, c, G, b0, Q⟩ := E
  obtain ⟨⟨⟨hx, hb, hml, hown, hts⟩, hK⟩, ⟨rfl, rfl, rfl⟩, hmn, hfr, hlo, hrc, hrs⟩ := X
  intro H locs ls hR hS hl
  unfold aLn at hv
  split at hv
  · cases hv
  · rename_i a
    split at hv
    · rename_i w t k f ha
      cases hv
      obtain ⟨⟨⟨h3, hfit⟩, hcell⟩, hw⟩ := hR.2.2 a _ _ ha
      exact W.alen hx hb hcell ((hK.2.1 t (by omega)).1 k _) (by rw [arrV_size]) rfl rfl d (kk H locs ls hR hS hl)
    · rename_i w k f ha
      cases hv
      exact W.alen hx hb (hR.2.2 a _ _ ha).1 ((hK.2.1 3 (by decide)).1 k _) (by rw [arrV_size]) rfl rfl d (kk H locs ls hR hS hl)
    · rename_i w k f ha
      cases hv
      exact W.alen hx hb (hR.2.2 a _ _ ha).1 ((hK.2.1 4 (by decide)).1 k _) (by rw [arrV_size]) rfl rfl d (kk H locs ls hR hS hl)
    · cases hv
theorem fk_any {G : fk_G} {b0 n b : Nat} {mp : fk_M} {H : Heap} {s : State} (hK : fk_K G b0 s) (hR : fk_R G b0 n mp H) (h : fk_ok mp (some b) = true) : va_Any "java/lang/Object" s H b := by
  unfold fk_ok at h
  dsimp only at h
  split at h
  · rename_i w ci V hb
    have hc : ∃ (C : String) (T : u_T) (N : Nat), fk_cl[ci]? = some (C, T, N) ∧ (C, "java/lang/Object") ∈ fk_cst := by
      simp only [Bool.or_eq_true, beq_iff_eq] at h
      rcases h with rfl | rfl | rfl | rfl
      · exact ⟨RX7, TX7, 7, rfl, by simp [fk_cst, RX7]⟩
      · exact ⟨RX13, TX13, 3, rfl, by simp [fk_cst, RX13]⟩
      · exact ⟨RX14, TX14, 3, rfl, by simp [fk_cst, RX14]⟩
      · exact ⟨RX15, TX15, 5, rfl, by simp [fk_cst, RX15]⟩
    obtain ⟨C, T, N, hcl, hm⟩ := hc
    obtain ⟨cell, g1, g2, g3⟩ := fk_recv hK hR hb hcl
    obtain ⟨-, hfc, kC, hkC, -⟩ := hK.1 ci _ hcl
    have hz := hK.2.2.2.1 _ hm
    refine ⟨cell, g1, g2, ⟨kC, ?_⟩, fun comp hcomp => ?_⟩
    · have e : cell.cls = G.1.1 ci := Option.some.inj (g3.symm.trans hfc)
      rw [e]; exact hkC
    · obtain ⟨c1, t1, e1, e2, e3⟩ := Cond.castable_spec hz
      have e4 : c1 = cell.cls := Option.some.inj (e1.symm.trans g3)
      have e5 : t1 = comp := Option.some.inj (e2.symm.trans hcomp)
      subst e4
      subst e5
      exact e3
  · cases h
end FKA
