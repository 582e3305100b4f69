/-! BASE 6: stores of references, new cells, casts, statics, copies -/
set_option maxRecDepth 100000
/-- the kinds of arrays that newarray makes here -/
def fk_at9 (t : Nat) : ArrayType := match t with
  | 0 => .int
  | 1 => .byte
  | 2 => .short
  | _ => .long
/-- a new array of ints, bytes, shorts -/
def nA (n : Nat) (mp : fk_M) (t : Nat) (x : Int32) : Option fk_M := if x < 0 ∨ 100000000 < x then none else some (fk_up mp n (aN t x.toNatClampNeg (fun _ => 0)))
def nJ (n : Nat) (mp : fk_M) (x : Int32) : Option fk_M := if x < 0 ∨ 50000000 < x then none else some (fk_up mp n (aJ x.toNatClampNeg (fun _ => 0)))
def nQ (n : Nat) (mp : fk_M) (x : Int32) : Option fk_M := if x < 0 ∨ 100000000 < x then none else some (fk_up mp n (aQ x.toNatClampNeg (fun _ => none)))
theorem nA_eq {n t : Nat} {mp mp' : fk_M} {x : Int32} (h : nA n mp t x = some mp') : ¬ x < 0 ∧ x.toNatClampNeg ≤ 100000000 ∧ mp' = fk_up mp n (aN t x.toNatClampNeg (fun _ => 0)) := by
  unfold nA at h
  split at h
  · cases h
  · rename_i hx
    cases h
    refine ⟨fun q => hx (Or.inl q), ?_, rfl⟩
    have h1 : ¬ (100000000 : Int32) < x := fun q => hx (Or.inr q)
    rw [Int32.lt_iff_toInt_lt] at h1
    have h2 : (100000000 : Int32).toInt = 100000000 := by decide
    have h3 : x.toNatClampNeg = x.toInt.toNat := rfl
    omega
theorem nJ_eq {n : Nat} {mp mp' : fk_M} {x : Int32} (h : nJ n mp x = some mp') : ¬ x < 0 ∧ x.toNatClampNeg ≤ 50000000 ∧ mp' = fk_up mp n (aJ x.toNatClampNeg (fun _ => 0)) := by
  unfold nJ at h
  split at h
  · cases h
  · rename_i hx
    cases h
    refine ⟨fun q => hx (Or.inl q), ?_, rfl⟩
    have h1 : ¬ (50000000 : Int32) < x := fun q => hx (Or.inr q)
    rw [Int32.lt_iff_toInt_lt] at h1
    have h2 : (50000000 : Int32).toInt = 50000000 := by decide
    have h3 : x.toNatClampNeg = x.toInt.toNat := rfl
    omega
theorem nQ_eq {n : Nat} {mp mp' : fk_M} {x : Int32} (h : nQ n mp x = some mp') : ¬ x < 0 ∧ x.toNatClampNeg ≤ 100000000 ∧ mp' = fk_up mp n (aQ x.toNatClampNeg (fun _ => none)) := by
  unfold nQ at h
  split at h
  · cases h
  · rename_i hx
    cases h
    refine ⟨fun q => hx (Or.inl q), ?_, rfl⟩
    have h1 : ¬ (100000000 : Int32) < x := fun q => hx (Or.inr q)
    rw [Int32.lt_iff_toInt_lt] at h1
    have h2 : (100000000 : Int32).toInt = 100000000 := by decide
    have h3 : x.toNatClampNeg = x.toInt.toNat := rfl
    omega
/-- what a field holds at first -/
def fk_dv : FieldType → fk_T
  | .long => tL 0
  | .object _ => tR none
  | .array _ => tR none
  | _ => tI 0
def fk_int (ty : FieldType) : Bool := match ty with
  | .float => false
  | .double => false
  | _ => true
theorem fk_dv_eq (ty : FieldType) (h : fk_int ty = true) : defaultValue ty = fk_v (fk_dv ty) := by
  cases ty <;> first | rfl | cases h
def fk_V0 (ty : Nat → FieldType) : Nat → fk_T := fun k => fk_dv (ty k)
/-- a cast to a class of ours -/
def cst (mp : fk_M) (q : Option Nat) (ci : Nat) : Option Unit := match q with
  | none => some ()
  | some a => isO mp (some a) ci
/-- instanceof a class of ours -/
def ist (mp : fk_M) (q : Option Nat) (ci : Nat) : Option Int32 := match q with
  | none => some 0
  | some a => (isO mp (some a) ci).map fun _ => 1
/-- System.arraycopy of ints, bytes, shorts -/
def cpI (mp : fk_M) (q1 : Option Nat) (sp : Int32) (q2 : Option Nat) (dp n : Int32) : Option fk_M := match q1, q2 with
  | some a, some b => match mp a, mp b with
    | some (_, Sum.inl (t, n0, f)), some (true, Sum.inl (t', n1, g)) => if t' = t ∧ ¬ sp < 0 ∧ ¬ dp < 0 ∧ ¬ n < 0 ∧ sp.toNatClampNeg + n.toNatClampNeg ≤ n0 ∧ dp.toNatClampNeg + n.toNatClampNeg ≤ n1 then some (fk_up mp b (aN t n1 (va_cpy f g sp.toNatClampNeg dp.toNatClampNeg n.toNatClampNeg))) else none
    | _, _ => none
  | _, _ => none
theorem cpI_eq {mp mp' : fk_M} {q1 q2 : Option Nat} {sp dp n : Int32} (h : cpI mp q1 sp q2 dp n = some mp') : ∃ (a b t n0 n1 : Nat) (w : Bool) (f g : Nat → Int32), q1 = some a ∧ q2 = some b ∧ mp a = some (w, aN t n0 f) ∧ mp b = some (true, aN t n1 g) ∧ ¬ sp < 0 ∧ ¬ dp < 0 ∧ ¬ n < 0 ∧ sp.toNatClampNeg + n.toNatClampNeg ≤ n0 ∧ dp.toNatClampNeg + n.toNatClampNeg ≤ n1 ∧ mp' = fk_up mp b (aN t n1 (va_cpy f g sp.toNatClampNeg dp.toNatClampNeg n.toNatClampNeg)) := by
  unfold cpI at h
  split at h
  · rename_i a b
    split at h
    · rename_i w t n0 f t' n1 g e1 e2
      split at h
      · rename_i hc
        obtain ⟨rfl, h1, h2, h3, h4, h5⟩ := hc
        cases h
        exact ⟨a, b, t', n0, n1, w, f, g, rfl, rfl, e1, e2, h1, h2, h3, h4, h5, rfl⟩
      · cases h
    · cases h
  · cases h
/-- .. of references -/
def cpR (mp : fk_M) (q1 : Option Nat) (sp : Int32) (q2 : Option Nat) (dp n : Int32) : Option fk_M := match q1, q2 with
  | some a, some b => match mp a, mp b with
    | some (_, Sum.inr (Sum.inr (Sum.inl (n0, f)))), some (true, Sum.inr (Sum.inr (Sum.inl (n1, g)))) => if (¬ sp < 0 ∧ ¬ dp < 0 ∧ ¬ n < 0 ∧ sp.toNatClampNeg + n.toNatClampNeg ≤ n0 ∧ dp.toNatClampNeg + n.toNatClampNeg ≤ n1) ∧ (List.range n.toNatClampNeg).all (fun i => fk_ok mp (f (sp.toNatClampNeg + i))) = true then some (fk_up mp b (aQ n1 (va_cpy f g sp.toNatClampNeg dp.toNatClampNeg n.toNatClampNeg))) else none
    | _, _ => none
  | _, _ => none
theorem cpR_eq {mp mp' : fk_M} {q1 q2 : Option Nat} {sp dp n : Int32} (h : cpR mp q1 sp q2 dp n = some mp') : ∃ (a b n0 n1 : Nat) (w : Bool) (f g : Nat → Option Nat), q1 = some a ∧ q2 = some b ∧ mp a = some (w, aQ n0 f) ∧ mp b = some (true, aQ n1 g) ∧ ¬ sp < 0 ∧ ¬ dp < 0 ∧ ¬ n < 0 ∧ sp.toNatClampNeg + n.toNatClampNeg ≤ n0 ∧ dp.toNatClampNeg + n.toNatClampNeg ≤ n1 ∧ (∀ i : Nat, i < n.toNatClampNeg → fk_ok mp (f (sp.toNatClampNeg + i)) = true) ∧ mp' = fk_up mp b (aQ n1 (va_cpy f g sp.toNatClampNeg dp.toNatClampNeg n.toNatClampNeg)) := by
  unfold cpR at h
  split at h
  · rename_i a b
    split at h
    · rename_i w n0 f n1 g e1 e2
      split at h
      · rename_i hc
        obtain ⟨⟨h1, h2, h3, h4, h5⟩, h6⟩ := hc
        cases h
        exact ⟨a, b, n0, n1, w, f, g, rfl, rfl, e1, e2, h1, h2, h3, h4, h5, fun i hi => List.all_eq_true.mp h6 i (List.mem_range.mpr hi), rfl⟩
      · cases h
    · cases h
  · cases h
section FKN
variable {E : fk_E} {l0 : Launch} {G0 : fk_G} {b00 : Nat} {own mn : String} {cc : ByteArray} {nL fr lo rc rs n cs sl pc : Nat} {mp : fk_M} {lv : List (Nat × fk_T)} {st : List fk_T}
theorem fk_upQ (f : Nat → Option Nat) (k : Nat) (x : Option Nat) : updV (fun j => va_rf (f j)) k (va_rf x) = fun j => va_rf (va_up f k x j) := by
  funext j
  unfold updV va_up
  by_cases h : j = k
  · rw [if_pos h, if_pos h]
  · rw [if_neg h, if_neg h]
theorem fk_aastore (X : fk_X E l0 G0 b00 own mn cc nL fr lo rc rs) {q v : Option Nat} {i : Int32} {mp' : fk_M} (d : decode cc pc = .ok (.aastore, 1)) (hv : sR mp q i v = some mp') (kk : fk_W E nL n mp' cs sl (pc + 1) lv st) : fk_W E nL n mp cs sl pc lv (tR v :: tI i :: tR q :: st) := by
  obtain ⟨a, k, f, rfl, ha, hi, hk, rfl⟩ := sR_eq hv
  obtain ⟨p, l, e, R, s, m, args, below, meth, c, G, b0, Q⟩ := E
  obtain ⟨⟨⟨hx, hb, hml, hown, hts⟩, hK⟩, ⟨rfl, rfl, rfl⟩, hmn, hfr, hlo, hrc, hrs⟩ := X
  intro H locs ls hR hS hl
  obtain ⟨hcell, hw⟩ := hR.2.2 a true _ ha
  cases v with
  | none =>
    refine va_WaastN (C := "java/lang/Object") hx hb hcell ((hK.2.1 4 (by decide)).1 k (fun j => va_rf (f j))) (fun h => by cases h) (by rw [arrV_size]; exact hi) rfl rfl d fun H1 e1 z oq => ?_
    refine kk H1 _ ls (hR.set ha ?_ z oq) (fk_S_put hS z oq (hw rfl)) hl
    show H1[a]? = some (arrV _ _ _)
    rw [e1, arrV_store]
    exact congrArg some (congrArg (arrV _ _) (fk_upQ f _ none))
  | some b =>
    obtain ⟨cv, g1, g2, ⟨kv, g3⟩, g4⟩ := fk_any hK hR hk
    obtain ⟨kA, comp, r1, r2, r3, -⟩ := (hK.2.1 4 (by decide)).2
    obtain ⟨kE, hkE, -⟩ := Vm.findClass_spec r3
    refine W.aast hx hb hcell (fun q h => by cases h) (fun h => by cases h) r1 r2 rfl hkE ⟨fun h => hi (Or.inl h), ?_⟩ g1 (fun q h => by rw [h] at g2; cases g2) g3 (g4 comp r3) rfl rfl d fun H1 e1 z oq => ?_
    · rw [arrV_size]
      exact Nat.not_le.mp fun q => hi (Or.inr q)
    · refine kk H1 _ ls (hR.set ha ?_ z oq) (fk_S_put hS z oq (hw rfl)) hl
      show H1[a]? = some (arrV _ _ _)
      rw [e1, arrV_store]
      exact congrArg some (congrArg (arrV _ _) (fk_upQ f _ (some b)))
theorem fk_S_new {b0 : Nat} {H0 H H1 : Heap} {locs : List Loc} (h : va_S (fun q => b0 ≤ q) H0 H locs) (z : H.size ≤ H1.size) (oq : ∀ q : Nat, q < H.size → H1[q]? = H[q]?) : va_S (fun q => b0 ≤ q) H0 H1 locs := ⟨Nat.le_trans h.1 z, fun q h1 h2 => (oq q (Nat.lt_of_lt_of_le h1 h.1)).trans (h.2.1 q h1 h2), h.2.2⟩
theorem fk_newI (t : Nat) (ht : t < 3) (X : fk_X E l0 G0 b00 own mn cc nL fr lo rc rs) {x : Int32} {mp' : fk_M} {cs2 sl2 : Nat} (q : Cond.arrayClass (fk_ty t) ∈ lw_all) (d : decode cc pc = .ok (.newarray (fk_at9 t), 2)) (hv : nA n mp t x = some mp') (h1 : cs + 1 ≤ cs2) (h2 : sl + x.toNatClampNeg ≤ sl2) (h3 : cs2 ≤ rc) (h4 : sl2 ≤ rs) (kk : fk_W E nL (n + 1) mp' cs2 sl2 (pc + 2) lv (tR (some n) :: st)) : fk_W E nL n mp cs sl pc lv (tI x :: st) := by
  obtain ⟨hn0, hn1, rfl⟩ := nA_eq hv
  obtain ⟨p, l, e, R, s, m, args, below, meth, c, G, b0, Q⟩ := E
  obtain ⟨⟨⟨hx, hb, hml, hown, hts⟩, hK⟩, ⟨rfl, rfl, rfl⟩, hmn, rfl, rfl, rfl, rfl⟩ := X
  intro H locs ls hR hS hl
  have hty : newarray.typeOf (fk_at9 t) = fk_ty t := by
    rcases (show t = 0 ∨ t = 1 ∨ t = 2 by omega) with rfl | rfl | rfl <;> rfl
  have hdv : defaultValue (fk_ty t) = .int 0 := by
    rcases (show t = 0 ∨ t = 1 ∨ t = 2 by omega) with rfl | rfl | rfl <;> rfl
  have hby : x.toNatClampNeg * componentBytes (fk_ty t) ≤ 536870912 := by
    rcases (show t = 0 ∨ t = 1 ∨ t = 2 by omega) with rfl | rfl | rfl
    · show x.toNatClampNeg * 4 ≤ _; omega
    · show x.toNatClampNeg * 1 ≤ _; omega
    · show x.toNatClampNeg * 2 ≤ _; omega
  refine va_newaK hx hb (by rw [hty]; exact hts _ q) rfl d rfl hn0 rfl (by rw [hty]; exact hby) (by omega) (by omega) hR.1 fun H1 cA e1 z1 o1 hAr hNm => ?_
  have hcA : cA = G.2.1 t := by
    have h5 := (hK.2.1 t (by omega)).2
    have h6 : s.vm.findClass ("[" ++ (fk_ty t).toString) = some (G.2.1 t) := by
      rcases (show t = 0 ∨ t = 1 ∨ t = 2 by omega) with rfl | rfl | rfl <;> exact h5
    rw [hty] at hNm
    exact Option.some.inj (hNm.symm.trans h6)
  subst hcA
  refine W.widen h1 h2 (kk H1 locs ls (hR.push ⟨⟨ht, fun _ => ?_⟩, ?_⟩ z1 o1) (fk_S_new hS (by rw [z1, hR.1]; omega) (fun q hq => o1 q (by rw [hR.1] at hq; exact hq))) hl)
  · show fits (fk_ty t) (.int 0) = true
    rcases (show t = 0 ∨ t = 1 ∨ t = 2 by omega) with rfl | rfl | rfl <;> decide +kernel
  · rw [e1, hty, hdv]
theorem fk_newJ (X : fk_X E l0 G0 b00 own mn cc nL fr lo rc rs) {x : Int32} {mp' : fk_M} {cs2 sl2 : Nat} (q : Cond.arrayClass .long ∈ lw_all) (d : decode cc pc = .ok (.newarray .long, 2)) (hv : nJ n mp x = some mp') (h1 : cs + 1 ≤ cs2) (h2 : sl + x.toNatClampNeg ≤ sl2) (h3 : cs2 ≤ rc) (h4 : sl2 ≤ rs) (kk : fk_W E nL (n + 1) mp' cs2 sl2 (pc + 2) lv (tR (some n) :: st)) : fk_W E nL n mp cs sl pc lv (tI x :: st) := by
  obtain ⟨hn0, hn1, rfl⟩ := nJ_eq hv
  obtain ⟨p, l, e, R, s, m, args, below, meth, c, G, b0, Q⟩ := E
  obtain ⟨⟨⟨hx, hb, hml, hown, hts⟩, hK⟩, ⟨rfl, rfl, rfl⟩, hmn, rfl, rfl, rfl, rfl⟩ := X
  intro H locs ls hR hS hl
  refine va_newaK (atype := .long) hx hb (hts _ q) rfl d rfl hn0 rfl (by show x.toNatClampNeg * 8 ≤ _; omega) (by omega) (by omega) hR.1 fun H1 cA e1 z1 o1 hAr hNm => ?_
  have hcA : cA = G.2.1 3 := Option.some.inj (hNm.symm.trans (hK.2.1 3 (by decide)).2)
  subst hcA
  exact W.widen h1 h2 (kk H1 locs ls (hR.push e1 z1 o1) (fk_S_new hS (by rw [z1, hR.1]; omega) (fun q hq => o1 q (by rw [hR.1] at hq; exact hq))) hl)
theorem fk_newR (X : fk_X E l0 G0 b00 own mn cc nL fr lo rc rs) {x : Int32} {mp' : fk_M} {index cs2 sl2 : Nat} (q : Cond.classLink own index "java/lang/Object" ∈ lw_all) (d : decode cc pc = .ok (.anewarray index, 3)) (hv : nQ n mp x = some mp') (h1 : cs + 1 ≤ cs2) (h2 : sl + x.toNatClampNeg ≤ sl2) (h3 : cs2 ≤ rc) (h4 : sl2 ≤ rs) (kk : fk_W E nL (n + 1) mp' cs2 sl2 (pc + 3) lv (tR (some n) :: st)) : fk_W E nL n mp cs sl pc lv (tI x :: st) := by
  obtain ⟨hn0, hn1, rfl⟩ := nQ_eq hv
  obtain ⟨p, l, e, R, s, m, args, below, meth, c, G, b0, Q⟩ := E
  obtain ⟨⟨⟨hx, hb, hml, hown, hts⟩, hK⟩, ⟨rfl, rfl, rfl⟩, hmn, rfl, rfl, rfl, rfl⟩ := X
  intro H locs ls hR hS hl
  refine W.anew hx hb hown (hts _ q) (va_AO.use hK.2.2.2.2.2.2.2.1) rfl d rfl hn0 (by omega) (by omega) (by omega) fun cA kA comp f1 f2 f3 f4 => ?_
  have hcA : cA = G.2.1 4 := by
    obtain ⟨_, _, _, _, _, h5⟩ := (hK.2.1 4 (by decide)).2
    exact Option.some.inj (f1.symm.trans h5)
  subst hcA
  have hz := hR.1
  generalize hH1 : H.push ({ cls := G.2.1 4, slots := Array.replicate x.toNatClampNeg .null, vm := .none } : Cell) = H1
  have z1 : H1.size = n + 1 := by rw [← hH1, Array.size_push, hz]
  have e1 : H1[n]? = some (arrV (G.2.1 4) x.toNatClampNeg (fun _ => .null)) := by rw [← hH1, ← hz, Array.getElem?_push_size, ← arrV_new]
  have o1 : ∀ q : Nat, q < n → H1[q]? = H[q]? := fun q hq => by rw [← hH1, Array.getElem?_push, if_neg (by omega)]
  rw [hz]
  exact W.widen h1 h2 (kk H1 locs ls (hR.push e1 z1 o1) (fk_S_new hS (by rw [z1, hz]; omega) (fun q hq => o1 q (by rw [hz] at hq; exact hq))) hl)
/-- a class of ours that can be made -/
def fk_Cl (ci : Nat) (C : String) (N : Nat) (tyf : Nat → FieldType) : Prop := ∃ T : u_T, fk_cl[ci]? = some (C, T, N) ∧ (∀ w ∈ u_ws C T N, w ∈ lw_all) ∧ (∀ j, j < N → parseFieldDescriptor (T j).2.2.1 = some (tyf j)) ∧ Cond.instantiable C N ∈ lw_all ∧ Cond.initialized C ∈ lw_all ∧ (∀ j, j < N → fk_int (tyf j) = true)
theorem fk_new (X : fk_X E l0 G0 b00 own mn cc nL fr lo rc rs) {ci N index cs2 sl2 : Nat} {C : String} {tyf : Nat → FieldType} (F : fk_Cl ci C N tyf) (q : Cond.classLink own index C ∈ lw_all) (d : decode cc pc = .ok (.new index, 3)) (h1 : cs + 1 ≤ cs2) (h2 : sl + N ≤ sl2) (h3 : cs2 ≤ rc) (h4 : sl2 ≤ rs) (kk : fk_W E nL (n + 1) (fk_up mp n (oB ci (fk_V0 tyf))) cs2 sl2 (pc + 3) lv (tR (some n) :: st)) : fk_W E nL n mp cs sl pc lv st := by
  obtain ⟨p, l, e, R, s, m, args, below, meth, c, G, b0, Q⟩ := E
  obtain ⟨⟨⟨hx, hb, hml, hown, hts⟩, hK⟩, ⟨rfl, rfl, rfl⟩, hmn, rfl, rfl, rfl, rfl⟩ := X
  intro H locs ls hR hS hl
  obtain ⟨T, hcl, hin, hty, hinst, hini, hint⟩ := F
  have hKn := hK.1 ci _ hcl
  refine W.newcK hx hb hown (hts _ q) (hts _ hinst) (hts _ hini) rfl d (by omega) (by omega) hKn.2.1 hR.1 fun H1 kC hkC e1 z1 o1 => ?_
  refine W.widen h1 h2 (kk H1 locs ls (hR.push ⟨_, hcl, (u_born tyf hts hin hKn hkC e1 hty).to (fun j hj => fk_dv_eq _ (hint j hj))⟩ z1 o1) (fk_S_new hS (by rw [z1, hR.1]; omega) (fun q hq => o1 q (by rw [hR.1] at hq; exact hq))) hl)
theorem fk_cast (X : fk_X E l0 G0 b00 own mn cc nL fr lo rc rs) {q : Option Nat} {ci N index : Nat} {C : String} {T : u_T} {u : Unit} (hcl : fk_cl[ci]? = some (C, T, N)) (lk : Cond.classLink own index C ∈ lw_all) (d : decode cc pc = .ok (.checkcast index, 3)) (hv : cst mp q ci = some u) (kk : fk_W E nL n mp cs sl (pc + 3) lv (tR q :: st)) : fk_W E nL n mp cs sl pc lv (tR q :: st) := by
  obtain ⟨p, l, e, R, s, m, args, below, meth, c, G, b0, Q⟩ := E
  obtain ⟨⟨⟨hx, hb, hml, hown, hts⟩, hK⟩, ⟨rfl, rfl, rfl⟩, hmn, hfr, hlo, hrc, hrs⟩ := X
  intro H locs ls hR hS hl
  cases q with
  | none => exact lv_castN hx hb d (kk H locs ls hR hS hl)
  | some a =>
    obtain ⟨b, w, V, e1, e2⟩ := isO_eq (show isO mp (some a) ci = some u from hv)
    cases e1
    exact va_castS hx hb hown (hts _ lk) (hK.1 ci _ hcl).2 (fk_recv hK hR e2 hcl) d (kk H locs ls hR hS hl)
theorem fk_inst (X : fk_X E l0 G0 b00 own mn cc nL fr lo rc rs) {q : Option Nat} {ci N index : Nat} {C : String} {T : u_T} {x : Int32} (hcl : fk_cl[ci]? = some (C, T, N)) (lk : Cond.classLink own index C ∈ lw_all) (d : decode cc pc = .ok (.instanceof index, 3)) (hv : ist mp q ci = some x) (kk : fk_W E nL n mp cs sl (pc + 3) lv (tI x :: st)) : fk_W E nL n mp cs sl pc lv (tR q :: st) := by
  obtain ⟨p, l, e, R, s, m, args, below, meth, c, G, b0, Q⟩ := E
  obtain ⟨⟨⟨hx, hb, hml, hown, hts⟩, hK⟩, ⟨rfl, rfl, rfl⟩, hmn, hfr, hlo, hrc, hrs⟩ := X
  intro H locs ls hR hS hl
  cases q with
  | none =>
    cases hv
    exact lv_instN hx hb d (kk H locs ls hR hS hl)
  | some a =>
    have hv : (isO mp (some a) ci).map (fun _ => (1 : Int32)) = some x := hv
    cases ho : isO mp (some a) ci with
    | none => rw [ho] at hv; cases hv
    | some u =>
      rw [ho] at hv
      cases hv
      obtain ⟨b, w, V, e1, e2⟩ := isO_eq ho
      cases e1
      exact va_instS hx hb hown (hts _ lk) (hK.1 ci _ hcl).2 (fk_recv hK hR e2 hcl) d (kk H locs ls hR hS hl)
/-- a static of the JDK's that the Statement tells -/
theorem fk_gets (X : fk_X E l0 G0 b00 own mn cc nL fr lo rc rs) {C nm ds : String} {v : Value} {x : fk_T} {index : Nat} (hz : (C, nm, ds, v) ∈ fk_sta G0) (hx2 : v = fk_v x) (lk : Cond.fieldLink own index C nm ds ∈ lw_all) (d : decode cc pc = .ok (.getstatic index, 3)) (kk : fk_W E nL n mp cs sl (pc + 3) lv (x :: st)) : fk_W E nL n mp cs sl pc lv st := by
  obtain ⟨p, l, e, R, s, m, args, below, meth, c, G, b0, Q⟩ := E
  obtain ⟨⟨⟨hx, hb, hml, hown, hts⟩, hK⟩, ⟨rfl, rfl, rfl⟩, hmn, hfr, hlo, hrc, hrs⟩ := X
  intro H locs ls hR hS hl
  subst hx2
  exact va_gets hx hb (hK.2.2.2.2.2.2.2.2.2.1 _ hz) hS hown (hts _ lk) (fun _ h => h) d (kk H locs ls hR hS hl)
end FKN
