/-! BASE 7: System.arraycopy, fields across the nest, the class of an Object[] -/
set_option maxRecDepth 100000
section FKP
variable {E : fk_E} {l0 : Launch} {G0 : fk_G} {b00 : Nat} {own mn : String} {cc : ByteArray} {nL fr lo rc rs n cs sl pc : Nat} {mp : fk_M} {lv : List (Nat × fk_T)} {st : List fk_T}
theorem fk_nn (z : Int32) (hz : ¬ z < 0) : z.toInt = (z.toNatClampNeg : Int) := by
  have h1 : ¬ z.toInt < 0 := by
    rw [Int32.lt_iff_toInt_lt] at hz
    exact hz
  have h2 : z.toNatClampNeg = z.toInt.toNat := rfl
  omega
theorem fk_copyI (X : fk_X E l0 G0 b00 own mn cc nL fr lo rc rs) {q1 q2 : Option Nat} {sp dp k : Int32} {index : Nat} {mp' : fk_M} (lk : Cond.methodLink own index arraycopyName ∈ lw_all) (w1 : Cond.native arraycopyName ∈ lw_all) (w2 : Cond.static arraycopyName ∈ lw_all) (w3 : Cond.initialized "java/lang/System" ∈ lw_all) (d : decode cc pc = .ok (.invokestatic index, 3)) (hf : Nat.ble 1 fr = true) (hlo2 : Nat.ble (fk_w st + (nativeFrameWords "java/lang/System" "arraycopy" 5 + 11)) lo = true) (hv : cpI mp q1 sp q2 dp k = some mp') (kk : fk_W E nL n mp' cs sl (pc + 3) lv st) : fk_W E nL n mp cs sl pc lv (tI k :: tI dp :: tR q2 :: tI sp :: tR q1 :: st) := by
  obtain ⟨a, b, t, n0, n1, w, f, g, rfl, rfl, ha, hb2, h1, h2, h3, h4, h5, rfl⟩ := cpI_eq hv
  obtain ⟨p, l, e, R, s, m, args, below, meth, c, G, b0, Q⟩ := E
  obtain ⟨⟨⟨hx, hb, hml, hown, hts⟩, hK⟩, ⟨rfl, rfl, rfl⟩, hmn, rfl, rfl, rfl, rfl⟩ := X
  intro H locs ls hR hS hl
  obtain ⟨⟨⟨ht3, hfit⟩, hc0⟩, -⟩ := hR.2.2 a w _ ha
  obtain ⟨⟨⟨-, hfit2⟩, hc1⟩, hw⟩ := hR.2.2 b true _ hb2
  have hlo3 := Nat.le_of_ble_eq_true hlo2
  rw [← fk_sum] at hlo3
  intro T hT Xs
  obtain ⟨-, k0, hk0, cm0, hkk0⟩ := (hK.2.1 t (by omega)).1 n0 (fun j => .int (f j))
  obtain ⟨-, k1, hk1, cm1, hkk1⟩ := (hK.2.1 t (by omega)).1 n1 (fun j => .int (g j))
  have hprim : refKind (fk_ty t) = false := by
    rcases (show t = 0 ∨ t = 1 ∨ t = 2 by omega) with rfl | rfl | rfl <;> rfl
  obtain ⟨vm', X', step⟩ := Xs.arraycopy hx hown (hts _ lk) (hts _ w1) (hts _ w2) (hts _ w3) (src := a) (dst := b) (cs := arrV (G.2.1 t) n0 (fun j => .int (f j))) (cd := arrV (G.2.1 t) n1 (fun j => .int (g j))) (srcPos := sp) (destPos := dp) (n := k) (by rw [hT]; exact hc0) (by rw [hT]; exact hc1)
    (fun _ h => by cases h) (fun _ h => by cases h) (fun h => by cases h) (fun h => by cases h) hk0 hk1 hkk0 hkk1 (by simp [hprim]) h1 h2 h3
    (by rw [fk_nn sp h1, fk_nn k h3, arrV_size]; omega)
    (by rw [fk_nn dp h2, fk_nn k h3, arrV_size]; omega)
    (fun vm₁ _ i hi => by
      have e : (arrV (G.2.1 t) n0 (fun j => .int (f j))).slots.getD (sp.toNatClampNeg + i) .null = .int (f (sp.toNatClampNeg + i)) := by
        rw [Array.getD_eq_getD_getElem?, arrV_read _ _ (by omega)]
        rfl
      refine ⟨?_, ?_⟩
      · rw [e]
        exact hfit _
      · rw [e]
        exact trivial)
    (g := F0 m pc ls (fk_s (tI k :: tI dp :: tR (some b) :: tI sp :: tR (some a) :: st))) rfl (by rw [hml]; exact hl.1) (rest := fk_s st) rfl (by rw [hb]; exact d) (Nat.le_of_ble_eq_true hf) (by show 2 * 0 + _ + _ ≤ _; omega)
  have e1 : copied (arrV (G.2.1 t) n0 (fun j => .int (f j))) (arrV (G.2.1 t) n1 (fun j => .int (g j))) sp dp k = arrV (G.2.1 t) n1 (fun j => .int (va_cpy f g sp.toNatClampNeg dp.toNatClampNeg k.toNatClampNeg j)) := va_copied (fun z => .int z) _ _ f g h4
  rw [e1] at X' step
  have hlt : b < H.size := (Array.getElem?_eq_some_iff.mp hc1).1
  generalize hcl : arrV (G.2.1 t) n1 (fun j => Value.int (va_cpy f g sp.toNatClampNeg dp.toNatClampNeg k.toNatClampNeg j)) = cell1 at X' step
  have oq : ∀ q : Nat, q ≠ b → (H.setIfInBounds b cell1)[q]? = H[q]? := fun q hq => by simp [Array.getElem?_setIfInBounds, Ne.symm hq]
  have hz : (H.setIfInBounds b cell1).size = H.size := by simp
  have hs2 : fk_at G b (aN t n1 (va_cpy f g sp.toNatClampNeg dp.toNatClampNeg k.toNatClampNeg)) (H.setIfInBounds b cell1) := by
    refine ⟨⟨ht3, fun j => ?_⟩, ?_⟩
    · unfold va_cpy
      split
      · exact hfit _
      · exact hfit2 _
    · rw [hcl]
      simp [Array.getElem?_setIfInBounds, hlt]
  obtain ⟨t2, a1, b1⟩ := kk (H.setIfInBounds b cell1) _ ls (hR.set hb2 hs2 hz oq) ⟨by rw [hz]; exact hS.1, fun q g1 g2 => by
      rw [oq q (fun e => g2 (by rw [e]; exact hw rfl))]
      exact hS.2.1 q g1 g2, fun q hq => by
      rcases List.mem_append.mp hq with h | h
      · exact hS.2.2 q h
      · obtain ⟨z, -, hz⟩ := List.mem_map.mp h
        rw [← hz]
        exact hw rfl⟩ hl _ (show ((T.setVm vm').setCell b cell1).heap = H.setIfInBounds b cell1 by rw [← hT]; rfl) X'
  exact ⟨t2, step t2 a1, b1⟩
theorem fk_copyR (X : fk_X E l0 G0 b00 own mn cc nL fr lo rc rs) {q1 q2 : Option Nat} {sp dp k : Int32} {index : Nat} {mp' : fk_M} (lk : Cond.methodLink own index arraycopyName ∈ lw_all) (w1 : Cond.native arraycopyName ∈ lw_all) (w2 : Cond.static arraycopyName ∈ lw_all) (w3 : Cond.initialized "java/lang/System" ∈ lw_all) (d : decode cc pc = .ok (.invokestatic index, 3)) (hf : Nat.ble 1 fr = true) (hlo2 : Nat.ble (fk_w st + (nativeFrameWords "java/lang/System" "arraycopy" 5 + 11)) lo = true) (hv : cpR mp q1 sp q2 dp k = some mp') (kk : fk_W E nL n mp' cs sl (pc + 3) lv st) : fk_W E nL n mp cs sl pc lv (tI k :: tI dp :: tR q2 :: tI sp :: tR q1 :: st) := by
  obtain ⟨a, b, n0, n1, w, f, g, rfl, rfl, ha, hb2, h1, h2, h3, h4, h5, h6, rfl⟩ := cpR_eq hv
  obtain ⟨p, l, e, R, s, m, args, below, meth, c, G, b0, Q⟩ := E
  obtain ⟨⟨⟨hx, hb, hml, hown, hts⟩, hK⟩, ⟨rfl, rfl, rfl⟩, hmn, rfl, rfl, rfl, rfl⟩ := X
  intro H locs ls hR hS hl
  obtain ⟨hc0, -⟩ := hR.2.2 a w _ ha
  obtain ⟨hc1, hw⟩ := hR.2.2 b true _ hb2
  have hlo3 := Nat.le_of_ble_eq_true hlo2
  rw [← fk_sum] at hlo3
  intro T hT Xs
  obtain ⟨-, k0, hk0, cm0, hkk0⟩ := (hK.2.1 4 (by omega)).1 n0 (fun j => va_rf (f j))
  obtain ⟨-, k1, hk1, cm1, hkk1⟩ := (hK.2.1 4 (by omega)).1 n1 (fun j => va_rf (g j))
  obtain ⟨vm', X', step⟩ := Xs.arraycopy hx hown (hts _ lk) (hts _ w1) (hts _ w2) (hts _ w3) (src := a) (dst := b) (cs := arrV (G.2.1 4) n0 (fun j => va_rf (f j))) (cd := arrV (G.2.1 4) n1 (fun j => va_rf (g j))) (srcPos := sp) (destPos := dp) (n := k) (by rw [hT]; exact hc0) (by rw [hT]; exact hc1)
    (fun _ h => by cases h) (fun _ h => by cases h) (fun h => by cases h) (fun h => by cases h) hk0 hk1 hkk0 hkk1 rfl h1 h2 h3
    (by rw [fk_nn sp h1, fk_nn k h3, arrV_size]; omega)
    (by rw [fk_nn dp h2, fk_nn k h3, arrV_size]; omega)
    (fun vm₁ hal i hi => by
      have e : (arrV (G.2.1 4) n0 (fun j => va_rf (f j))).slots.getD (sp.toNatClampNeg + i) .null = va_rf (f (sp.toNatClampNeg + i)) := by
        rw [Array.getD_eq_getD_getElem?, arrV_read _ _ (by omega)]
        rfl
      rw [e]
      have h7 := h6 i hi
      cases hy : f (sp.toNatClampNeg + i) with
      | none => exact ⟨rfl, trivial⟩
      | some y =>
        rw [hy] at h7
        obtain ⟨cellV, g1, g2, ⟨kC, hkC⟩, hasg⟩ := fk_any hK hR h7
        obtain ⟨kA, comp, r1, r2, r3, -⟩ := (hK.2.1 4 (by decide)).2
        cases hk1.symm.trans r1
        cases hkk1.symm.trans r2
        obtain ⟨kE, hkE, -⟩ := Vm.findClass_spec r3
        obtain ⟨kC', hkC', -⟩ := hal.2.2 _ _ hkC
        obtain ⟨kE', hkE', -⟩ := hal.2.2 _ _ hkE
        refine ⟨rfl, cellV, (show T.heap[y]? = some cellV by rw [hT]; exact g1), (fun q h => by rw [h] at g2; cases g2), ⟨kC', hkC'⟩, ?_, ?_⟩
        · exact ⟨kE', hkE'⟩
        · show vm₁.assignable _ _ = true
          rw [hal.assignable]
          exact hasg _ r3)
    (g := F0 m pc ls (fk_s (tI k :: tI dp :: tR (some b) :: tI sp :: tR (some a) :: st))) rfl (by rw [hml]; exact hl.1) (rest := fk_s st) rfl (by rw [hb]; exact d) (Nat.le_of_ble_eq_true hf) (by show 2 * 0 + _ + _ ≤ _; omega)
  have e1 : copied (arrV (G.2.1 4) n0 (fun j => va_rf (f j))) (arrV (G.2.1 4) n1 (fun j => va_rf (g j))) sp dp k = arrV (G.2.1 4) n1 (fun j => va_rf (va_cpy f g sp.toNatClampNeg dp.toNatClampNeg k.toNatClampNeg j)) := va_copied (fun z => va_rf z) _ _ f g h4
  rw [e1] at X' step
  have hlt : b < H.size := (Array.getElem?_eq_some_iff.mp hc1).1
  generalize hcl : arrV (G.2.1 4) n1 (fun j => va_rf (va_cpy f g sp.toNatClampNeg dp.toNatClampNeg k.toNatClampNeg j)) = cell1 at X' step
  have oq : ∀ q : Nat, q ≠ b → (H.setIfInBounds b cell1)[q]? = H[q]? := fun q hq => by simp [Array.getElem?_setIfInBounds, Ne.symm hq]
  have hz : (H.setIfInBounds b cell1).size = H.size := by simp
  have hs2 : fk_at G b (aQ n1 (va_cpy f g sp.toNatClampNeg dp.toNatClampNeg k.toNatClampNeg)) (H.setIfInBounds b cell1) := by
    show (H.setIfInBounds b cell1)[b]? = some (arrV _ _ _)
    rw [hcl]
    simp [Array.getElem?_setIfInBounds, hlt]
  obtain ⟨t2, a1, b1⟩ := kk (H.setIfInBounds b cell1) _ ls (hR.set hb2 hs2 hz oq) ⟨by rw [hz]; exact hS.1, fun q g1 g2 => by
      rw [oq q (fun e => g2 (by rw [e]; exact hw rfl))]
      exact hS.2.1 q g1 g2, fun q hq => by
      rcases List.mem_append.mp hq with h | h
      · exact hS.2.2 q h
      · obtain ⟨z, -, hz⟩ := List.mem_map.mp h
        rw [← hz]
        exact hw rfl⟩ hl _ (show ((T.setVm vm').setCell b cell1).heap = H.setIfInBounds b cell1 by rw [← hT]; rfl) X'
  exact ⟨t2, step t2 a1, b1⟩
/-- a private field across the nest -/
theorem fk_getN (X : fk_X E l0 G0 b00 own mn cc nL fr lo rc rs) {q : Option Nat} {ci k index : Nat} {x : Int32} {O nm ds host : String} {ty : FieldType} {fin : Bool} (F : fk_Fd ci k O nm ds ty fin) (lk : (own, index, O, nm, ds, host) ∈ fk_fln) (d : decode cc pc = .ok (.getfield index, 3)) (hv : gI mp q ci k = some x) (kk : fk_W E nL n mp cs sl (pc + 3) lv (tI x :: st)) : fk_W E nL n mp cs sl pc lv (tR q :: st) := by
  obtain ⟨a, w, V, rfl, ha, hV⟩ := gI_eq hv
  obtain ⟨p, l, e, R, s, m, args, below, meth, c, G, b0, Q⟩ := E
  obtain ⟨⟨⟨hx, hb, hml, hown, hts⟩, hK⟩, ⟨rfl, rfl, rfl⟩, hmn, hfr, hlo, hrc, hrs⟩ := X
  intro H locs ls hR hS hl
  obtain ⟨C, T, N, tyf, hcl, hk, hT, hin, hty, hnm, hd⟩ := F
  obtain ⟨⟨r, h1, cell, q1, q2, q3, q4⟩, -⟩ := hR.2.2 a w _ ha
  have hr : r = (C, T, N) := Option.some.inj (h1.symm.trans hcl)
  subst hr
  obtain ⟨hSl, hfc, kC, hkC, hkind⟩ := hK.1 ci _ hcl
  obtain ⟨cf, kf, fi, f, hi, hsl⟩ := hSl k hk
  have hst := (u_facts hfc hkC (u_lays hts hin hk) hi).1
  have hi : s.fieldFound? (T k).1 (T k).2.1 (T k).2.2.1 = some (cf, kf, fi, f) := hi
  rw [hT] at hi
  refine va_Wgetf hx hb hown (va_Nw.use rfl (hK.2.2.2.2.2.1 _ lk)) hi hst q1 (by rw [q3]; exact fun h => by cases h) (v := .int x) ?_ rfl rfl d (kk H locs ls hR hS hl)
  rw [hsl, q4 k hk]
  show some (fk_v (V k)) = some (fk_v (tI x))
  rw [hV]
/-- the mirror of Object[] -/
theorem fk_ldcM (X : fk_X E l0 G0 b00 own mn cc nL fr lo rc rs) {index : Nat} (lk : Cond.classLink own index "[Ljava/lang/Object;" ∈ lw_all) (d : decode cc pc = .ok (.ldc index, 2)) (kk : fk_W E nL n mp cs sl (pc + 2) lv (tR (some (G0.2.2 41)) :: st)) : fk_W E nL n mp cs sl pc lv st := by
  obtain ⟨p, l, e, R, s, m, args, below, meth, c, G, b0, Q⟩ := E
  obtain ⟨⟨⟨hx, hb, hml, hown, hts⟩, hK⟩, ⟨rfl, rfl, rfl⟩, hmn, hfr, hlo, hrc, hrs⟩ := X
  intro H locs ls hR hS hl
  exact va_ldcM hx hb hown (hts _ lk) hK.2.2.2.2.2.2.2.2.1 d (kk H locs ls hR hS hl)
def isQ (mp : fk_M) (q : Option Nat) : Option Unit := match q with
  | none => none
  | some a => match mp a with
    | some (_, Sum.inr (Sum.inr (Sum.inl _))) => some ()
    | _ => none
theorem isQ_eq {mp : fk_M} {q : Option Nat} {u : Unit} (h : isQ mp q = some u) : ∃ (a : Nat) (w : Bool) (n : Nat) (f : Nat → Option Nat), q = some a ∧ mp a = some (w, aQ n f) := by
  unfold isQ at h
  split at h
  · cases h
  · split at h
    · rename_i a _ w nf e
      exact ⟨a, w, nf.1, nf.2, rfl, e⟩
    · cases h
/-- getClass of an Object[] -/
theorem fk_getC (X : fk_X E l0 G0 b00 own mn cc nL fr lo rc rs) {q : Option Nat} {index : Nat} {u : Unit} (lk : Cond.methodLink own index ⟨"java/lang/Object", "getClass", "()Ljava/lang/Class;"⟩ ∈ lw_all) (w1 : Cond.selects "[Ljava/lang/Object;" ⟨"java/lang/Object", "getClass", "()Ljava/lang/Class;"⟩ ⟨"java/lang/Object", "getClass", "()Ljava/lang/Class;"⟩ ∈ lw_all) (w2 : Cond.instanceMethod ⟨"java/lang/Object", "getClass", "()Ljava/lang/Class;"⟩ ∈ lw_all) (w3 : Cond.native ⟨"java/lang/Object", "getClass", "()Ljava/lang/Class;"⟩ ∈ lw_all) (d : decode cc pc = .ok (.invokevirtual index, 3)) (hf : Nat.ble 1 fr = true) (hlo2 : Nat.ble (fk_w st + 14) lo = true) (hv : isQ mp q = some u) (kk : fk_W E nL n mp cs sl (pc + 3) lv (tR (some (G0.2.2 41)) :: st)) : fk_W E nL n mp cs sl pc lv (tR q :: st) := by
  obtain ⟨a, w, k, f, rfl, ha⟩ := isQ_eq hv
  obtain ⟨p, l, e, R, s, m, args, below, meth, c, G, b0, Q⟩ := E
  obtain ⟨⟨⟨hx, hb, hml, hown, hts⟩, hK⟩, ⟨rfl, rfl, rfl⟩, hmn, rfl, rfl, rfl, rfl⟩ := X
  intro H locs ls hR hS hl
  have hlo3 := Nat.le_of_ble_eq_true hlo2
  rw [← fk_sum] at hlo3
  refine va_getC hx hb (hml.trans hl.1.symm) hown (hts _ lk) (va_Nw.use rfl (hK.2.2.2.2.1 _ (by simp [fk_dcl]))) (hts _ w1) (hts _ w2) (hts _ w3) hK.2.2.2.2.2.2.2.2.1 ⟨_, (hR.2.2 a w _ ha).1, rfl, va_nmO (hK.2.1 4 (by decide)).2 rfl⟩ (Nat.le_of_ble_eq_true hf) hlo3 d (kk H locs ls hR hS hl)
/-- a cast to byte[] -/
def cstB (mp : fk_M) (q : Option Nat) : Option Unit := match q with
  | none => some ()
  | some a => match mp a with
    | some (_, Sum.inl (t, _, _)) => if t = 1 then some () else none
    | _ => none
theorem fk_castB (X : fk_X E l0 G0 b00 own mn cc nL fr lo rc rs) {q : Option Nat} {index : Nat} {u : Unit} (lk : Cond.classLink own index "[B" ∈ lw_all) (d : decode cc pc = .ok (.checkcast index, 3)) (hv : cstB mp q = some u) (kk : fk_W E nL n mp cs sl (pc + 3) lv (tR q :: st)) : fk_W E nL n mp cs sl pc lv (tR q :: st) := by
  obtain ⟨p, l, e, R, s, m, args, below, meth, c, G, b0, Q⟩ := E
  obtain ⟨⟨⟨hx, hb, hml, hown, hts⟩, hK⟩, ⟨rfl, rfl, rfl⟩, hmn, hfr, hlo, hrc, hrs⟩ := X
  intro H locs ls hR hS hl
  cases q with
  | none => exact lv_castN hx hb d (kk H locs ls hR hS hl)
  | some a =>
    unfold cstB at hv
    dsimp only at hv
    split at hv
    · rename_i w t k f ha
      by_cases ht : t = 1
      · subst ht
        have hc := (hR.2.2 a w _ ha).1.2
        exact va_castA (D := G.1) (cl := fk_cl) (ws := [(a, .inl (G.2.1 1, k, .inl f))]) hx hb hown (hts _ lk) (fun i q hi => by
          have hi0 : i = 0 := by
            have := (List.getElem?_eq_some_iff.mp hi).1
            simp at this
            omega
          subst hi0
          cases hi
          exact hc) 0 rfl (hK.2.1 1 (by decide)).2 d (kk H locs ls hR hS hl)
      · rw [if_neg ht] at hv; cases hv
    · cases hv
end FKP
