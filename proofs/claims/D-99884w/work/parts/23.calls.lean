/-! BASE 4: returns, calls -/
set_option maxRecDepth 100000
section FKD
variable {E : fk_E} {l0 : Launch} {G0 : fk_G} {b00 : Nat} {own mn : String} {cc : ByteArray} {nL fr lo rc rs n cs sl pc : Nat} {mp : fk_M} {lv : List (Nat × fk_T)} {st : List fk_T}
theorem fk_ireturn (X : fk_X E l0 G0 b00 own mn cc nL fr lo rc rs) {ty : FieldType} {v : Int32} (Y : fk_Y E (some ty) (some (tI v)) n mp cs sl) (d : decode cc pc = .ok (.ireturn, 1)) (hn : narrow ty (.int v) = .int v) : fk_W E nL n mp cs sl pc lv [tI v] := by
  obtain ⟨p, l, e, R, s, m, args, below, meth, c, G, b0, Q⟩ := E
  obtain ⟨⟨⟨hx, hb, hml, hown, hts⟩, hK⟩, ⟨rfl, rfl, rfl⟩, hmn, hfr, hlo, hrc, hrs⟩ := X
  obtain ⟨rfl, hr, hlocks⟩ := Y
  intro H locs ls hR hS hl
  exact W.zret hx hb hr hn (fun t ht hW => ⟨rfl, by rw [ht]; exact hR, hS.F ht⟩) hS.2.2 d hlocks
theorem fk_lreturn (X : fk_X E l0 G0 b00 own mn cc nL fr lo rc rs) {v : Int64} (Y : fk_Y E (some .long) (some (tL v)) n mp cs sl) (d : decode cc pc = .ok (.lreturn, 1)) : fk_W E nL n mp cs sl pc lv [tL v] := by
  obtain ⟨p, l, e, R, s, m, args, below, meth, c, G, b0, Q⟩ := E
  obtain ⟨⟨⟨hx, hb, hml, hown, hts⟩, hK⟩, ⟨rfl, rfl, rfl⟩, hmn, hfr, hlo, hrc, hrs⟩ := X
  obtain ⟨rfl, hr, hlocks⟩ := Y
  intro H locs ls hR hS hl
  exact W.lret hx hb hr (fun t ht hW => ⟨rfl, by rw [ht]; exact hR, hS.F ht⟩) hS.2.2 d hlocks
theorem fk_areturn (X : fk_X E l0 G0 b00 own mn cc nL fr lo rc rs) {rt : FieldType} {q : Option Nat} (Y : fk_Y E (some rt) (some (tR q)) n mp cs sl) (d : decode cc pc = .ok (.areturn, 1)) (hrt : (∃ n, rt = .object n) ∨ ∃ t, rt = .array t) : fk_W E nL n mp cs sl pc lv [tR q] := by
  obtain ⟨p, l, e, R, s, m, args, below, meth, c, G, b0, Q⟩ := E
  obtain ⟨⟨⟨hx, hb, hml, hown, hts⟩, hK⟩, ⟨rfl, rfl, rfl⟩, hmn, hfr, hlo, hrc, hrs⟩ := X
  obtain ⟨rfl, hr, hlocks⟩ := Y
  intro H locs ls hR hS hl
  exact W.aret hx hb hr hrt (va_rf_or q) (fun t ht hW => ⟨rfl, by rw [ht]; exact hR, hS.F ht⟩) hS.2.2 d hlocks
theorem fk_return (X : fk_X E l0 G0 b00 own mn cc nL fr lo rc rs) (Y : fk_Y E none none n mp cs sl) (d : decode cc pc = .ok (.return_, 1)) : fk_W E nL n mp cs sl pc lv [] := by
  obtain ⟨p, l, e, R, s, m, args, below, meth, c, G, b0, Q⟩ := E
  obtain ⟨⟨⟨hx, hb, hml, hown, hts⟩, hK⟩, ⟨rfl, rfl, rfl⟩, hmn, hfr, hlo, hrc, hrs⟩ := X
  obtain ⟨rfl, hr, hlocks⟩ := Y
  intro H locs ls hR hS hl
  exact W.vret hx hb hr (fun t ht hW => ⟨rfl, by rw [ht]; exact hR, hS.F ht⟩) hS.2.2 d hlocks
/-- more cells, more slots are counted -/
theorem fk_widen {cs2 sl2 : Nat} (h1 : cs ≤ cs2) (h2 : sl ≤ sl2) (k : fk_W E nL n mp cs2 sl2 pc lv st) : fk_W E nL n mp cs sl pc lv st := by
  obtain ⟨p, l, e, R, s, m, args, below, meth, c, G, b0, Q⟩ := E
  intro H locs ls hR hS hl
  exact W.widen h1 h2 (k H locs ls hR hS hl)
theorem fk_sub {lv2 : List (Nat × fk_T)} (h : ∀ q ∈ lv2, q ∈ lv) (k : fk_W E nL n mp cs sl pc lv2 st) : fk_W E nL n mp cs sl pc lv st := by
  obtain ⟨p, l, e, R, s, m, args, below, meth, c, G, b0, Q⟩ := E
  intro H locs ls hR hS hl
  refine k H locs ls hR hS ⟨hl.1, hl.2.1, fun q hq => ?_⟩
  obtain ⟨z, h1, rfl⟩ := List.mem_map.mp hq
  exact hl.2.2 _ (List.mem_map.mpr ⟨z, h z h1, rfl⟩)
def fk_pick (lv : List (Nat × fk_T)) (ks : List Nat) : List (Nat × fk_T) := ks.filterMap (fun k => lv[k]?)
theorem fk_cut {lv2 : List (Nat × fk_T)} (ks : List Nat) (h : fk_pick lv ks = lv2) (k : fk_W E nL n mp cs sl pc lv2 st) : fk_W E nL n mp cs sl pc lv st := by
  refine fk_sub ?_ k
  intro q hq
  rw [← h] at hq
  obtain ⟨i, -, hi⟩ := List.mem_filterMap.mp hq
  exact List.mem_of_getElem? hi
theorem fk_blind {G : fk_G} {b0 : Nat} {av : List fk_T} {n : Nat} {mp : fk_M} : FrameBlind (fk_Pc G b0 av n mp) := fun a U g mk h => ⟨h.1, h.2.1.same rfl rfl, h.2.2⟩
/-- behind a call -/
theorem fk_back {p : Program} {l : Launch} {e : Env} {R : Room} {s : State} {m : MethodId} {args : Array Value} {below : List Frame} {meth : Method} {c : Code} {G : fk_G} {b0 : Nat} {Q : State → Prop} {H : Heap} {locs : List Loc} {ls : Array Slot} {st0 rest : List fk_T} {a : Array Value} {rv : Option fk_T} {n2 mc ms : Nat} {mp2 : fk_M}
    (hr : va_Run p l e R s m args below meth c H locs cs sl mc ms (F0 m pc ls (fk_s st0)) (fk_s rest) (fk_Qc G b0 rv n2 mp2 a) (fun q => b0 ≤ q)) (hS : va_S (fun q => b0 ≤ q) s.heap H locs) (hl : lv_has ls nL (fk_l lv))
    (kk : fk_W (p, l, e, R, s, m, args, below, meth, c, G, b0, Q) nL n2 mp2 (cs + mc) (sl + ms) (pc + 3) lv (rv.toList ++ rest)) : W p l e R s m args below meth c H locs cs sl Q (F0 m pc ls (fk_s st0)) := by
  intro T hT X
  obtain ⟨v, st₀, t, T', L, h0, X', hL, e1, e2, ⟨hv, hR2, hz, hk⟩, st⟩ := hr T hT X
  have hv : v = rv.map fk_v := Outcome.returned.inj hv
  subst hv
  rw [h0] at hz hk
  have hs : va_S (fun q => b0 ≤ q) s.heap T'.heap (locs ++ L) := by
    refine ⟨Nat.le_trans hS.1 (by rw [e1]; exact hz), fun q h1 h2 => ?_, fun q hq => ?_⟩
    · rw [e1, hk q (Nat.lt_of_lt_of_le h1 hS.1) h2]
      exact hS.2.1 q h1 h2
    · rcases List.mem_append.mp hq with h | h
      · exact hS.2.2 q h
      · exact hL q h
  obtain ⟨t2, a1, b1⟩ := kk T'.heap (locs ++ L) ls (by rw [e1]; exact hR2) hs hl T' rfl X'
  refine ⟨t2, st t2 ?_, b1⟩
  have e3 : fk_s (rv.toList ++ rest) = (rv.map fk_v).toList ++ fk_s rest := by cases rv <;> rfl
  rw [e3] at a1
  exact a1
theorem fk_rev (as : List fk_T) : (fk_s as).reverse = fk_s as.reverse := by
  unfold fk_s
  rw [List.map_reverse]
theorem fk_app (as bs : List fk_T) : fk_s (as ++ bs) = fk_s as ++ fk_s bs := by
  unfold fk_s
  rw [List.map_append]
theorem fk_len (as : List fk_T) : (fk_s as).length = as.length := by
  unfold fk_s
  rw [List.length_map]
theorem fk_room {m : MethodId} {ls : Array Slot} {rest st0 : List fk_T} (h : Nat.ble (fk_w rest) 8 = true) : 2 * (F0 m pc ls (fk_s st0)).monitorRoom + ((fk_s rest).map fun v => v.category).sum ≤ 8 := by
  have h1 : ((fk_s rest).map fun v => v.category).sum ≤ 8 := by rw [fk_sum]; exact Nat.le_of_ble_eq_true h
  exact lv_room (rest := fk_s st0) h1
/-- what is asked of a method's name -/
def fk_N (y : MethodName) (k : Nat) : Prop := plainName y.cls = true ∧ y.cls ≠ "java/lang/invoke/MethodHandle" ∧ y.cls ≠ "java/lang/invoke/VarHandle" ∧ (parseMethodDescriptor y.desc).map (fun d => d.parameters.length) = some k
/-- a static call -/
theorem fk_callS (X : fk_X E l0 G0 b00 own mn cc nL fr lo rc rs) {y : MethodName} {bytes : ByteArray} {maxL fr2 lo2 n2 mc ms index na : Nat} {ret2 : Option FieldType} {av rest : List fk_T} {mp2 : fk_M} {rv : Option fk_T} (M : fk_Ct l0 G0 b00 y bytes maxL ret2 fr2 lo2 av n mp rv n2 mp2 mc ms) (N : fk_N y na)
    (q1 : Cond.methodLink own index y ∈ lw_all) (q2 : Cond.static y ∈ lw_all) (q3 : Cond.initialized y.cls ∈ lw_all) (q4 : Cond.code y bytes maxL ret2 ∈ lw_all) (d : decode cc pc = .ok (.invokestatic index, 3)) (hna : av.length = na) (hst : av.reverse ++ rest = st) (hw : Nat.ble (fk_w rest) 8 = true) (hf : Nat.ble (fr2 + 1) fr = true) (hlo2 : Nat.ble (8 + (maxL + 11) + lo2) lo = true) (hc : cs + mc ≤ rc) (hs : sl + ms ≤ rs)
    (kk : fk_W E nL n2 mp2 (cs + mc) (sl + ms) (pc + 3) lv (rv.toList ++ rest)) : fk_W E nL n mp cs sl pc lv st := by
  obtain ⟨p, l, e, R, s, m, args, below, meth, c, G, b0, Q⟩ := E
  obtain ⟨⟨⟨hx, hb, hml, hown, hts⟩, hK⟩, ⟨rfl, rfl, rfl⟩, hmn, rfl, rfl, rfl, rfl⟩ := X
  intro H locs ls hR hS hl
  subst hst
  refine fk_back (va_runS (As := fk_s av) (rest := fk_s rest) ⟨hx, hb, hml, hown, hts⟩ M (va_cwS na hts (lw_S q1 q2 q3 q4) rfl rfl rfl N.2 ⟨Nat.le_of_ble_eq_true hf, Nat.le_of_ble_eq_true hlo2⟩) ⟨fk_blind, fun U hU hW => ⟨rfl, hK.next hW (by rw [hU]; exact hS.1) (fun q h1 h2 => by rw [hU]; exact hS.2.1 q h1 h2), by rw [hU]; exact hR⟩⟩ rfl ((fk_len av).trans hna) hl.1 (by rw [fk_rev, ← fk_app]) (fk_room hw) d ⟨hc, hs⟩) hS hl kk
theorem fk_recv {G : fk_G} {b0 n b ci : Nat} {mp : fk_M} {w : Bool} {V : Nat → fk_T} {H : Heap} {s : State} {C : String} {T : u_T} {N : Nat} (hK : fk_K G b0 s) (hR : fk_R G b0 n mp H) (h : mp b = some (w, oB ci V)) (hc : fk_cl[ci]? = some (C, T, N)) : ∃ cell : Cell, H[b]? = some cell ∧ cell.vm.isStatics = false ∧ s.vm.findClass C = some cell.cls := by
  obtain ⟨⟨r, h1, cell, g1, g2, g3, -⟩, -⟩ := hR.2.2 b w _ h
  exact ⟨cell, g1, by rw [g3]; rfl, by rw [g2]; exact (hK.1 ci _ hc).2.1⟩
/-- is it an object of the class? -/
def isO (mp : fk_M) (q : Option Nat) (ci : Nat) : Option Unit := (fk_o mp q ci).map fun _ => ()
theorem isO_eq {mp : fk_M} {q : Option Nat} {ci : Nat} {u : Unit} (h : isO mp q ci = some u) : ∃ (b : Nat) (w : Bool) (V : Nat → fk_T), q = some b ∧ mp b = some (w, oB ci V) := by
  unfold isO at h
  cases ho : fk_o mp q ci with
  | none => rw [ho] at h; cases h
  | some o =>
    obtain ⟨w, V⟩ := o
    obtain ⟨a, e1, e2⟩ := fk_o_eq ho
    exact ⟨a, w, V, e1, e2⟩
/-- a call through an object of the class that has the method -/
theorem fk_callV (X : fk_X E l0 G0 b00 own mn cc nL fr lo rc rs) {y : MethodName} {bytes : ByteArray} {maxL fr2 lo2 n2 mc ms index na ci N2 : Nat} {C : String} {T : u_T} {ret2 : Option FieldType} {q : Option Nat} {av rest : List fk_T} {mp2 : fk_M} {rv : Option fk_T} {u : Unit} (hq : isO mp q ci = some u) (hcl : fk_cl[ci]? = some (C, T, N2)) (M : fk_Ct l0 G0 b00 y bytes maxL ret2 fr2 lo2 (tR q :: av) n mp rv n2 mp2 mc ms) (N : fk_N y na)
    (q1 : Cond.methodLink own index y ∈ lw_all) (q2 : Cond.instanceMethod y ∈ lw_all) (q3 : Cond.selects C y y ∈ lw_all) (q4 : Cond.initialized C ∈ lw_all) (q5 : Cond.code y bytes maxL ret2 ∈ lw_all) (hC : y.cls = C) (d : decode cc pc = .ok (.invokevirtual index, 3)) (hna : av.length = na) (hst : av.reverse ++ tR q :: rest = st) (hw : Nat.ble (fk_w rest) 8 = true) (hf : Nat.ble (fr2 + 1) fr = true) (hlo2 : Nat.ble (8 + (maxL + 11) + lo2) lo = true) (hc : cs + mc ≤ rc) (hs : sl + ms ≤ rs)
    (kk : fk_W E nL n2 mp2 (cs + mc) (sl + ms) (pc + 3) lv (rv.toList ++ rest)) : fk_W E nL n mp cs sl pc lv st := by
  obtain ⟨b, w, V, rfl, hb2⟩ := isO_eq hq
  obtain ⟨p, l, e, R, s, m, args, below, meth, c, G, b0, Q⟩ := E
  obtain ⟨⟨⟨hx, hb, hml, hown, hts⟩, hK⟩, ⟨rfl, rfl, rfl⟩, hmn, rfl, rfl, rfl, rfl⟩ := X
  intro H locs ls hR hS hl
  subst hst
  refine fk_back (va_runV (As := fk_s av) (rest := fk_s rest) ⟨hx, hb, hml, hown, hts⟩ M (cwV na hts (lw_V q1 q2 q3 q4 q5) rfl rfl rfl ⟨hC, N.2⟩ ⟨Nat.le_of_ble_eq_true hf, Nat.le_of_ble_eq_true hlo2⟩) ⟨fk_blind, fk_recv hK hR hb2 hcl, fun U hU hW => ⟨rfl, hK.next hW (by rw [hU]; exact hS.1) (fun q h1 h2 => by rw [hU]; exact hS.2.1 q h1 h2), by rw [hU]; exact hR⟩⟩ rfl ((fk_len av).trans hna) hl.1 (by rw [fk_rev]; exact fk_app av.reverse (tR (some b) :: rest)) (fk_room hw) d ⟨hc, hs⟩) hS hl kk
theorem fk_memS {w a b c d e : Cond} {Ts : List Cond} (h : w ∈ [a, b, c, d, e]) (h1 : a ∈ Ts) (h2 : b ∈ Ts) (h3 : c ∈ Ts) (h4 : d ∈ Ts) (h5 : e ∈ Ts) : w ∈ Ts := by
  simp only [List.mem_cons, List.not_mem_nil, or_false] at h
  rcases h with e | e | e | e | e <;> (rw [e]; assumption)
/-- .. of a class that inherits it -/
theorem fk_callU (X : fk_X E l0 G0 b00 own mn cc nL fr lo rc rs) {x y : MethodName} {bytes : ByteArray} {maxL fr2 lo2 n2 mc ms index na ci N2 : Nat} {C owner : String} {T : u_T} {ret2 : Option FieldType} {q : Option Nat} {av rest : List fk_T} {mp2 : fk_M} {rv : Option fk_T} {u : Unit} (hq : isO mp q ci = some u) (hcl : fk_cl[ci]? = some (C, T, N2)) (M : fk_Ct l0 G0 b00 y bytes maxL ret2 fr2 lo2 (tR q :: av) n mp rv n2 mp2 mc ms)
    (hd : owner ≠ "java/lang/invoke/MethodHandle" ∧ owner ≠ "java/lang/invoke/VarHandle" ∧ (parseMethodDescriptor x.desc).map (fun d => d.parameters.length) = some na) (hyx : y = ⟨owner, x.name, x.desc⟩)
    (q1 : Cond.methodLink own index x ∈ lw_all) (q2 : Cond.sameMethod x.cls owner x.name x.desc ∈ lw_all) (q3 : Cond.selects C x y ∈ lw_all) (q4 : Cond.instanceMethod y ∈ lw_all) (q5 : Cond.initialized y.cls ∈ lw_all) (q6 : Cond.code y bytes maxL ret2 ∈ lw_all) (d : decode cc pc = .ok (.invokevirtual index, 3)) (hna : av.length = na) (hst : av.reverse ++ tR q :: rest = st) (hw : Nat.ble (fk_w rest) 8 = true) (hf : Nat.ble (fr2 + 1) fr = true) (hlo2 : Nat.ble (8 + (maxL + 11) + lo2) lo = true) (hc : cs + mc ≤ rc) (hs : sl + ms ≤ rs)
    (kk : fk_W E nL n2 mp2 (cs + mc) (sl + ms) (pc + 3) lv (rv.toList ++ rest)) : fk_W E nL n mp cs sl pc lv st := by
  obtain ⟨b, w, V, rfl, hb2⟩ := isO_eq hq
  obtain ⟨p, l, e, R, s, m, args, below, meth, c, G, b0, Q⟩ := E
  obtain ⟨⟨⟨hx, hb, hml, hown, hts⟩, hK⟩, ⟨rfl, rfl, rfl⟩, hmn, rfl, rfl, rfl, rfl⟩ := X
  intro H locs ls hR hS hl
  subst hst
  refine fk_back (va_runU (As := fk_s av) (rest := fk_s rest) ⟨hx, hb, hml, hown, hts⟩ M (va_cwU na hts (lw_app (fun w h => fk_memS h q1 q2 q3 q4 q5) (lw_meth q6)) rfl rfl rfl hyx hd ⟨Nat.le_of_ble_eq_true hf, Nat.le_of_ble_eq_true hlo2⟩) ⟨fk_blind, fk_recv hK hR hb2 hcl, fun U hU hW => ⟨rfl, hK.next hW (by rw [hU]; exact hS.1) (fun q h1 h2 => by rw [hU]; exact hS.2.1 q h1 h2), by rw [hU]; exact hR⟩⟩ rfl ((fk_len av).trans hna) hl.1 (by rw [fk_rev]; exact fk_app av.reverse (tR (some b) :: rest)) (fk_room hw) d ⟨hc, hs⟩) hS hl kk
/-- .. of a class that makes an abstract method -/
theorem fk_callA (X : fk_X E l0 G0 b00 own mn cc nL fr lo rc rs) {x y : MethodName} {bytes : ByteArray} {maxL fr2 lo2 n2 mc ms index na ci N2 : Nat} {C owner : String} {T : u_T} {ret2 : Option FieldType} {q : Option Nat} {av rest : List fk_T} {mp2 : fk_M} {rv : Option fk_T} {u : Unit} (hq : isO mp q ci = some u) (hcl : fk_cl[ci]? = some (C, T, N2)) (M : fk_Ct l0 G0 b00 y bytes maxL ret2 fr2 lo2 (tR q :: av) n mp rv n2 mp2 mc ms)
    (hd : owner ≠ "java/lang/invoke/MethodHandle" ∧ owner ≠ "java/lang/invoke/VarHandle" ∧ (parseMethodDescriptor x.desc).map (fun d => d.parameters.length) = some na) (hz : (⟨owner, x.name, x.desc⟩ : MethodName) ∈ fk_dcl)
    (q1 : Cond.methodLink own index x ∈ lw_all) (q2 : Cond.sameMethod x.cls owner x.name x.desc ∈ lw_all) (q3 : Cond.selects C x y ∈ lw_all) (q4 : Cond.instanceMethod y ∈ lw_all) (q5 : Cond.initialized y.cls ∈ lw_all) (q6 : Cond.code y bytes maxL ret2 ∈ lw_all) (d : decode cc pc = .ok (.invokevirtual index, 3)) (hna : av.length = na) (hst : av.reverse ++ tR q :: rest = st) (hw : Nat.ble (fk_w rest) 8 = true) (hf : Nat.ble (fr2 + 1) fr = true) (hlo2 : Nat.ble (8 + (maxL + 11) + lo2) lo = true) (hc : cs + mc ≤ rc) (hs : sl + ms ≤ rs)
    (kk : fk_W E nL n2 mp2 (cs + mc) (sl + ms) (pc + 3) lv (rv.toList ++ rest)) : fk_W E nL n mp cs sl pc lv st := by
  obtain ⟨b, w, V, rfl, hb2⟩ := isO_eq hq
  obtain ⟨p, l, e, R, s, m, args, below, meth, c, G, b0, Q⟩ := E
  obtain ⟨⟨⟨hx, hb, hml, hown, hts⟩, hK⟩, ⟨rfl, rfl, rfl⟩, hmn, rfl, rfl, rfl, rfl⟩ := X
  intro H locs ls hR hS hl
  subst hst
  refine fk_back (va_runU (As := fk_s av) (rest := fk_s rest) ⟨hx, hb, hml, hown, hts⟩ M (va_cwA na hts (lw_app (fun w h => fk_memS h q1 q2 q3 q4 q5) (lw_meth q6)) rfl rfl rfl (hK.2.2.2.2.1 _ hz) hd ⟨Nat.le_of_ble_eq_true hf, Nat.le_of_ble_eq_true hlo2⟩) ⟨fk_blind, fk_recv hK hR hb2 hcl, fun U hU hW => ⟨rfl, hK.next hW (by rw [hU]; exact hS.1) (fun q h1 h2 => by rw [hU]; exact hS.2.1 q h1 h2), by rw [hU]; exact hR⟩⟩ rfl ((fk_len av).trans hna) hl.1 (by rw [fk_rev]; exact fk_app av.reverse (tR (some b) :: rest)) (fk_room hw) d ⟨hc, hs⟩) hS hl kk
/-- super.method -/
theorem fk_callSU (X : fk_X E l0 G0 b00 own mn cc nL fr lo rc rs) {y : MethodName} {bytes : ByteArray} {maxL fr2 lo2 n2 mc ms index na ci N2 : Nat} {C : String} {T : u_T} {ret2 : Option FieldType} {q : Option Nat} {av rest : List fk_T} {mp2 : fk_M} {rv : Option fk_T} {u : Unit} (hq : isO mp q ci = some u) (hcl : fk_cl[ci]? = some (C, T, N2)) (M : fk_Ct l0 G0 b00 y bytes maxL ret2 fr2 lo2 (tR q :: av) n mp rv n2 mp2 mc ms) (hno : y.name ≠ "<init>") (N : fk_N y na)
    (q1 : Cond.methodLink own index y ∈ lw_all) (q2 : Cond.sameMethod y.cls y.cls y.name y.desc ∈ lw_all) (q3 : Cond.superclass own y.cls ∈ lw_all) (q4 : Cond.instanceMethod y ∈ lw_all) (q5 : Cond.initialized y.cls ∈ lw_all) (q6 : Cond.code y bytes maxL ret2 ∈ lw_all) (d : decode cc pc = .ok (.invokespecial index, 3)) (hna : av.length = na) (hst : av.reverse ++ tR q :: rest = st) (hw : Nat.ble (fk_w rest) 8 = true) (hf : Nat.ble (fr2 + 1) fr = true) (hlo2 : Nat.ble (8 + (maxL + 11) + lo2) lo = true) (hc : cs + mc ≤ rc) (hs : sl + ms ≤ rs)
    (kk : fk_W E nL n2 mp2 (cs + mc) (sl + ms) (pc + 3) lv (rv.toList ++ rest)) : fk_W E nL n mp cs sl pc lv st := by
  obtain ⟨b, w, V, rfl, hb2⟩ := isO_eq hq
  obtain ⟨p, l, e, R, s, m, args, below, meth, c, G, b0, Q⟩ := E
  obtain ⟨⟨⟨hx, hb, hml, hown, hts⟩, hK⟩, ⟨rfl, rfl, rfl⟩, hmn, rfl, rfl, rfl, rfl⟩ := X
  intro H locs ls hR hS hl
  subst hst
  refine fk_back (va_runSU (As := fk_s av) (rest := fk_s rest) (hK.1 ci _ hcl).2 ⟨hx, hb, hml, hown, hts⟩ M (va_cwSU na hts (lw_app (fun w h => fk_memS h q1 q2 q3 q4 q5) (lw_meth q6)) rfl rfl rfl ⟨hno, N.2.2.2⟩ ⟨Nat.le_of_ble_eq_true hf, Nat.le_of_ble_eq_true hlo2⟩) ⟨fk_blind, fk_recv hK hR hb2 hcl, fun U hU hW => ⟨rfl, hK.next hW (by rw [hU]; exact hS.1) (fun q h1 h2 => by rw [hU]; exact hS.2.1 q h1 h2), by rw [hU]; exact hR⟩⟩ rfl ((fk_len av).trans hna) hl.1 (by rw [fk_rev]; exact fk_app av.reverse (tR (some b) :: rest)) (fk_room hw) d ⟨hc, hs⟩) hS hl kk
def isS (q : Option Nat) : Option Unit := q.map fun _ => ()
theorem isS_eq {q : Option Nat} {u : Unit} (h : isS q = some u) : ∃ b : Nat, q = some b := by
  cases q with
  | none => cases h
  | some b => exact ⟨b, rfl⟩
/-- a constructor -/
theorem fk_callI (X : fk_X E l0 G0 b00 own mn cc nL fr lo rc rs) {y : MethodName} {bytes : ByteArray} {maxL fr2 lo2 n2 mc ms index na : Nat} {q : Option Nat} {av rest : List fk_T} {mp2 : fk_M} {u : Unit} (hq : isS q = some u) (M : fk_Ct l0 G0 b00 y bytes maxL none fr2 lo2 (tR q :: av) n mp none n2 mp2 mc ms) (N : fk_N y na) (hy1 : y.name = "<init>")
    (q1 : Cond.methodLink own index y ∈ lw_all) (q2 : Cond.instanceMethod y ∈ lw_all) (q3 : Cond.initialized y.cls ∈ lw_all) (q4 : Cond.code y bytes maxL none ∈ lw_all) (d : decode cc pc = .ok (.invokespecial index, 3)) (hna : av.length = na) (hst : av.reverse ++ tR q :: rest = st) (hw : Nat.ble (fk_w rest) 8 = true) (hf : Nat.ble (fr2 + 1) fr = true) (hlo2 : Nat.ble (8 + (maxL + 11) + lo2) lo = true) (hc : cs + mc ≤ rc) (hs : sl + ms ≤ rs)
    (kk : fk_W E nL n2 mp2 (cs + mc) (sl + ms) (pc + 3) lv rest) : fk_W E nL n mp cs sl pc lv st := by
  obtain ⟨b, rfl⟩ := isS_eq hq
  obtain ⟨p, l, e, R, s, m, args, below, meth, c, G, b0, Q⟩ := E
  obtain ⟨⟨⟨hx, hb, hml, hown, hts⟩, hK⟩, ⟨rfl, rfl, rfl⟩, hmn, rfl, rfl, rfl, rfl⟩ := X
  intro H locs ls hR hS hl
  subst hst
  refine fk_back (va_runI (As := fk_s av) (rest := fk_s rest) ⟨hx, hb, hml, hown, hts⟩ M (cwI na hts (lw_meth q4) rfl rfl rfl (hts _ q3) (hts _ q1) (hts _ q2) hy1 N.2 ⟨Nat.le_of_ble_eq_true hf, Nat.le_of_ble_eq_true hlo2⟩) ⟨fk_blind, fun U hU hW => ⟨rfl, hK.next hW (by rw [hU]; exact hS.1) (fun q h1 h2 => by rw [hU]; exact hS.2.1 q h1 h2), by rw [hU]; exact hR⟩⟩ rfl ((fk_len av).trans hna) hl.1 (by rw [fk_rev]; exact fk_app av.reverse (tR (some b) :: rest)) (fk_room hw) d ⟨hc, hs⟩) hS hl kk
/-- across a nest: a private static method, a private constructor -/
theorem fk_callSN (X : fk_X E l0 G0 b00 own mn cc nL fr lo rc rs) {y : MethodName} {host : String} {bytes : ByteArray} {maxL fr2 lo2 n2 mc ms index na : Nat} {ret2 : Option FieldType} {av rest : List fk_T} {mp2 : fk_M} {rv : Option fk_T} (M : fk_Ct l0 G0 b00 y bytes maxL ret2 fr2 lo2 av n mp rv n2 mp2 mc ms) (N : fk_N y na)
    (q1 : (own, index, y, host) ∈ fk_mln) (q2 : Cond.static y ∈ lw_all) (q3 : Cond.initialized y.cls ∈ lw_all) (q4 : Cond.code y bytes maxL ret2 ∈ lw_all) (d : decode cc pc = .ok (.invokestatic index, 3)) (hna : av.length = na) (hst : av.reverse ++ rest = st) (hw : Nat.ble (fk_w rest) 8 = true) (hf : Nat.ble (fr2 + 1) fr = true) (hlo2 : Nat.ble (8 + (maxL + 11) + lo2) lo = true) (hc : cs + mc ≤ rc) (hs : sl + ms ≤ rs)
    (kk : fk_W E nL n2 mp2 (cs + mc) (sl + ms) (pc + 3) lv (rv.toList ++ rest)) : fk_W E nL n mp cs sl pc lv st := by
  obtain ⟨p, l, e, R, s, m, args, below, meth, c, G, b0, Q⟩ := E
  obtain ⟨⟨⟨hx, hb, hml, hown, hts⟩, hK⟩, ⟨rfl, rfl, rfl⟩, hmn, rfl, rfl, rfl, rfl⟩ := X
  intro H locs ls hR hS hl
  subst hst
  refine fk_back (va_runSN (As := fk_s av) (rest := fk_s rest) ⟨hx, hb, hml, hown, hts⟩ M ⟨va_cnB na hts (lw_meth q4) rfl rfl rfl (hK.2.2.2.2.2.2.1 _ q1) (hts _ q3) N.2 ⟨Nat.le_of_ble_eq_true hf, Nat.le_of_ble_eq_true hlo2⟩, hts _ q2, trivial⟩ ⟨fk_blind, fun U hU hW => ⟨rfl, hK.next hW (by rw [hU]; exact hS.1) (fun q h1 h2 => by rw [hU]; exact hS.2.1 q h1 h2), by rw [hU]; exact hR⟩⟩ rfl ((fk_len av).trans hna) hl.1 (by rw [fk_rev, ← fk_app]) (fk_room hw) d ⟨hc, hs⟩) hS hl kk
theorem fk_callIN (X : fk_X E l0 G0 b00 own mn cc nL fr lo rc rs) {y : MethodName} {host : String} {bytes : ByteArray} {maxL fr2 lo2 n2 mc ms index na : Nat} {q : Option Nat} {av rest : List fk_T} {mp2 : fk_M} {u : Unit} (hq : isS q = some u) (M : fk_Ct l0 G0 b00 y bytes maxL none fr2 lo2 (tR q :: av) n mp none n2 mp2 mc ms) (N : fk_N y na) (hy1 : y.name = "<init>")
    (q1 : (own, index, y, host) ∈ fk_mln) (q2 : Cond.instanceMethod y ∈ lw_all) (q3 : Cond.initialized y.cls ∈ lw_all) (q4 : Cond.code y bytes maxL none ∈ lw_all) (d : decode cc pc = .ok (.invokespecial index, 3)) (hna : av.length = na) (hst : av.reverse ++ tR q :: rest = st) (hw : Nat.ble (fk_w rest) 8 = true) (hf : Nat.ble (fr2 + 1) fr = true) (hlo2 : Nat.ble (8 + (maxL + 11) + lo2) lo = true) (hc : cs + mc ≤ rc) (hs : sl + ms ≤ rs)
    (kk : fk_W E nL n2 mp2 (cs + mc) (sl + ms) (pc + 3) lv rest) : fk_W E nL n mp cs sl pc lv st := by
  obtain ⟨b, rfl⟩ := isS_eq hq
  obtain ⟨p, l, e, R, s, m, args, below, meth, c, G, b0, Q⟩ := E
  obtain ⟨⟨⟨hx, hb, hml, hown, hts⟩, hK⟩, ⟨rfl, rfl, rfl⟩, hmn, rfl, rfl, rfl, rfl⟩ := X
  intro H locs ls hR hS hl
  subst hst
  refine fk_back (va_runIN (As := fk_s av) (rest := fk_s rest) ⟨hx, hb, hml, hown, hts⟩ M ⟨va_cnB na hts (lw_meth q4) rfl rfl rfl (hK.2.2.2.2.2.2.1 _ q1) (hts _ q3) N.2 ⟨Nat.le_of_ble_eq_true hf, Nat.le_of_ble_eq_true hlo2⟩, hy1, hts _ q2⟩ ⟨fk_blind, fun U hU hW => ⟨rfl, hK.next hW (by rw [hU]; exact hS.1) (fun q h1 h2 => by rw [hU]; exact hS.2.1 q h1 h2), by rw [hU]; exact hR⟩⟩ rfl ((fk_len av).trans hna) hl.1 (by rw [fk_rev]; exact fk_app av.reverse (tR (some b) :: rest)) (fk_room hw) d ⟨hc, hs⟩) hS hl kk
/-- Object.<init> -/
theorem fk_objInit (X : fk_X E l0 G0 b00 own mn cc nL fr lo rc rs) {index : Nat} {q : Option Nat} {u : Unit} (hq : isS q = some u) (q1 : Cond.methodLink own index Lib.objectInit ∈ lw_all) (q2 : Cond.instanceMethod Lib.objectInit ∈ lw_all) (q3 : Cond.code Lib.objectInit ⟨#[0xb1]⟩ 1 none ∈ lw_all) (d : decode cc pc = .ok (.invokespecial index, 3)) (hf : Nat.ble 1 fr = true) (hlo2 : Nat.ble (fk_w st + 12) lo = true) (kk : fk_W E nL n mp cs sl (pc + 3) lv st) : fk_W E nL n mp cs sl pc lv (tR q :: st) := by
  obtain ⟨b, rfl⟩ := isS_eq hq
  obtain ⟨p, l, e, R, s, m, args, below, meth, c, G, b0, Q⟩ := E
  obtain ⟨⟨⟨hx, hb, hml, hown, hts⟩, hK⟩, ⟨rfl, rfl, rfl⟩, hmn, rfl, rfl, rfl, rfl⟩ := X
  intro H locs ls hR hS hl
  refine W.objInit hx hb hown (hts _ q1) (hts _ q2) (hts _ q3) rfl (by rw [hml]; exact hl.1) rfl d (Nat.le_of_ble_eq_true hf) ?_ (kk H locs ls hR hS hl)
  have h := Nat.le_of_ble_eq_true hlo2
  rw [← fk_sum] at h
  show 2 * 0 + ((fk_s st).map fun v => v.category).sum + 12 ≤ R.locals
  omega
end FKD
