/-! the law's own led, that catches; the law's ends -/
set_option maxRecDepth 100000
theorem n_X0_led : fk_N yX0_led 3 := ⟨by decide +kernel, by decide +kernel, by decide +kernel, by decide +kernel⟩
abbrev ex_H : List (Nat × Nat × Nat × Nat) := [(0, 9, 12, 13)]
def ex_nx : String → State → State → Prop := fun _ _ _ => False
/-- what the led of the law stands on -/
def fk_YX (E : fk_E) (ret : Option FieldType) (rv : Option fk_T) (n' : Nat) (mp' : fk_M) (mc ms : Nat) : Prop := match E with
  | (p, l, e, R, s, m, args, below, meth, c, G, b0, Q) => Q = vx_MQ below (fk_Qc G b0 rv n' mp') ex_nx args s mc ms (fun q => b0 ≤ q) ∧ meth.sig.returnType = ret ∧ meth.locks = false ∧ l.stackTraces = false ∧ c.exceptionTable.toList = tableOf ex_H ∧ ex_K b0 s
theorem fk_xireturn {E : fk_E} {l0 : Launch} {G0 : fk_G} {b00 : Nat} {own mn : String} {cc : ByteArray} {nL fr lo rc rs n cs sl pc : Nat} {mp : fk_M} {lv : List (Nat × fk_T)} (X : fk_X E l0 G0 b00 own mn cc nL fr lo rc rs) {ty : FieldType} {v : Int32} (Y : fk_YX E (some ty) (some (tI v)) n mp cs sl) (d : decode cc pc = .ok (.ireturn, 1)) (hn : narrow ty (.int v) = .int v) : fk_W E nL n mp cs sl pc lv [tI v] := by
  obtain ⟨p, l, e, R, s, m, args, below, meth, c, G, b0, Q⟩ := E
  obtain ⟨⟨⟨hx, hb, hml, hown, hts⟩, hK⟩, ⟨rfl, rfl, rfl⟩, hmn, hfr, hlo, hrc, hrs⟩ := X
  obtain ⟨rfl, hr, hlocks, -⟩ := Y
  intro H locs ls hR hS hl
  exact vx_ret (W.zret hx hb hr hn (fun t ht hW => ⟨rfl, by rw [ht]; exact hR, hS.F ht⟩) hS.2.2 d hlocks)
theorem fk_ledcatch {E : fk_E} {l : Launch} {G : fk_G} {b0 n n' mc ms rc rs : Nat} {m m' : fk_M} {lv : List (Nat × fk_T)} {a0 a2 : Option Nat} {a1 : Int32} {u : Unit} {ret : Option FieldType} {rv : Option fk_T} (X : fk_X E l G b0 "FigureKneeLaw" "led" cX0_led 4 40 700 rc rs) (Y : fk_YX E ret rv n' m' mc ms) (hq : isO m a0 0 = some u) (hf : f_X1_ledT a0 a1 m = some ()) (h1 : 1 ≤ rc) (h6 : 6 ≤ rs) (kk : ∀ q : Nat, fk_W E 4 (n + 1) m 1 6 12 lv [tR (some q)]) : fk_W E 4 n m 0 0 4 lv [tI a1, tR a0, tI 0, tR a2] := by
  obtain ⟨b, w, V, rfl, hb2⟩ := isO_eq hq
  obtain ⟨p, l, e, R, s, mm, args, below, meth, c, G, b0, Q⟩ := E
  obtain ⟨⟨⟨hx, hb, hml, hown, hts⟩, hK⟩, ⟨rfl, rfl, rfl⟩, hmn, hfr, hlo, rfl, rfl⟩ := X
  obtain ⟨-, -, -, hst, htab, hex⟩ := Y
  intro H locs ls hR hS hl
  have hr := vx_runV (cells := 0) (slots := 0) (locs := locs) (p := p) (e := e) (R := R) (below := below) (meth := meth) (As := fk_s [tI a1]) (rest := fk_s [tI 0, tR a2]) (g := F0 mm 4 ls (fk_s [tI a1, tR (some b), tI 0, tR a2])) ⟨hx, hb, hml, hown, hts⟩ (c_X1_ledT (G := G) (b0 := b0) (n := n) hst hf) (cwV 1 hts (lw_V q1455 q1456 q1457 q122 q1458) rfl rfl rfl ⟨rfl, n_X1_led.2⟩ ⟨by rw [hfr]; decide, by rw [hlo]; exact Nat.le_of_ble_eq_true rfl⟩) ⟨ex_blind, fk_recv hK hR hb2 rfl, fun U hU hW => ⟨⟨rfl, hK.next hW (by rw [hU]; exact hS.1) (fun q h1 h2 => by rw [hU]; exact hS.2.1 q h1 h2), by rw [hU]; exact hR⟩, hex.next hW (fun q h1 h2 => by rw [hU]; exact hS.2.1 q h1 h2)⟩⟩ rfl rfl hl.1 rfl (fk_room (rest := [tI 0, tR a2]) rfl) dX0_led_4 ⟨by omega, by omega⟩
  intro T hT XT
  rcases hr T hT XT with ⟨v, st₀, t, T', L, h0, X', hL, e1, e2, hF, st⟩ | ⟨q, st₀, t, T', L, EE, ce, h0, X', hL, e1, e2, ⟨rfl, hR2, hF⟩, hce, hcv, hcl, st⟩
  · exact False.elim hF
  · obtain ⟨k1, k2, k3⟩ := vx_keep h0 e1 hS (fun q _ h => h) (fun q h => h) hL hF
    have hc : vx_W p l e R s mm args below meth c T'.heap (locs ++ L) (0 + 1) (0 + 6) Q (F0 mm 4 ls (fk_s [tI 0, tR a2])) q := vx_catch (pc := 4) (name := ex_N) (E := ex_N) hown [] ⟨0, 9, 12, 13⟩ [] htab (fun z hz => nomatch hz) (by decide) (by decide) (hts _ q1454) (va_Nw.use rfl hex.2.2.1) (by rw [e1]; exact hce) hcv hcl (kk q T'.heap (locs ++ L) ls (by rw [e1]; exact hR2) k3 hl)
    obtain ⟨t2, a1, b1⟩ := hc T' rfl X'
    exact ⟨t2, st.trans a1, b1⟩
theorem ex_enterH {l : Launch} {G : fk_G} {b0 : Nat} {y : MethodName} {cc : ByteArray} {nL : Nat} {ret : Option FieldType} {fr lo mc ms n' : Nat} {av : List fk_T} {rv : Option fk_T} {n : Nat} {mp mp' : fk_M}
    (hy : plainName y.cls = true) (hw : Nat.ble (fk_w av) nL = true) (hst : l.stackTraces = false)
    (body : ∀ E : fk_E, fk_X E l G b0 y.cls y.name cc nL fr lo mc ms → fk_YX E ret rv n' mp' mc ms → fk_W E nL n mp 0 0 0 (fk_a 0 av) []) : vx_Met l y (wsW_ y cc nL ret ex_H) ({ frames := fr, cells := mc, slots := ms, locals := lo } : Room) (ex_Pc G b0 av n mp) (fk_Qc G b0 rv n' mp') ex_nx mc ms (fun q => b0 ≤ q) := by
  refine vx_ofWH (cc := cc) (maxL := nL) (ret := ret) (hh := ex_H) hy rfl ?_
  intro p e s m args below meth c s₁ B hml hv
  obtain ⟨⟨rfl, hK, hR⟩, hex⟩ := hv
  have hts0 := atoms_spec (ws := wsW_ y cc nL ret ex_H) B.pre
  have hts : ∀ w ∈ lw_all, w.before _ s = true := fun w h => hts0 w (List.mem_cons_of_mem _ h)
  have hX : fk_X (p, l, e, { frames := fr, cells := mc, slots := ms, locals := lo }, s, m, (fk_s av).toArray, below, meth, c, G, b0, vx_MQ below (fk_Qc G b0 rv n' mp') ex_nx (fk_s av).toArray s mc ms (fun q => b0 ≤ q)) l G b0 y.cls y.name cc nL fr lo mc ms :=
    ⟨⟨⟨B.exec, B.bytes, hml, findClass_of_methodNamed B.named, hts⟩, hK⟩, ⟨rfl, rfl, rfl⟩, (name_of_methodNamed B.named B.method).1, rfl, rfl, rfl, rfl⟩
  have hb := body _ hX ⟨rfl, B.returns, B.notSynchronized, hst, vx_table (x := y) B (hts0 _ List.mem_cons_self), hex⟩
  rw [lg_entry_eq]
  have hl := lv_entry (fk_s av) (n := nL) (by rw [fk_w_eq]; exact Nat.le_of_ble_eq_true hw)
  rw [fk_a_eq] at hl
  exact hb s.heap [] _ hR va_S.rf hl
set_option maxHeartbeats 4000000 in
theorem c_X0_led {l : Launch} {G : fk_G} {b0 n1 k1 n2 k2 : Nat} {a0 a2 : Option Nat} {a1 r : Int32} {m m2 : fk_M} (hst : l.stackTraces = false) (hf : f_X0_led a0 a1 a2 n1 k1 m = some (r, n2, k2, m2)) : vx_Met l yX0_led (wsW_ yX0_led cX0_led 4 (some .int) ex_H) ({ frames := 40, cells := n2 - n1, slots := k2 - k1, locals := 700 } : Room) (ex_Pc G b0 [tR a0, tI a1, tR a2] n1 m) (fk_Qc G b0 (some (tI r)) n2 m2) ex_nx (n2 - n1) (k2 - k1) (fun q => b0 ≤ q) := by
  unfold f_X0_led at hf
  obtain ⟨u, hq, hf⟩ := bI hf
  by_cases hT : f_X1_ledT a0 a1 m = some ()
  · rw [if_pos hT] at hf
    cases hf
    rw [show n1 + 1 - n1 = 1 by omega, show k1 + 6 - k1 = 6 by omega]
    refine ex_enterH n_X0_led.1 rfl hst ?_
    intro E X0 Y
    have X : fk_X E l G b0 "FigureKneeLaw" "led" cX0_led 4 40 700 1 6 := X0
    show fk_W E 4 n1 m 0 0 0 [(0, tR a0), (1, tI a1), (2, tR a2)] []
    refine fk_aload_n X 2 dX0_led_0 rfl ?_
    refine fk_iconst (v := 0) X dX0_led_1 rfl ?_
    refine fk_aload_n X 0 dX0_led_2 rfl ?_
    refine fk_iload_n X 1 dX0_led_3 rfl ?_
    refine fk_ledcatch X Y hq hT (Nat.le_refl _) (Nat.le_refl _) (fun q => ?_)
    refine fk_astore_n X [(3, tR (some q)), (0, tR a0), (1, tI a1), (2, tR a2)] dX0_led_12 rfl rfl ?_
    refine fk_iconst (v := 1) X dX0_led_13 rfl ?_
    exact fk_xireturn X Y dX0_led_14 (by decide +kernel)
  · rw [if_neg hT] at hf
    obtain ⟨v, hv, hf⟩ := bI hf
    obtain ⟨m1, hm, hf⟩ := bI hf
    cases hf
    rw [Nat.sub_self, Nat.sub_self]
    refine ex_enterH n_X0_led.1 rfl hst ?_
    intro E X0 Y
    have X : fk_X E l G b0 "FigureKneeLaw" "led" cX0_led 4 40 700 0 0 := X0
    show fk_W E 4 n1 m 0 0 0 [(0, tR a0), (1, tI a1), (2, tR a2)] []
    refine fk_aload_n X 2 dX0_led_0 rfl ?_
    refine fk_iconst (v := 0) X dX0_led_1 rfl ?_
    refine fk_aload_n X 0 dX0_led_2 rfl ?_
    refine fk_iload_n X 1 dX0_led_3 rfl ?_
    refine fk_callV0I (ci := 0) (rest := [tI 0, tR a2]) X hq rfl (c_X1_led hv) n_X1_led q1455 q1456 q1457 q122 q1458 rfl dX0_led_4 rfl rfl rfl rfl rfl (Nat.le_refl _) (Nat.le_refl _) ?_
    refine fk_i2l X dX0_led_7 ?_
    refine fk_lastore X dX0_led_8 hm ?_
    refine fk_goto X 15 dX0_led_9 rfl ?_
    refine fk_iconst (v := 0) X dX0_led_15 rfl ?_
    exact fk_xireturn X Y dX0_led_16 (by decide +kernel)
theorem mo_X0_led (a0 : Option Nat) (a1 : Int32) (a2 : Option Nat) (n1 k1 : Nat) (m0 : fk_M) : Mo4 n1 k1 (f_X0_led a0 a1 a2 n1 k1 m0) := by
  unfold f_X0_led
  exact Mo4.bind (fun _ => Mo4.ite (Mo4.ok (by omega) (by omega)) (Mo4.bind (fun _ => Mo4.bind (fun _ => Mo4.ok (Nat.le_refl _) (Nat.le_refl _)))))
/-- what the law's walk stands on -/
def fk_YL (E : fk_E) (r : Int32) : Prop := match E with
  | (p, l, e, R, s, m, args, below, meth, c, G, b0, Q) => r = 1 ∧ (∃ b : Nat, args = #[Value.ref b]) ∧ R = room_1 ∧ b0 = s.heap.size ∧ Q = lw_Z below args s ∧ meth.sig.returnType = Jvm.Pilot.CFigureKneeLaw_law_r2331_2b7afd.ret ∧ meth.locks = false ∧ l.stackTraces = false ∧ ex_K b0 s
theorem fk_lawret {E : fk_E} {l0 : Launch} {G0 : fk_G} {b00 n cs sl pc : Nat} {mp : fk_M} {lv : List (Nat × fk_T)} {v : Int32} (X : fk_X E l0 G0 b00 "FigureKneeLaw" "law" cL_law 7 8192 100000 1200128 5501098) (Y : fk_YL E v) (d : decode cL_law pc = .ok (.ireturn, 1)) (h1 : cs ≤ 1200128) (h2 : sl ≤ 5501098) : fk_W E 7 n mp cs sl pc lv [tI v] := by
  obtain ⟨p, l, e, R, s, m, args, below, meth, c, G, b0, Q⟩ := E
  obtain ⟨⟨⟨hx, hb, hml, hown, hts⟩, hK⟩, -⟩ := X
  obtain ⟨rfl, ⟨b, rfl⟩, rfl, rfl, rfl, hr, hlocks, -⟩ := Y
  intro H locs ls hR hS hl
  exact W.widen h1 h2 (va_forget hS.2.2 (lw_ret hx hb hr hlocks d))
theorem fk_callLed {E : fk_E} {l0 : Launch} {G0 : fk_G} {b00 : Nat} {mn : String} {cc : ByteArray} {nL fr lo rc rs n cs sl pc : Nat} {mp : fk_M} {lv : List (Nat × fk_T)} {st : List fk_T} (X : fk_X E l0 G0 b00 "FigureKneeLaw" mn cc nL fr lo rc rs) {v : Int32} (Y : fk_YL E v) {a0 a2 : Option Nat} {a1 a : Int32} {n2 k1 k2 cs2 sl2 : Nat} {mp2 : fk_M} {rest : List fk_T} (hv : f_X0_led a0 a1 a2 n k1 mp = some (a, n2, k2, mp2)) (d : decode cc pc = .ok (.invokestatic 253, 3)) (hna : [tR a0, tI a1, tR a2].length = 3) (hst : [tR a0, tI a1, tR a2].reverse ++ rest = st) (hw : Nat.ble (fk_w rest) 8 = true) (hf : Nat.ble 41 fr = true) (hlo2 : Nat.ble (8 + (4 + 11) + 700) lo = true) (h1 : cs + (n2 - n) ≤ cs2) (h2 : sl + (k2 - k1) ≤ sl2) (h3 : cs2 ≤ rc) (h4 : sl2 ≤ rs) (kk : fk_W E nL n2 mp2 cs2 sl2 (pc + 3) lv (tI a :: rest)) : fk_W E nL n mp cs sl pc lv st := by
  have kk2 := fk_widen h1 h2 kk
  obtain ⟨p, l, e, R, s, m, args, below, meth, c, G, b0, Q⟩ := E
  obtain ⟨⟨⟨hx, hb, hml, hown, hts⟩, hK⟩, ⟨rfl, rfl, rfl⟩, hmn, rfl, rfl, rfl, rfl⟩ := X
  obtain ⟨-, -, -, -, -, -, -, htr, hex⟩ := Y
  intro H locs ls hR hS hl
  subst hst
  have hr := vx_runSX (hh := ex_H) (cells := cs) (slots := sl) (locs := locs) (p := p) (e := e) (R := R) (below := below) (meth := meth) (As := fk_s [tR a0, tI a1, tR a2]) (rest := fk_s rest) (g := F0 m pc ls (fk_s ([tR a0, tI a1, tR a2].reverse ++ rest))) ⟨hx, hb, hml, hown, hts⟩ (c_X0_led (G := G) (b0 := b0) htr hv) (vx_cwSW 3 hts (lw_SW q1451 q1452 q121 q1453) rfl rfl rfl n_X0_led.2 ⟨Nat.le_of_ble_eq_true hf, Nat.le_of_ble_eq_true hlo2⟩) ⟨ex_blind, fun U hU hW => ⟨⟨rfl, hK.next hW (by rw [hU]; exact hS.1) (fun q h1 h2 => by rw [hU]; exact hS.2.1 q h1 h2), by rw [hU]; exact hR⟩, hex.next hW (fun q h1 h2 => by rw [hU]; exact hS.2.1 q h1 h2)⟩⟩ rfl rfl hl.1 (by rw [fk_rev, ← fk_app]) (fk_room hw) d ⟨by omega, by omega⟩
  intro T hT XT
  rcases hr T hT XT with ⟨v, st₀, t, T', L, h0, X', hL, e1, e2, hF, st⟩ | ⟨q, st₀, t, T', L, EE, ce, h0, X', hL, e1, e2, hF, hce, hcv, hcl, st⟩
  · obtain ⟨hv, hR2, hF⟩ := hF
    have hv : v = some (.int a) := Outcome.returned.inj hv
    subst hv
    obtain ⟨k1, k2, k3⟩ := vx_keep h0 e1 hS (fun q _ h => h) (fun q h => h) hL hF
    obtain ⟨t2, a1, b1⟩ := kk2 T'.heap (locs ++ L) ls (by rw [e1]; exact hR2) k3 hl T' rfl X'
    exact ⟨t2, st t2 a1, b1⟩
  · exact False.elim hF
