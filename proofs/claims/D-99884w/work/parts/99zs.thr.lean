/-! BASE: the component's led throws (by gen_thr.py; fk_throw0 began as the kit's vx_throw0) -/
set_option maxRecDepth 100000
section Ends9
variable {p : Program} {l : Launch} {e : Env} {R : Room} {s : State} {m : MethodId} {args : Array Value} {below : List Frame} {meth : Method} {c : Code} {H : Heap} {locs : List Loc} {cells slots : Nat} {Q : State → Prop}
variable {mc ms : Nat} {free : Addr → Prop} {A0 A1 : Nat → Prop} {H0 : Heap} {a : Array Value} {ls : Array Slot} {st0 rest : List Value}
variable {Qc : Array Value → State → Outcome → State → Prop} {XC : String → State → State → Prop}
theorem fk_throw0 {cc : ByteArray} {pc : Nat} (hexec : p.tables.exec = Jvm.exec) (hb : c.code = cc) (hl : l.stackTraces = false) {own cls : String} {names : List String} {ik ic mc ms : Nat} {A : Nat → Prop}
    (hown : s.vm.findClass own = some m.cls) (hcls : Bundle.fit cls = true) (hnames : ∀ n ∈ names, Bundle.fit n = true)
    (hk : (Cond.classLink own ik cls).before args s = true) (hini : (Cond.initialized cls).before args s = true) (hat : ∀ w ∈ vx_at0 own ic cls names, w.before args s = true)
    (hgood : ∀ w ∈ Cond.classLink own ik cls :: Cond.initialized cls :: vx_at0 own ic cls names, vx_ot w = true)
    (hU : vx_Zq Bundle.tN "UNASSIGNED_STACK" Bundle.steD A s s.heap) (hN : vx_Zq Bundle.tN "SUPPRESSED_SENTINEL" Bundle.listD A s s.heap) (hS : va_S A s.heap H locs) (hsize : ls.size = c.maxLocals)
    (d0 : decode cc pc = .ok (.new ik, 3)) (d3 : decode cc (pc + 3) = .ok (.dup, 1)) (d4 : decode cc (pc + 4) = .ok (.invokespecial ic, 3)) (d7 : decode cc (pc + 7) = .ok (.athrow, 1))
    (hout : ∀ x ∈ c.exceptionTable.toList, covers x (pc + 7) = false)
    (hRframes : names.length + 3 < R.frames) (hRlocals : (rest.map fun v => v.category).sum + (13 * (names.length + 1) + 42) ≤ R.locals) (hRcells : cells + 1 ≤ R.cells) (hRslots : slots + 6 ≤ R.slots) (hlocks : meth.locks = false)
    (hx : ∀ t : State, s.vm.Alike t.vm → t.heap.size = H.size + 1 → (∀ q : Nat, q < H.size → t.heap[q]? = H[q]?) → XC cls s t)
    (hf : ∀ z ∈ locs, free z.base) (hc : cells + 1 ≤ mc) (hs : slots + 6 ≤ ms) :
    W p l e R s m args below meth c H locs cells slots (vx_MQ below Qc XC args s mc ms free) (F0 m pc ls rest) := by
  intro T hT X
  have htr : e.platform.stackTraces = false := (show e.platform.stackTraces = l.stackTraces by rw [X.admits.platform]).trans hl
  have Y := vx_rebase X (R' := { frames := R.frames, locals := R.locals, cells := 1, slots := 6 }) (Nat.le_refl _) (Nat.le_refl _) hRcells hRslots
  obtain ⟨s', hA⟩ : ∃ z, z = (T.setVm s.vm).setFrames (.invoking m args :: below) := ⟨_, rfl⟩
  rw [← hA] at Y
  have hvm : s'.vm = s.vm := by rw [hA]; rfl
  have hhp : s'.heap = H := by rw [hA]; exact hT
  have hW0 : s.WarmedH s'.vm := by rw [hvm]; exact State.WarmedH.refl s
  have hat' : ∀ w ∈ vx_at0 own ic cls names, w.before args s' = true := fun w hw => vx_ot_at hW0 hvm.symm (hgood w (List.mem_cons_of_mem _ (List.mem_cons_of_mem _ hw))) (hat w hw)
  have hk' : (Cond.classLink own ik cls).before args s' = true := vx_ot_at hW0 hvm.symm (hgood _ List.mem_cons_self) hk
  have hini' : (Cond.initialized cls).before args s' = true := vx_ot_at hW0 hvm.symm (hgood _ (List.mem_cons_of_mem _ List.mem_cons_self)) hini
  have hU' : vx_Zq Bundle.tN "UNASSIGNED_STACK" Bundle.steD A s' s'.heap := by rw [hhp]; exact vx_Zq.moved hW0.alike (hU.kept hS.2.1)
  have hN' : vx_Zq Bundle.tN "SUPPRESSED_SENTINEL" Bundle.listD A s' s'.heap := by rw [hhp]; exact vx_Zq.moved hW0.alike (hN.kept hS.2.1)
  have h : ∀ w ∈ Bundle.ownAtoms0 own ic cls names, w.before args s' = true := vx_own hat' (vx_isRefq hU'.1) (vx_isRefq hN'.1) hU'.2.word hN'.2.word
  have hown' : s'.vm.findClass own = some m.cls := by rw [hvm]; exact hown
  have hins : (Cond.instantiable cls 6).before args s' = true := h _ (by simp [Bundle.ownAtoms0])
  obtain ⟨vm₁, cX, kX, hfX, hkX, -, -, X₁, st1⟩ := Y.newCold hexec (own := own) (C := cls) (index := ik) (n := 6) hown' hk' hins hini'
    (g := F0 m pc ls rest) rfl (by rw [hb]; exact d0) (Nat.le_refl _) (Nat.le_refl _)
  generalize hT1 : (T.setVm vm₁).pushCell { cls := cX, slots := kX.instanceTypes.map defaultValue, vm := .none } = T1 at X₁ st1
  have hcat : (Value.ref T.heap.size).category = 1 := rfl
  have hcellA : T1.heap[T.heap.size]? = some (freshCell cX kX) := by rw [← hT1]; exact State.heap_pushCell_size _ _
  have d3' : decode c.code (pc + 3) = .ok (.dup, 1) := by rw [hb]; exact d3
  obtain ⟨U, hsteps, hrun, hend, hW, hsame, ce, hce, hO⟩ := X₁.ctorThrow0 hexec htr (own := own) (cls := cls) (names := names) (ic := ic) hown' hcls hnames h (fun x hx => nomatch hx) hfX hkX hcellA (by rw [hhp, hT]; exact Nat.le_refl _)
    (g := { method := m, pc := pc + 4, locals := ls, stack := .ref T.heap.size :: .ref T.heap.size :: rest, locked := none }) rfl hsize rfl rfl (rest := rest) rfl
    (by rw [hb]; exact d4) (by rw [hb]; exact d7) hout hRframes (by simp only [List.map_cons, List.sum_cons, hcat]; omega) hlocks
  obtain ⟨f1, f2⟩ := vx_frame hsame
  rw [hhp] at f1 f2
  have fsz : U.heap.size = H.size + 1 := by
    obtain ⟨-, -, g3, -⟩ := hsame
    have g3 : U.heap.size ≤ s'.heap.size + 1 := g3
    rw [hhp] at g3
    have g4 := (Array.getElem?_eq_some_iff.mp hce).1
    rw [hT] at g4
    omega
  have hWs : s.WarmedH U.vm := State.WarmedH.trans hW0 hW
  have hcl : s.vm.findClass cls = some ce.cls := by
    have h9 := hO.cls
    rw [hvm] at h9
    exact h9
  have hall : s.sameButNew ({ U with vm := s.vm } : State) locs mc ms := by
    subst hA
    obtain ⟨e1, e2⟩ := hsame
    rw [State.setFrames_setFrames] at e1
    have h2 : (T.setVm s.vm).sameButNew ({ U with vm := s.vm } : State) [] (0 + 1) (0 + 6) := ⟨e1, e2⟩
    have h3 := X.same.trans h2
    rw [List.append_nil] at h3
    exact h3.mono hc hs
  refine ⟨U, ?_, .threw T.heap.size, hrun, hend, Or.inr ⟨T.heap.size, rfl, cls, ce, locs, hx U hWs.alike fsz (fun q hq => f2 q hq (fun z hz => nomatch hz)), hce, hO.vm, hcl, hWs, hall, hf⟩⟩
  refine st1 _ ?_
  show Steps p.tables e below (T1.setTop { method := m, pc := pc + 3, locals := ls, stack := .ref T.heap.size :: rest, locked := none }) _
  jvm_step X₁.here [X₁.here.top, hexec, d3', Value.category]
  exact hsteps
end Ends9
abbrev ex_N : String := "java/util/NoSuchElementException"
abbrev ex_S : List String := ["java/lang/RuntimeException", "java/lang/Exception", "java/lang/Throwable"]
/-- what a throw needs beside fk_K -/
def ex_K (b0 : Nat) (U : State) : Prop := vx_Zq Bundle.tN "UNASSIGNED_STACK" Bundle.steD (fun q => b0 ≤ q) U U.heap ∧ vx_Zq Bundle.tN "SUPPRESSED_SENTINEL" Bundle.listD (fun q => b0 ≤ q) U U.heap ∧ va_Nw (.castable ex_N ex_N) U ∧ ∀ C ∈ ex_S, va_Nw (.declares (Bundle.init0 C)) U
theorem ex_K.next {b0 : Nat} {s U : State} (hW : s.WarmedH U.vm) (hq : ∀ q : Nat, q < s.heap.size → ¬ b0 ≤ q → U.heap[q]? = s.heap[q]?) (h : ex_K b0 s) : ex_K b0 U := by
  obtain ⟨h1, h2, h3, h4⟩ := h
  exact ⟨(h1.moved hW.alike).kept hq, (h2.moved hW.alike).kept hq, h3.warmC hW, fun C hC => (h4 C hC).warmD hW⟩
theorem ex_K.same {b0 : Nat} {u U : State} (hv : u.vm = U.vm) (hh : u.heap = U.heap) (h : ex_K b0 u) : ex_K b0 U := by
  obtain ⟨h1, h2, h3, h4⟩ := h
  have ha : u.vm.Alike U.vm := by rw [hv]; exact Vm.Alike.refl _
  exact ⟨by rw [← hh]; exact h1.moved ha, by rw [← hh]; exact h2.moved ha, h3.same rfl hv, fun C hC => (h4 C hC).same rfl hv⟩
def ex_Pc (G : fk_G) (b0 : Nat) (av : List fk_T) (n : Nat) (mp : fk_M) : Array Value → State → Prop := fun v U => fk_Pc G b0 av n mp v U ∧ ex_K b0 U
theorem ex_blind {G : fk_G} {b0 : Nat} {av : List fk_T} {n : Nat} {mp : fk_M} : FrameBlind (ex_Pc G b0 av n mp) := fun a U g mk h => ⟨fk_blind a U g mk h.1, h.2.same rfl rfl⟩
/-- thrown: one cell more -/
def ex_X (G : fk_G) (b0 n : Nat) (mp : fk_M) : String → State → State → Prop := fun E st t => E = ex_N ∧ fk_R G b0 (n + 1) mp t.heap ∧ va_F (fun q => b0 ≤ q) st t
def ex_no : Array Value → State → Outcome → State → Prop := fun _ _ _ _ => False
def fk_YT (E : fk_E) (n : Nat) (mp : fk_M) : Prop := match E with
  | (p, l, e, R, s, m, args, below, meth, c, G, b0, Q) => Q = vx_MQ below ex_no (ex_X G b0 n mp) args s 1 6 (fun q => b0 ≤ q) ∧ l.stackTraces = false ∧ meth.locks = false ∧ (∀ x ∈ c.exceptionTable.toList, False) ∧ ex_K b0 s
abbrev ex_at : List Cond := vx_at0 "FigureKnee" 376 ex_N ["java/lang/RuntimeException", "java/lang/Exception"]
abbrev ex_B : List Cond := [.declares (Bundle.init0 "java/lang/RuntimeException"), .declares (Bundle.init0 "java/lang/Exception"), .declares (Bundle.init0 "java/lang/Throwable"), .castable ex_N ex_N]
theorem ex_good : ∀ w ∈ ex_at.filter goodWord, w ∈ lw_all := lw_in (ex_at.filter goodWord) [151, 1481, 1490, 1492, 1495, 1497, 1482, 1483, 161, 162, 1484, 1489, 1493, 1509, 1471, 1510, 1473, 1511, 1475, 1485, 1487, 1477, 1499, 1500, 1501, 1502, 1502, 1503, 1504, 1505, 1505, 1506, 1507, 1482, 1498, 1460, 1468, 1469, 1470, 1472, 1474, 1476, 1480, 1479, 1478] (by decide +kernel) (by decide +kernel)
theorem ex_bad : ∀ w ∈ ex_at.filter (fun w => !goodWord w), w ∈ ex_B := by decide +kernel
theorem ex_ot : ∀ w ∈ Cond.classLink "FigureKnee" 374 ex_N :: Cond.initialized ex_N :: ex_at, vx_ot w = true := List.all_eq_true.mp (by decide +kernel)
theorem fk_ledthrow {E : fk_E} {l : Launch} {G : fk_G} {b0 n : Nat} {m : fk_M} {lv : List (Nat × fk_T)} (X : fk_X E l G b0 "FigureKnee" "led" cX1_led 4 30 600 1 6) (Y : fk_YT E n m) : fk_W E 4 n m 0 0 54 lv [] := by
  obtain ⟨p, l, e, R, s, mm, args, below, meth, c, G, b0, Q⟩ := E
  obtain ⟨⟨⟨hx, hb, hml, hown, hts⟩, hK⟩, ⟨rfl, rfl, rfl⟩, hmn, hfr, hlo, hrc, hrs⟩ := X
  obtain ⟨rfl, hst, hlocks, htab, hU, hN, hca, hde⟩ := Y
  intro H locs ls hR hS hl
  have hat : ∀ w ∈ ex_at, w.before args s = true := vx_hat (fun w hw => hts _ (ex_good w hw)) ex_bad (vx_c (va_Nw.use rfl (hde _ (by decide))) (vx_c (va_Nw.use rfl (hde _ (by decide))) (vx_c (va_Nw.use rfl (hde _ (by decide))) (vx_c (va_Nw.use rfl hca) vx_n))))
  refine fk_throw0 (pc := 54) (names := ["java/lang/RuntimeException", "java/lang/Exception"]) (ik := 374) (ic := 376) (cls := ex_N) (own := "FigureKnee") (A := fun q => b0 ≤ q) hx hb hst hown (by decide +kernel) (by decide +kernel) (hts _ q1459) (hts _ q154) hat ex_ot hU hN hS (hl.1.trans hml.symm) dX1_led_54 dX1_led_57 dX1_led_58 dX1_led_61 (fun x hx => (htab x hx).elim) (by rw [hfr]; decide) (by rw [hlo]; exact Nat.le_of_ble_eq_true rfl) (by rw [hrc]; decide) (by rw [hrs]; decide) hlocks ?_ hS.2.2 (by decide) (by decide)
  intro t hA hz hq
  refine ⟨rfl, ⟨hz.trans (by rw [hR.1]), Nat.le_succ_of_le hR.2.1, fun a w e h => ?_⟩, ?_⟩
  · have h1 := hR.2.2 a w e h
    exact ⟨h1.1.kept (hq a h1.1.lt), h1.2⟩
  · refine ⟨by have := hS.1; omega, fun q h1 h2 => ?_⟩
    rw [hq q (Nat.lt_of_lt_of_le h1 hS.1)]
    exact hS.2.1 q h1 h2
set_option maxHeartbeats 4000000 in
theorem w_X1_ledT_J48 {E : fk_E} {l : Launch} {G : fk_G} {b0 n : Nat} {m : fk_M}  (X : fk_X E l G b0 "FigureKnee" "led" cX1_led 4 30 600 1 6) (Y : fk_YT E n m) (x0 : Option Nat) (x1 : Int32) (x2 : Int32) (x3 : Int32)  {R4 : Int32 → Int32 → Option Unit} (hR4 : ∀ (v2 : Int32) (v3 : Int32), R4 v2 v3 = some () → fk_W E 4 n m 0 0 4 [(0, tR x0), (1, tI x1), (2, tI v2), (3, tI v3)] []) (hf : f_X1_ledT_J48 R4 x0 x1 x2 x3 m = some ()) : fk_W E 4 n m 0 0 48 [(0, tR x0), (1, tI x1), (2, tI x2), (3, tI x3)] [] := by
  unfold f_X1_ledT_J48 at hf
  refine fk_iinc X 3 [(3, tI (x3 + 1)), (0, tR x0), (1, tI x1), (2, tI x2)] dX1_led_48 rfl rfl rfl rfl ?_
  refine fk_goto X 4 dX1_led_51 rfl ?_
  exact fk_cut' (hR4 x2 (x3 + 1)  hf) [1, 2, 3, 0] rfl
set_option maxHeartbeats 4000000 in
theorem w_X1_ledT_L4 {E : fk_E} {l : Launch} {G : fk_G} {b0 n : Nat} {m : fk_M}  (X : fk_X E l G b0 "FigureKnee" "led" cX1_led 4 30 600 1 6) (Y : fk_YT E n m) (x0 : Option Nat) (x1 : Int32) : ∀ (N : Nat) (x2 : Int32) (x3 : Int32), f_X1_ledT_L4 x0 x1 m N x2 x3 = some () → fk_W E 4 n m 0 0 4 [(0, tR x0), (1, tI x1), (2, tI x2), (3, tI x3)] [] := by
  intro N
  induction N with
  | zero =>
    intro x2 x3 hf
    have hf : (none : Option Unit) = some _ := hf
    cases hf
  | succ N ih =>
    intro x2 x3 hf
    rw [f_X1_ledT_L4] at hf
    refine fk_aload_n X 0 dX1_led_4 rfl ?_
    refine fk_getR' X fd_0_5 q195 dX1_led_5 hf (fun z1 hf => ?_)
    refine fk_ifnull' X 54 dX1_led_8 rfl hf (fun hf => ?_) (fun hf => ?_)
    · cases hf
      exact fk_ledthrow X Y
    · refine fk_iload_n X 3 dX1_led_11 rfl ?_
      refine fk_aload_n X 0 dX1_led_12 rfl ?_
      obtain ⟨u2, hq, hf⟩ := bI hf
      obtain ⟨z3, hv, hf⟩ := bI hf
      refine fk_callV0I (ci := 0) (rest := [tI x3]) X hq rfl (c_X1_pairs hv) n_X1_pairs q996 q998 qs24 q122 q999 rfl dX1_led_13 rfl rfl rfl rfl rfl (Nat.zero_le _) (Nat.zero_le _) ?_
      refine fk_icmp_ge' X 54 dX1_led_16 rfl hf (fun hf => ?_) (fun hf => ?_)
      · cases hf
        exact fk_ledthrow X Y
      · refine fk_aload_n X 0 dX1_led_19 rfl ?_
        refine fk_aload_n X 0 dX1_led_20 rfl ?_
        refine fk_getR' X fd_0_6 q196 dX1_led_21 hf (fun z4 hf => ?_)
        refine fk_getR' X fd_13_1 q966 dX1_led_24 hf (fun z5 hf => ?_)
        refine fk_iload_n X 3 dX1_led_27 rfl ?_
        refine fk_baload' X dX1_led_28 hf (fun z6 hf => ?_)
        obtain ⟨u7, hq, hf⟩ := bI hf
        obtain ⟨z8, hv, hf⟩ := bI hf
        refine fk_callV0I (ci := 0) (rest := []) X hq rfl (c_X1_isMore hv) n_X1_isMore q1027 q1029 qs28 q122 q1030 rfl dX1_led_29 rfl rfl rfl rfl rfl (Nat.zero_le _) (Nat.zero_le _) ?_
        refine fk_if_ne' X 38 dX1_led_32 rfl hf (fun hf => ?_) (fun hf => ?_)
        · refine fk_iload_n X 2 dX1_led_38 rfl ?_
          refine fk_iload_n X 1 dX1_led_39 rfl ?_
          refine fk_icmp_ne' X 45 dX1_led_40 rfl hf (fun hf => ?_) (fun hf => ?_)
          · refine fk_iinc X 2 [(2, tI (x2 + 1)), (0, tR x0), (1, tI x1), (3, tI x3)] dX1_led_45 rfl rfl rfl rfl ?_
            exact fk_cut' (w_X1_ledT_J48 X Y x0 x1 (x2 + 1) x3 ih hf) [1, 2, 0, 3] rfl
          · refine fk_iload_n X 3 dX1_led_43 rfl ?_
            cases hf
        · refine fk_goto X 48 dX1_led_35 rfl ?_
          exact fk_cut' (w_X1_ledT_J48 X Y x0 x1 x2 x3 ih hf) [0, 1, 2, 3] rfl

theorem ex_enter {l : Launch} {G : fk_G} {b0 : Nat} {y : MethodName} {cc : ByteArray} {nL : Nat} {ret : Option FieldType} {fr lo : Nat} {av : List fk_T} {n : Nat} {mp : fk_M}
    (hy : plainName y.cls = true) (hw : Nat.ble (fk_w av) nL = true) (hst : l.stackTraces = false)
    (body : ∀ E : fk_E, fk_X E l G b0 y.cls y.name cc nL fr lo 1 6 → fk_YT E n mp → fk_W E nL n mp 0 0 0 (fk_a 0 av) []) : vx_Met l y (ws_ y cc nL ret) ({ frames := fr, cells := 1, slots := 6, locals := lo } : Room) (ex_Pc G b0 av n mp) ex_no (ex_X G b0 n mp) 1 6 (fun q => b0 ≤ q) := by
  refine vx_ofW (cc := cc) (maxL := nL) (ret := ret) hy rfl ?_
  intro p e s m args below meth c s₁ B hml htab hv
  obtain ⟨⟨rfl, hK, hR⟩, hex⟩ := hv
  have hts := atoms_spec (ws := ws_ y cc nL ret) B.pre
  have hts : ∀ w ∈ lw_all, w.before _ s = true := fun w h => hts w (List.mem_cons_of_mem _ h)
  have hX : fk_X (p, l, e, { frames := fr, cells := 1, slots := 6, locals := lo }, s, m, (fk_s av).toArray, below, meth, c, G, b0, vx_MQ below ex_no (ex_X G b0 n mp) (fk_s av).toArray s 1 6 (fun q => b0 ≤ q)) l G b0 y.cls y.name cc nL fr lo 1 6 :=
    ⟨⟨⟨B.exec, B.bytes, hml, findClass_of_methodNamed B.named, hts⟩, hK⟩, ⟨rfl, rfl, rfl⟩, (name_of_methodNamed B.named B.method).1, rfl, rfl, rfl, rfl⟩
  have hb := body _ hX ⟨rfl, hst, B.notSynchronized, htab, hex⟩
  rw [lg_entry_eq]
  have hl := lv_entry (fk_s av) (n := nL) (by rw [fk_w_eq]; exact Nat.le_of_ble_eq_true hw)
  rw [fk_a_eq] at hl
  exact hb s.heap [] _ hR va_S.rf hl
set_option maxHeartbeats 4000000 in
theorem c_X1_ledT {l : Launch} {G : fk_G} {b0 n : Nat} {a0 : Option Nat} {a1 : Int32} {m : fk_M} (hst : l.stackTraces = false) (hf : f_X1_ledT a0 a1 m = some ()) : vx_Met l yX1_led (ws_ yX1_led cX1_led 4 (some .int)) ({ frames := 30, cells := 1, slots := 6, locals := 600 } : Room) (ex_Pc G b0 [tR a0, tI a1] n m) ex_no (ex_X G b0 n m) 1 6 (fun q => b0 ≤ q) := by
  refine ex_enter n_X1_led.1 rfl hst ?_
  intro E X0 Y
  have X : fk_X E l G b0 "FigureKnee" "led" cX1_led 4 30 600 1 6 := X0
  show fk_W E 4 n m 0 0 0 [(0, tR a0), (1, tI a1)] []
  unfold f_X1_ledT at hf
  refine fk_iconst (v := 0) X dX1_led_0 rfl ?_
  refine fk_istore_n X [(2, tI 0), (0, tR a0), (1, tI a1)] dX1_led_1 rfl rfl ?_
  refine fk_iconst (v := 0) X dX1_led_2 rfl ?_
  refine fk_istore_n X [(3, tI 0), (2, tI 0), (0, tR a0), (1, tI a1)] dX1_led_3 rfl rfl ?_
  exact fk_cut' (w_X1_ledT_L4 X Y a0 a1 fk_fuel 0 0 hf) [2, 3, 1, 0] rfl
