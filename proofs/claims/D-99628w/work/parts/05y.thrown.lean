set_option maxRecDepth 100000
/-! ===== what is thrown: Throwable's words in a method's state; a class of one's own over Exception ===== -/
def TX8a : u_T := fun _ => ("BonnetValley$Fault", "at", "I", true)
def tyX8a : Nat → FieldType := fun _ => .int
theorem in_X8a : ∀ w ∈ u_ws RX8 TX8a 1, w ∈ lw_all := by
  intro w hw
  obtain ⟨k, hk, rfl⟩ := List.mem_map.mp hw
  have hk := List.mem_range.mp hk
  rw [show k = 0 by omega]
  exact q456
theorem tyX8a_ok : ∀ k, k < 1 → parseFieldDescriptor (TX8a k).2.2.1 = some (tyX8a k) := by decide +kernel
theorem nmX8a : ∀ a, a < 1 → ∀ b, b < 1 → a ≠ b → (TX8a a).2.1 ≠ (TX8a b).2.1 := by intro a h1 b h2 h3; omega
section GXI
variable {p : Program} {l : Launch} {e : Env} {R : Room} {s : State} {m : MethodId} {args : Array Value} {below : List Frame} {meth : Method} {c : Code} {cells slots : Nat} {Q : State → Prop}
set_option maxHeartbeats 1000000 in
/-- Exception.<init>() on a newborn object of a class of one's own, at the head of its constructor -/
theorem g_excInit {cc : ByteArray} {pc : Nat} {ls : Array Slot} {rest : List Value} (hexec : p.tables.exec = Jvm.exec) (hb : c.code = cc) (hl : l.stackTraces = false) {own cls XN fn : String} {names : List String} {ic nn : Nat} (hown : s.vm.findClass own = some m.cls) (hX : Bundle.fit XN = true) (hnames : ∀ n ∈ names, Bundle.fit n = true)
    (hT : ∀ w ∈ Bundle.throwableAtoms, w.before args s = true) (hC : ∀ w ∈ Bundle.chain0Atoms XN names, w.before args s = true) (hlink : (Cond.methodLink own ic (Bundle.init0 XN)).before args s = true)
    (hiI : (Cond.instanceMethod (Bundle.init0 XN)).before args s = true) (hiC : (Cond.code (Bundle.init0 XN) Bundle.five 1 none).before args s = true)
    (hsel0w : (Cond.selects cls Bundle.tFill0 Bundle.tFill0).before args s = true) (hselFw : (Cond.selects cls Bundle.tFill Bundle.tFill).before args s = true)
    (wC : (Cond.lays cls Bundle.tN "cause" "Ljava/lang/Throwable;").before args s = true) (wS : (Cond.lays cls Bundle.tN "stackTrace" Bundle.steD).before args s = true) (wP : (Cond.lays cls Bundle.tN "suppressedExceptions" Bundle.listD).before args s = true) (wB : (Cond.lays cls Bundle.tN "backtrace" "Ljava/lang/Object;").before args s = true)
    (wA : (Cond.laysFinal cls cls fn "I").before args s = true) (hne1 : fn ≠ "cause") (hne2 : fn ≠ "stackTrace") (hne3 : fn ≠ "suppressedExceptions") (wI : (Cond.instantiable cls nn).before args s = true)
    (w198 : (Cond.fieldLink Bundle.tN 198 Bundle.tN "backtrace" "Ljava/lang/Object;").before args s = true) (wB1 : (Cond.lays Bundle.tN Bundle.tN "backtrace" "Ljava/lang/Object;").before args s = true)
    (hU : (Cond.isRef (.static Bundle.tN "UNASSIGNED_STACK" Bundle.steD)).before args s = true) (hN : (Cond.isRef (.static Bundle.tN "SUPPRESSED_SENTINEL" Bundle.listD)).before args s = true)
    {a : Addr} {cX : ClassId} {kX : Class} (hfoundX : s.vm.findClass cls = some cX) (hkX : s.vm.classes[cX]? = some kX) (hcell : s.heap[a]? = some (freshCell cX kX)) (hsize : ls.size = c.maxLocals)
    (hd6 : decode cc pc = .ok (.invokespecial ic, 3)) (hRframes : names.length + 3 < R.frames) (hRlocals : (rest.map fun v => v.category).sum + (13 * (names.length + 1) + 41) ≤ R.locals)
    (kk : ∀ (H1 : Heap) (L : List Loc) (ce : Cell), H1[a]? = some ce → ce.cls = cX → ce.vm = .none → (∀ (cf : ClassId) (kf : Class) (fi : Nat) (f : Field), s.fieldFound? cls fn "I" = some (cf, kf, fi, f) → ce.slots[f.slot]? = (freshCell cX kX).slots[f.slot]?) → H1.size = s.heap.size → (∀ q : Nat, q ≠ a → H1[q]? = s.heap[q]?) → (∀ y ∈ L, y.base = a) →
      W p l e R s m args below meth c H1 L cells slots Q (F0 m (pc + 3) ls rest)) :
    W p l e R s m args below meth c s.heap [] cells slots Q (F0 m pc ls (.ref a :: rest)) := by
  intro W hWh X
  have htr : e.platform.stackTraces = false := (show e.platform.stackTraces = l.stackTraces by rw [X.admits.platform]).trans hl
  have howns : e.platform.frameOwnsMonitors = true := by rw [X.admits.platform]
  have hfin : e.platform.finalization = false := by rw [X.admits.platform]
  have hpl : e.platform.magicAccessors = ({} : Platform).magicAccessors := by rw [X.admits.platform]
  obtain ⟨T, Z, L, LZ, Y⟩ := ThrowableC.of_atoms (args := args) howns hfin hpl hT
  obtain ⟨P1, Ps, hlen, L1, hL, hP1m, hlink1, hlink2⟩ := Bundle.chain0 (args := args) hpl Y.init0 names _ hX hnames hC
  obtain ⟨c1, kX', hc1, hk, hord, -, -, hn6⟩ := Cond.instantiable_spec wI
  cases Option.some.inj (hc1.symm.trans hfoundX)
  cases Option.some.inj (hkX.symm.trans hk)
  have hsel0 : selectMethod e.platform s.vm cX T.fill0 = .method T.fill0 := by
    obtain ⟨c2, r2, m2, q1, q2, q3, q4, -⟩ := Cond.selects_spec hsel0w
    cases Option.some.inj (q1.symm.trans hfoundX)
    cases Option.some.inj (q2.symm.trans (State.methodFound?_of_named Y.fill0 (by decide)))
    cases Option.some.inj (q3.symm.trans Y.fill0)
    rw [Launch.admits_selectMethod X.admits]; exact q4
  have hselF : selectMethod e.platform s.vm cX T.fill = .method T.fill := by
    obtain ⟨c2, r2, m2, q1, q2, q3, q4, -⟩ := Cond.selects_spec hselFw
    cases Option.some.inj (q1.symm.trans hfoundX)
    cases Option.some.inj (q2.symm.trans (State.methodFound?_of_named Y.fill (by decide)))
    cases Option.some.inj (q3.symm.trans Y.fill)
    rw [Launch.admits_selectMethod X.admits]; exact q4
  obtain ⟨cellS0, hcS0, hiss⟩ := Y.statics
  obtain ⟨u0, hu0⟩ := Cond.staticRefV Y.unassigned L.unassignedStatic L.statics hcS0 hiss hU
  obtain ⟨sen, hsen⟩ := Cond.staticRefV Y.sentinel L.sentinelStatic L.statics hcS0 hiss hN
  obtain ⟨ci198, i198, fB, hk198, hg198, ha198, hsB, -, hnB, htB, hffB⟩ := Cond.ownField (t := .object "java/lang/Object") Y.found L.cls (by decide +kernel) w198 wB1 e.platform hpl
  obtain ⟨cellS, hcS', heS, -, hkeep⟩ := X.same.2.2.2.2.2 T.aS cellS0 hcS0
  have hcellS : W.heap[T.aS]? = some cellS := hcS'
  have hout' : ∀ i, (⟨T.aS, i⟩ : Loc) ∉ ([] : List Loc) := fun i => List.not_mem_nil
  have hknownS : cellS.vm ≠ .unknown := by
    rw [heS]; intro hu
    rw [show cellS0.vm = .unknown from hu] at hiss
    cases hiss
  have hcellW : W.heap[a]? = some (freshCell cX kX) := by rw [hWh]; exact hcell
  have hneS : T.aS ≠ a := by
    intro z
    rw [z] at hcellS
    cases hcellS.symm.trans hcellW
    have h9 : (freshCell cX kX).vm = cellS0.vm := by rw [heS]
    rw [← h9] at hiss
    cases hiss
  obtain ⟨iM, hffM⟩ := Y.msg
  obtain ⟨tyC, dC, hdC, hdnC⟩ := Cond.laysAt hfoundX hk Y.cause wC
  obtain ⟨tyS, dS, hdS, hdnS⟩ := Cond.laysAt hfoundX hk Y.stack wS
  obtain ⟨tyP, dP, hdP, hdnP⟩ := Cond.laysAt hfoundX hk Y.supp wP
  obtain ⟨tyB, dB, hdB, hdnB⟩ := Cond.laysAt hfoundX hk hffB wB
  have bC := Cond.laysApart hdB hdC hdnB hdnC (by rw [hnB, Y.causeName]; decide)
  have bS := Cond.laysApart hdB hdS hdnB hdnS (by rw [hnB, Y.stackName]; decide)
  have bP := Cond.laysApart hdB hdP hdnB hdnP (by rw [hnB, Y.suppName]; decide)
  have hskip : SkipFacts T e.platform s (fun u => u) u0 ((preparedCellV T.toThrowableT (freshCell cX kX) a u0 sen).withEntry W.cur) :=
    ⟨{ ci198 := ci198, i198 := i198, fBack := fB }, ⟨hk198, hg198, ha198, hsB⟩, by
      have := fresh_default (c := cX) tyB
      rw [htB] at this
      simpa [preparedCellV, Cell.setSlot, Cell.withEntry, Array.getElem?_setIfInBounds, bC, bS, bP, bC.symm, bS.symm, bP.symm, defaultValue] using this, fun _ _ => rfl⟩
  have hd6' : decode c.code pc = .ok (.invokespecial ic, 3) := by rw [hb]; exact hd6
  obtain ⟨tm, methC, cdC, kC, vm₁, hnC, -, -, -, -, -, -, -, hW₁, st1⟩ := Steps.initCold (tb := p.tables) (e := e) (below := below) (s := s) (U := W) X.here hexec X.warmed hpl hown (t := Bundle.init0 XN) rfl rfl (Bundle.fit_spec hX).2
    hlink hiI (bytes := Bundle.five) (maxL := 1) hiC (f := F0 m pc ls (.ref a :: rest)) rfl (a := a) (rest := rest) rfl hd6'
  cases Option.some.inj (hnC.symm.trans hP1m)
  have X₁ := X.noted hW₁
  obtain ⟨vm₂, X₂, st2⟩ := X₁.ctorPlainOffV hexec (g := { F0 m pc ls (.ref a :: rest) with stack := rest }) rfl hsize T L Z LZ (P1 :: Ps)
    (fun P hP => by rcases List.mem_cons.mp hP with rfl | hP; exact L1; exact hL P hP) ⟨hlink1, hlink2⟩ (u0 := u0) (sen := sen) (self := a) (cell := freshCell cX kX) (cellS := cellS)
    hcellW (fun _ => by simp) (by simp) rfl rfl hsel0 hselF hcellS hneS hknownS (by rw [hkeep _ (hout' _)]; exact hu0) (by rw [hkeep _ (hout' _)]; exact hsen)
    (Takes.of_laid hk hord tyC (by rw [Y.causeType]; rfl)) (Takes.of_laid hk hord tyS (by rw [Y.stackType]; exact fits_refV_array _ u0)) (Takes.of_laid hk hord tyP (by rw [Y.suppType]; exact fits_refV_object _ sen)) Y.objLocals hskip htr [] hd6'
    (by simp only [List.length_cons, hlen]; omega) (by simp only [List.length_cons, hlen]; show 2 * 0 + _ + _ ≤ _; omega)
  have hlt : a < ((W.setVm vm₁).setVm vm₂).heap.size := (Array.getElem?_eq_some_iff.mp hcellW).1
  obtain ⟨ce, hce⟩ : ∃ z, z = (preparedCellV T.toThrowableT (freshCell cX kX) a u0 sen).setSlot T.fStack.slot u0.v := ⟨_, rfl⟩
  rw [← hce] at X₂ st2
  have k1 : ∀ (cf : ClassId) (kf : Class) (fi : Nat) (f : Field), s.fieldFound? cls fn "I" = some (cf, kf, fi, f) → ce.slots[f.slot]? = (freshCell cX kX).slots[f.slot]? := by
    intro cf kf fi f hf
    obtain ⟨a', _, _, _, _, g', ha, _, hg, _, _, _, _, _, d', hd', _, hn, _⟩ := Cond.laysFinal_spec wA
    have hg2 := hf.symm.trans hg
    cases hg2
    cases Option.some.inj (ha.symm.trans hfoundX)
    have hfn : f.name = fn := (State.fieldFound?_type hf (t := .int) (by decide +kernel)).1
    have n1 := Cond.laysApart hd' hdC hn hdnC (by rw [hfn, Y.causeName]; exact hne1)
    have n2 := Cond.laysApart hd' hdS hn hdnS (by rw [hfn, Y.stackName]; exact hne2)
    have n3 := Cond.laysApart hd' hdP hn hdnP (by rw [hfn, Y.suppName]; exact hne3)
    rw [hce]
    simp [preparedCellV, Cell.setSlot, Array.getElem?_setIfInBounds, n1, n2, n3, n1.symm, n2.symm, n3.symm]
  have k2 : (((W.setVm vm₁).setVm vm₂).setCell a ce).heap.size = s.heap.size := by
    show ((W.heap).setIfInBounds a ce).size = _
    rw [Array.size_setIfInBounds, hWh]
  have k3 : ∀ q : Nat, q ≠ a → (((W.setVm vm₁).setVm vm₂).setCell a ce).heap[q]? = s.heap[q]? := by
    intro q hq
    show ((W.heap).setIfInBounds a ce)[q]? = _
    rw [Array.getElem?_setIfInBounds_ne (Ne.symm hq), hWh]
  have k4 : ∀ y ∈ ([] : List Loc) ++ [⟨a, T.fCause.slot⟩, ⟨a, T.fStack.slot⟩, ⟨a, T.fSupp.slot⟩, ⟨a, T.fStack.slot⟩], y.base = a := by
    intro y hy
    simp only [List.nil_append, List.mem_cons, List.not_mem_nil, or_false] at hy
    rcases hy with rfl | rfl | rfl | rfl <;> rfl
  obtain ⟨t, a1, b1⟩ := kk (((W.setVm vm₁).setVm vm₂).setCell a ce).heap _ ce (heapAt_setCell_self (s := (W.setVm vm₁).setVm vm₂) ce hlt) (by rw [hce]; rfl) (by rw [hce]; rfl) k1 k2 k3 k4 _ rfl X₂
  refine ⟨t, st1 _ (fun acts => ?_), b1⟩
  rw [doInvoke_state]
  exact st2 _ a1
end GXI
theorem g_decl {cl : List vw_C} {X : g_F} {cc : ByteArray} {own : String} {ret : Option FieldType} (C : g_M cl X cc own ret) {x : MethodName} (q : Cond.declares x ∈ lw_tbl) : (Cond.declares x).before (g_as X) (g_s X) = true :=
  va_tabs rfl (rfl : ((g_s0 X).setVm (g_s X).vm).vm = (g_s X).vm) (by rw [Cond.declares_setVm C.2.2.2.2.2.2.2.2.2.2.1.alike]; exact C.2.2.2.2.2.2.2.2.2.1.1 _ q)
theorem g_nestC {cl : List vw_C} {X : g_F} {cc : ByteArray} {own : String} {ret : Option FieldType} (C : g_M cl X cc own ret) {x y : String} (q : Cond.castable x y ∈ lw_tbl) : va_Nw (.castable x y) (g_s X) := va_Nw.warmC C.2.2.2.2.2.2.2.2.2.2.1 (va_Nw.of rfl (C.2.2.2.2.2.2.2.2.2.1.1 _ q))
theorem g_zU {cl : List vw_C} {X : g_F} {cc : ByteArray} {own : String} {ret : Option FieldType} (C : g_M cl X cc own ret) : vx_Zq Bundle.tN "UNASSIGNED_STACK" "[Ljava/lang/StackTraceElement;" (g_A X) (g_s X) (g_s X).heap := by
  have h := vx_Zqof (args := #[Value.ref (g_b0 X)]) (A := fun q => (g_s0 X).heap.size ≤ q) (C.2.2.2.2.2.2.2.2.2.1.1 _ q428) (C.2.2.2.2.2.2.2.2.2.1.1 _ (lw_all_tbl q118)) (flat_of_before _ C.2.2.2.2.2.2.2.2.2.1.2 (.isRef (.static "java/lang/Throwable" "UNASSIGNED_STACK" "[Ljava/lang/StackTraceElement;")) (by decide +kernel)) (fun a h1 h2 => absurd h2 (Nat.not_le.mpr h1))
  exact vx_Zq.moved C.2.2.2.2.2.2.2.2.2.2.1.alike ((h.narrow C.2.2.2.2.2.2.2.2.2.2.2.2.2).kept (fun a ha _ => C.2.2.2.2.2.2.2.2.2.2.2.2.1 a ha))
theorem g_zN {cl : List vw_C} {X : g_F} {cc : ByteArray} {own : String} {ret : Option FieldType} (C : g_M cl X cc own ret) : vx_Zq Bundle.tN "SUPPRESSED_SENTINEL" "Ljava/util/List;" (g_A X) (g_s X) (g_s X).heap := by
  have h := vx_Zqof (args := #[Value.ref (g_b0 X)]) (A := fun q => (g_s0 X).heap.size ≤ q) (C.2.2.2.2.2.2.2.2.2.1.1 _ q430) (C.2.2.2.2.2.2.2.2.2.1.1 _ (lw_all_tbl q118)) (flat_of_before _ C.2.2.2.2.2.2.2.2.2.1.2 (.isRef (.static "java/lang/Throwable" "SUPPRESSED_SENTINEL" "Ljava/util/List;")) (by decide +kernel)) (fun a h1 h2 => absurd h2 (Nat.not_le.mpr h1))
  exact vx_Zq.moved C.2.2.2.2.2.2.2.2.2.2.1.alike ((h.narrow C.2.2.2.2.2.2.2.2.2.2.2.2.2).kept (fun a ha _ => C.2.2.2.2.2.2.2.2.2.2.2.2.1 a ha))
theorem g_thr {cl : List vw_C} {X : g_F} {cc : ByteArray} {own : String} {ret : Option FieldType} (C : g_M cl X cc own ret) : ∀ w ∈ Bundle.throwableAtoms, w.before (g_as X) (g_s X) = true := by
  intro w hw
  simp only [Bundle.throwableAtoms, List.mem_cons, List.not_mem_nil, or_false] at hw
  rcases hw with rfl | rfl | rfl | rfl | rfl | rfl | rfl | rfl | rfl | rfl | rfl | rfl | rfl | rfl | rfl | rfl | rfl | rfl | rfl | rfl | rfl | rfl | rfl | rfl
  · exact C.2.2.2.2.1 _ q118
  · exact C.2.2.2.2.1 _ q423
  · exact C.2.2.2.2.1 _ q432
  · exact C.2.2.2.2.1 _ q436
  · exact C.2.2.2.2.1 _ q439
  · exact C.2.2.2.2.1 _ q441
  · exact C.2.2.2.2.1 _ q424
  · exact C.2.2.2.2.1 _ q425
  · exact C.2.2.2.2.1 _ q142
  · exact C.2.2.2.2.1 _ q143
  · exact C.2.2.2.2.1 _ q426
  · exact C.2.2.2.2.1 _ q431
  · exact C.2.2.2.2.1 _ q437
  · exact C.2.2.2.2.1 _ q453
  · exact C.2.2.2.2.1 _ q413
  · exact C.2.2.2.2.1 _ q454
  · exact C.2.2.2.2.1 _ q415
  · exact C.2.2.2.2.1 _ q455
  · exact C.2.2.2.2.1 _ q417
  · exact C.2.2.2.2.1 _ q427
  · exact (g_zU C).2.word
  · exact C.2.2.2.2.1 _ q429
  · exact (g_zN C).2.word
  · exact C.2.2.2.2.1 _ q419
theorem g_chE {cl : List vw_C} {X : g_F} {cc : ByteArray} {own : String} {ret : Option FieldType} (C : g_M cl X cc own ret) : ∀ w ∈ Bundle.chain0Atoms "java/lang/Exception" [], w.before (g_as X) (g_s X) = true := by
  intro w hw
  simp only [Bundle.chain0Atoms, Bundle.passAtoms, List.mem_cons, List.not_mem_nil, or_false] at hw
  rcases hw with rfl | rfl | rfl | rfl | rfl
  · exact C.2.2.2.2.1 _ q446
  · exact C.2.2.2.2.1 _ q447
  · exact C.2.2.2.2.1 _ q448
  · exact C.2.2.2.2.1 _ q424
  · exact g_decl C q408
theorem g_chN {cl : List vw_C} {X : g_F} {cc : ByteArray} {own : String} {ret : Option FieldType} (C : g_M cl X cc own ret) : ∀ w ∈ Bundle.chain0Atoms "java/util/NoSuchElementException" ["java/lang/RuntimeException", "java/lang/Exception"], w.before (g_as X) (g_s X) = true := by
  intro w hw
  simp only [Bundle.chain0Atoms, Bundle.passAtoms, List.mem_cons, List.not_mem_nil, or_false, List.mem_append] at hw
  rcases hw with (rfl | rfl | rfl | rfl | rfl) | (rfl | rfl | rfl | rfl | rfl) | (rfl | rfl | rfl | rfl | rfl)
  · exact C.2.2.2.2.1 _ q1255
  · exact C.2.2.2.2.1 _ q1256
  · exact C.2.2.2.2.1 _ q1257
  · exact C.2.2.2.2.1 _ q1258
  · exact g_decl C q722
  · exact C.2.2.2.2.1 _ q1258
  · exact C.2.2.2.2.1 _ q1259
  · exact C.2.2.2.2.1 _ q1260
  · exact C.2.2.2.2.1 _ q446
  · exact g_decl C q406
  · exact C.2.2.2.2.1 _ q446
  · exact C.2.2.2.2.1 _ q447
  · exact C.2.2.2.2.1 _ q448
  · exact C.2.2.2.2.1 _ q424
  · exact g_decl C q408
theorem g_ownN {cl : List vw_C} {X : g_F} {cc : ByteArray} {ret : Option FieldType} (C : g_M cl X cc RX1 ret) : ∀ w ∈ Bundle.ownAtoms0 RX1 255 "java/util/NoSuchElementException" ["java/lang/RuntimeException", "java/lang/Exception"], w.before (g_as X) (g_s X) = true := by
  intro w hw
  simp only [Bundle.ownAtoms0, List.mem_append] at hw
  rcases hw with (hw | hw) | hw
  · exact g_thr C w hw
  · exact g_chN C w hw
  · simp only [List.mem_cons, List.not_mem_nil, or_false] at hw
    rcases hw with rfl | rfl | rfl | rfl | rfl | rfl | rfl | rfl | rfl | rfl | rfl | rfl | rfl | rfl
    · exact C.2.2.2.2.1 _ q1254
    · exact C.2.2.2.2.1 _ q1246
    · exact va_Nw.use rfl (g_nestC C q1247)
    · exact C.2.2.2.2.1 _ q1248
    · exact C.2.2.2.2.1 _ q435
    · exact C.2.2.2.2.1 _ q1249
    · exact C.2.2.2.2.1 _ q1250
    · exact C.2.2.2.2.1 _ q1251
    · exact C.2.2.2.2.1 _ q1252
    · exact vx_isRefq (g_zU C).1
    · exact vx_isRefq (g_zN C).1
    · exact C.2.2.2.2.1 _ q422
    · exact C.2.2.2.2.1 _ q421
    · exact C.2.2.2.2.1 _ q1253
