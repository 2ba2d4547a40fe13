/-! THE MACHINE's OWN EXCEPTIONS: up to the thrown object over the frame -/
theorem am_Stand_slots {p : Program} {l : Launch} {e : Env} {R : Room} {s : State} {m : MethodId} {args : Array Value} {below : List Frame} {meth : Method} {c : Code} {T : State} {locs : List Loc} {cells slots slots' : Nat} (X : Stand p l e R s m args below meth c T locs cells slots) (h : slots ≤ slots') : Stand p l e R s m args below meth c T locs cells slots' :=
  { X with same := X.same.weaken (fun _ hy _ => hy) (Nat.le_refl _) h }
/-- what an arm gives: a state with k cells more, the thrown object the last of them -/
def am_Arm (p : Program) (l : Launch) (e : Env) (R : Room) (s : State) (m : MethodId) (args : Array Value) (below : List Frame) (meth : Method) (c : Code) (locs : List Loc) (cells slots k n : Nat) (cls : String) (msg : Option String) (T : State) (g : JFrame) : Prop :=
  ∃ (U : State) (Lo : List Loc) (ce : Cell), Stand p l e R s m args below meth c U (locs ++ Lo) (cells + k) (slots + n) ∧ (∀ q ∈ Lo, T.heap.size ≤ q.base) ∧ U.heap.size = T.heap.size + k ∧ (∀ i, i < T.heap.size → U.heap[i]? = T.heap[i]?) ∧
    U.heap[T.heap.size + k - 1]? = some ce ∧ s.vm.findClass cls = some ce.cls ∧ ce.vm = .none ∧
    ∀ target, Steps p.tables e below ((U.setTop g).pushFrame (.throwing (T.heap.size + k - 1))) target → Steps p.tables e below ((T.setTop g).pushFrame (.throwNew cls msg none)) target
section Arms
variable {p : Program} {l : Launch} {e : Env} {R : Room} {s : State} {m : MethodId} {args : Array Value} {below : List Frame} {meth : Method} {c : Code} {T' : State} {locs : List Loc} {cells slots : Nat}
theorem am_pushThrowing {U : State} {a : Addr} {g : JFrame} (X : Stand p l e R s m args below meth c U locs cells slots) : (U.setTop g).pushFrame (.throwing a) = U.setFrames (.throwing a :: .java g :: below) := by
  obtain ⟨g₁, hfr⟩ := X.frames_eq
  rw [State.pushFrame, State.frames_setTop _ hfr, State.setTop_of_frames _ hfr, State.setFrames_setFrames]
theorem am_setCell_heap (u : State) (a : Addr) (x : Cell) : (u.setCell a x).heap = u.heap.setIfInBounds a x := rfl
set_option maxHeartbeats 1000000 in
theorem am_npe (X : Stand p l e R s m args below meth c T' locs cells slots) (hexec : p.tables.exec = Jvm.exec) (htr : e.platform.stackTraces = false) (h : ∀ a ∈ Bundle.npeArmAtoms 8, a.before args s = true) {B : Nat}
    (hlocs : ∀ q ∈ locs, B ≤ q.base) (hlt : ∀ cf k i f a, s.fieldFound? Bundle.tN "UNASSIGNED_STACK" Bundle.steD = some (cf, k, i, f) → k.statics = some a → a < B)
    {g : JFrame} (hg : g.method = m) (hsize : g.locals.size = c.maxLocals) (hRframes : 7 < R.frames) (hRlocals : 2 * g.monitorRoom + (g.stack.map fun v => v.category).sum + 10240 ≤ R.locals) (hRcells : cells + 1 ≤ R.cells) (hRslots : slots + 8 ≤ R.slots) :
    am_Arm p l e R s m args below meth c locs cells slots 1 8 "java/lang/NullPointerException" none T' g := by
  have howns : e.platform.frameOwnsMonitors = true := by rw [X.admits.platform]
  have hfin : e.platform.finalization = false := by rw [X.admits.platform]
  have hpl : e.platform.magicAccessors = ({} : Platform).magicAccessors := by rw [X.admits.platform]
  have hpl2 : e.platform.arrayCloneIsPublic = true := by rw [X.admits.platform]
  have a : ∀ x, x ∈ Bundle.npeArmAtoms 8 → x.holds args s none s [] = true := fun x hx => h x hx
  obtain ⟨T, Z, L, LZ, Y⟩ := ThrowableC.of_atoms (args := args) howns hfin hpl (fun x hx => h x (by simp [Bundle.npeArmAtoms, hx]))
  obtain ⟨N, LN, hcN, hnNF, hordN, hffS⟩ := NpeC.of_atoms (args := args) hpl hpl2 L Y (fun x hx => h x (by simp [Bundle.npeArmAtoms, hx]))
  obtain ⟨P1, L1, hP1m, hP1s⟩ := PassC.of_atoms (args := args) (s := s) hpl (X := Bundle.nN) (Y := Bundle.rN) (by decide) (by decide) LibCode.NullPointerException.Init0.at_0 LibCode.NullPointerException.Init0.at_1 LibCode.NullPointerException.Init0.at_4 (fun x hx => h x (by simp [Bundle.npeArmAtoms, hx]))
  obtain ⟨PR, LR, hPRm, hPRs⟩ := PassC.of_atoms (args := args) (s := s) hpl (X := Bundle.rN) (Y := Bundle.eN) (by decide) (by decide) LibCode.RuntimeException.Init0.at_0 LibCode.RuntimeException.Init0.at_1 LibCode.RuntimeException.Init0.at_4 (fun x hx => h x (by simp [Bundle.npeArmAtoms, hx]))
  obtain ⟨PE, LE, hPEm, hPEs⟩ := PassC.of_atoms (args := args) (s := s) hpl (X := Bundle.eN) (Y := Bundle.tN) (by decide) (by decide) LibCode.Exception.Init0.at_0 LibCode.Exception.Init0.at_1 LibCode.Exception.Init0.at_4 (fun x hx => h x (by simp [Bundle.npeArmAtoms, hx]))
  have hfound : s.vm.findClass Bundle.nN = some P1.m.cls := findClass_of_methodNamed hP1m
  have ecls : N.cN = P1.m.cls := Option.some.inj (hcN.symm.trans hfound)
  have hk : s.vm.classes[P1.m.cls]? = some N.kN := by rw [← ecls]; exact LN.cls
  have hinit := Cond.initialized_spec hfound hk (a (.initialized Bundle.nN) (by simp [Bundle.npeArmAtoms]))
  have hctor : N.kN.findMethod "<init>" "()V" = some P1.m.idx := findMethod_of_methodNamed hP1m hk
  obtain ⟨c1, k1, hc1, hk1, -, -, -, hn⟩ := Cond.instantiable_spec (a (.instantiable Bundle.nN 8) (by simp [Bundle.npeArmAtoms]))
  cases Option.some.inj (hc1.symm.trans hfound)
  cases Option.some.inj (hk1.symm.trans hk)
  have hlink1 : P1.sup = PR.m := Option.some.inj (hP1s.symm.trans hPRm)
  have hlinkR : PR.sup = PE.m := Option.some.inj (hPRs.symm.trans hPEm)
  have hlinkE : PE.sup = Z.m T.toThrowableT := Option.some.inj (hPEs.symm.trans Y.init0)
  have sel : ∀ {x y : MethodName} {ix iy : MethodId}, (Jvm.Cond.selects Bundle.nN x y) ∈ Bundle.npeArmAtoms 8 → s.methodNamed? x = some ix → s.methodNamed? y = some iy → (x.cls ≠ "java/lang/invoke/MethodHandle" ∧ x.cls ≠ "java/lang/invoke/VarHandle") → selectMethod e.platform s.vm P1.m.cls ix = .method iy := by
    intro x y ix iy hm hx hy hh
    obtain ⟨c2, r2, m2, q1, q2, q3, q4, -⟩ := Cond.selects_spec (a _ hm)
    cases Option.some.inj (q1.symm.trans hfound)
    cases Option.some.inj (q2.symm.trans (State.methodFound?_of_named hx hh))
    cases Option.some.inj (q3.symm.trans hy)
    rw [Launch.admits_selectMethod X.admits]
    exact q4
  have hsel0 := sel (x := Bundle.tFill0) (y := Bundle.tFill0) (by simp [Bundle.npeArmAtoms]) Y.fill0 Y.fill0 (by decide)
  have hselF := sel (x := Bundle.tFill) (y := Bundle.nFill) (by simp [Bundle.npeArmAtoms]) Y.fill hnNF (by decide)
  obtain ⟨cellS0, hcS0, hiss⟩ := Y.statics
  obtain ⟨u0, hu0⟩ := Cond.staticRefV Y.unassigned L.unassignedStatic L.statics hcS0 hiss (a (.isRef (.static Bundle.tN "UNASSIGNED_STACK" Bundle.steD)) (by simp [Bundle.npeArmAtoms]))
  obtain ⟨sen, hsen⟩ := Cond.staticRefV Y.sentinel L.sentinelStatic L.statics hcS0 hiss (a (.isRef (.static Bundle.tN "SUPPRESSED_SENTINEL" Bundle.listD)) (by simp [Bundle.npeArmAtoms]))
  obtain ⟨ci198, i198, fB, hk198, hg198, ha198, hsB, -, hnB, htB, hffB⟩ := Cond.ownField (t := .object "java/lang/Object") Y.found L.cls (by decide +kernel) (a (.fieldLink Bundle.tN 198 Bundle.tN "backtrace" Bundle.objD) (by simp [Bundle.npeArmAtoms])) (a (.lays Bundle.tN Bundle.tN "backtrace" Bundle.objD) (by simp [Bundle.npeArmAtoms])) e.platform hpl
  obtain ⟨cellS, hcS', heS, -, hkeep⟩ := X.same.2.2.2.2.2 T.aS cellS0 hcS0
  have hcellS : T'.heap[T.aS]? = some cellS := hcS'
  have hB : T.aS < B := hlt _ _ _ _ _ Y.unassigned L.statics
  have hout' : ∀ i, (⟨T.aS, i⟩ : Loc) ∉ locs := fun i hmem => by
    exact absurd (hlocs _ hmem) (Nat.not_le.mpr hB)
  have hknownS : cellS.vm ≠ .unknown := by
    rw [heS]; intro hu
    rw [show cellS0.vm = .unknown from hu] at hiss
    cases hiss
  obtain ⟨tyC, dC, hdC, hdnC⟩ := Cond.laysAt hfound hk Y.cause (a (.lays Bundle.nN Bundle.tN "cause" "Ljava/lang/Throwable;") (by simp [Bundle.npeArmAtoms]))
  obtain ⟨tyS, dS, hdS, hdnS⟩ := Cond.laysAt hfound hk Y.stack (a (.lays Bundle.nN Bundle.tN "stackTrace" Bundle.steD) (by simp [Bundle.npeArmAtoms]))
  obtain ⟨tyP, dP, hdP, hdnP⟩ := Cond.laysAt hfound hk Y.supp (a (.lays Bundle.nN Bundle.tN "suppressedExceptions" Bundle.listD) (by simp [Bundle.npeArmAtoms]))
  obtain ⟨tyX, dX, hdX, hdnX⟩ := Cond.laysAt hfound hk hffS (a (.lays Bundle.nN Bundle.nN "extendedMessageState" "I") (by simp [Bundle.npeArmAtoms, Bundle.npeAtoms]))
  have hnX : N.fState.name = "extendedMessageState" := (State.fieldFound?_type hffS (t := .int) (by decide +kernel)).1
  obtain ⟨tyB, dB, hdB, hdnB⟩ := Cond.laysAt hfound hk hffB (a (.lays Bundle.nN Bundle.tN "backtrace" Bundle.objD) (by simp [Bundle.npeArmAtoms]))
  have bC := Cond.laysApart hdB hdC hdnB hdnC (by rw [hnB, Y.causeName]; decide)
  have bS := Cond.laysApart hdB hdS hdnB hdnS (by rw [hnB, Y.stackName]; decide)
  have bP := Cond.laysApart hdB hdP hdnB hdnP (by rw [hnB, Y.suppName]; decide)
  have bX := Cond.laysApart hdB hdX hdnB hdnX (by rw [hnB, hnX]; decide)
  have hskip : SkipFacts T e.platform s (fun u => u) u0 ((npeCell N.toNpeT (preparedCellV T.toThrowableT (freshCell P1.m.cls N.kN) T'.heap.size u0 sen) T'.cur).withEntry T'.cur) :=
    ⟨{ ci198 := ci198, i198 := i198, fBack := fB }, ⟨hk198, hg198, ha198, hsB⟩, by
      have := fresh_default (c := P1.m.cls) tyB
      rw [htB] at this
      simpa [npeCell, preparedCellV, Cell.setSlot, Cell.withEntry, Array.getElem?_setIfInBounds, bC, bS, bP, bX, bC.symm, bS.symm, bP.symm, bX.symm, defaultValue] using this, fun _ _ => rfl⟩
  have hA : At T' g.method c below := by rw [hg]; exact X.here
  obtain ⟨hbeyond, hfreeW⟩ := X.vmMayThrow hsize (.throwNew "java/lang/NullPointerException" none none) (fun f hf => by cases hf) rfl hRlocals
  have hfr' : T'.frames.length + [PR, PE].length + 5 < (e.platform.stackLimits T'.me).1 := by
    have := X.framesAbove hRframes
    simp only [List.length_cons, List.length_nil]
    omega
  have hwd' : (stackUse (.java g :: T'.frames.tail)).2 + 13 * [PR, PE].length + 68 ≤ (e.platform.stackLimits T'.me).2 := by
    have := X.stackAbove hsize (K := 94) (by omega)
    simp only [List.length_cons, List.length_nil]
    omega
  obtain ⟨vm', hW', st⟩ := Steps.vmThrowsNpeColdByV p (s₀ := s) (S := T') (g := g) hA hexec T L Z LZ N LN X.warmed (t := T'.cur) rfl P1 L1 [PR, PE] (fun P hP => by
      simp only [List.mem_cons, List.not_mem_nil, or_false] at hP
      rcases hP with rfl | rfl
      · exact LR
      · exact LE) hlink1 ⟨hlinkR, hlinkE, trivial⟩ hfound hk hinit hordN hctor
    (Launch.admits_hotImplicitExceptions X.admits) hbeyond hfreeW (X.cellsAbove hRcells) (X.slotsAbove (by rw [hn]; exact hRslots))
    (Nn := fun u => u) heapOnly_id (fun _ _ => rfl) (fun _ => rfl) (fun u x y => setCell_twice _ _ _ _) (fun _ => Nat.le_refl _) (cN := ((npeCell N.toNpeT (preparedCellV T.toThrowableT (freshCell P1.m.cls N.kN) T'.heap.size u0 sen) T'.cur).withEntry T'.cur))
    hsel0 hcellS hknownS (by rw [hkeep _ (hout' _)]; exact hu0) (by rw [fresh_default tyX, LN.stateInt]; rfl)
    (Cond.laysApart hdC hdX hdnC hdnX (by rw [Y.causeName, hnX]; decide)) (Cond.laysApart hdS hdX hdnS hdnX (by rw [Y.stackName, hnX]; decide)) (Cond.laysApart hdP hdX hdnP hdnX (by rw [Y.suppName, hnX]; decide))
    (Takes.of_laid hk hordN tyS (by rw [Y.stackType]; exact fits_refV_array _ u0)) (Takes.of_laid hk hordN tyX (by rw [LN.stateInt]; rfl))
    (fun _ hu => hu) (fun _ hu => hu) rfl rfl rfl (by simp [npeCell, preparedCellV, Cell.setSlot, Cell.withEntry]) hskip (fun _ _ hA hW _ hroom _ hrest => L.nativeOff p htr hA hW hroom hrest) hselF (by rw [hkeep _ (hout' _)]; exact hsen)
    (Takes.of_laid hk hordN tyC (by rw [Y.causeType]; rfl)) (Takes.of_laid hk hordN tyP (by rw [Y.suppType]; exact fits_refV_object _ sen)) Y.objLocals rfl hfr' hwd'
  rw [npeBareV_eq T.toThrowableT N.toNpeT T'.heap.size u0 sen T'.cur rfl rfl] at st
  have X2 := (X.pushed (freshCell P1.m.cls N.kN)).noted hW'
  have hsz : ((T'.pushCell (freshCell P1.m.cls N.kN)).setVm vm').heap.size = T'.heap.size + 1 := State.heap_size_pushCell _ _
  have ha : T'.heap.size < ((T'.pushCell (freshCell P1.m.cls N.kN)).setVm vm').heap.size := by rw [hsz]; omega
  have hcell : ((T'.pushCell (freshCell P1.m.cls N.kN)).setVm vm').heap[T'.heap.size]? = some (freshCell P1.m.cls N.kN) := State.heap_pushCell_size T' (freshCell P1.m.cls N.kN)
  have X3 := ((((X2.stored hcell T.fCause.slot (.ref T'.heap.size)).storedAgain ha T.fStack.slot u0.v).storedAgain ha T.fSupp.slot sen.v).storedAgain ha N.fState.slot (.int 1)).storedAgain ha T.fStack.slot u0.v
  have hsl : (freshCell P1.m.cls N.kN).slots.size = 8 := by simp [hn]
  rw [hsl] at X3
  simp only [List.append_assoc, List.cons_append, List.nil_append] at X3
  refine ⟨_, _, npeBareV T.toThrowableT N.toNpeT (freshCell P1.m.cls N.kN) T'.heap.size u0 sen, X3, ?_, ?_, ?_, ?_, hfound, rfl, fun target hrest => st target ?_⟩
  · intro q hq
    simp only [List.mem_cons, List.not_mem_nil, or_false] at hq
    rcases hq with rfl | rfl | rfl | rfl | rfl <;> exact Nat.le_refl _
  · rw [am_setCell_heap, Array.size_setIfInBounds, hsz]
  · intro i hi
    rw [am_setCell_heap, Array.getElem?_setIfInBounds, if_neg (by omega)]
    show (T'.heap.push _)[i]? = _
    rw [Array.getElem?_push_lt hi]
    simp [hi]
  · exact heapAt_setCell_self _ ha
  · rw [am_pushThrowing X3] at hrest
    rw [X.tail]
    exact hrest
set_option maxHeartbeats 1000000 in
theorem am_msg (X : Stand p l e R s m args below meth c T' locs cells slots) (hexec : p.tables.exec = Jvm.exec) (htr : e.platform.stackTraces = false) {cls : String} {names : List String} {text : String}
    (hcls : Bundle.fit cls = true) (hnames : ∀ n ∈ names, Bundle.fit n = true) (hsoe : (cls == "java/lang/StackOverflowError") = false) (hoom : (cls == "java/lang/OutOfMemoryError") = false)
    (h : ∀ a ∈ Bundle.messageArmAtoms cls names, a.before args s = true) {B : Nat} (hlocs : ∀ q ∈ locs, B ≤ q.base) (hlt : ∀ cf k i f a, s.fieldFound? Bundle.tN "UNASSIGNED_STACK" Bundle.steD = some (cf, k, i, f) → k.statics = some a → a < B)
    (htext : (text == notModelled) = false) (hbytes : (stringBytes (stringToUtf16 text)).size ≤ 990)
    {g : JFrame} (hg : g.method = m) (hsize : g.locals.size = c.maxLocals) (hnl : names.length ≤ 4) (hRframes : 8 < R.frames) (hRlocals : 2 * g.monitorRoom + (g.stack.map fun v => v.category).sum + 10240 ≤ R.locals) (hRcells : cells + 3 ≤ R.cells) (hRslots : slots + 1000 ≤ R.slots) :
    am_Arm p l e R s m args below meth c locs cells slots 3 1000 cls (some text) T' g := by
  have howns : e.platform.frameOwnsMonitors = true := by rw [X.admits.platform]
  have hfin : e.platform.finalization = false := by rw [X.admits.platform]
  have hpl : e.platform.magicAccessors = ({} : Platform).magicAccessors := by rw [X.admits.platform]
  have hlimit : ¬ (stringBytes (stringToUtf16 text)).size > e.platform.arrayLengthLimit := by
    rw [Launch.admits_arrayLengthLimit X.admits]
    omega
  have hheap : ¬ (stringBytes (stringToUtf16 text)).size * componentBytes .byte > e.platform.maxHeapBytes := by
    rw [Launch.admits_maxHeapBytes X.admits]
    simp only [componentBytes]
    omega
  have a : ∀ x, x ∈ Bundle.messageArmAtoms cls names → x.holds args s none s [] = true := fun x hx => h x hx
  obtain ⟨T, Z0, L, -, Y⟩ := ThrowableC.of_atoms (args := args) howns hfin hpl (fun x hx => h x (by simp [Bundle.messageArmAtoms, hx]))
  obtain ⟨Z, M, LZ, LM, hnZ⟩ := Init0T.ofS_atoms (args := args) hpl L Y (fun x hx => h x (by simp [Bundle.messageArmAtoms, hx]))
  obtain ⟨P1, Ps, hlen, L1, hL, hP1m, hlink1, hlink⟩ := Bundle.chainS (args := args) hpl hnZ names cls hcls hnames (fun x hx => h x (by simp [Bundle.messageArmAtoms, hx]))
  obtain ⟨Zs, LZs, hn4, hfitv, hfitc⟩ := StringT.of_atoms (args := args) (fun x hx => h x (by simp [Bundle.messageArmAtoms, hx]))
  have hfound : s.vm.findClass cls = some P1.m.cls := findClass_of_methodNamed hP1m
  obtain ⟨c1, kX, hc1, hk, hord, -, -, hn6⟩ := Cond.instantiable_spec (a (.instantiable cls 6) (by simp [Bundle.messageArmAtoms]))
  cases Option.some.inj (hc1.symm.trans hfound)
  have hinit := Cond.initialized_spec hfound hk (a (.initialized cls) (by simp [Bundle.messageArmAtoms]))
  have hctor : kX.findMethod "<init>" "(Ljava/lang/String;)V" = some P1.m.idx := findMethod_of_methodNamed hP1m hk
  have sel : ∀ {x y : MethodName} {ix iy : MethodId}, (Jvm.Cond.selects cls x y) ∈ Bundle.messageArmAtoms cls names → s.methodNamed? x = some ix → s.methodNamed? y = some iy → (x.cls ≠ "java/lang/invoke/MethodHandle" ∧ x.cls ≠ "java/lang/invoke/VarHandle") → selectMethod e.platform s.vm P1.m.cls ix = .method iy := by
    intro x y ix iy hm hx hy hh
    obtain ⟨c2, r2, m2, q1, q2, q3, q4, -⟩ := Cond.selects_spec (a _ hm)
    cases Option.some.inj (q1.symm.trans hfound)
    cases Option.some.inj (q2.symm.trans (State.methodFound?_of_named hx hh))
    cases Option.some.inj (q3.symm.trans hy)
    rw [Launch.admits_selectMethod X.admits]
    exact q4
  have hsel0 := sel (x := Bundle.tFill0) (y := Bundle.tFill0) (by simp [Bundle.messageArmAtoms]) Y.fill0 Y.fill0 (by decide)
  have hselF := sel (x := Bundle.tFill) (y := Bundle.tFill) (by simp [Bundle.messageArmAtoms]) Y.fill Y.fill (by decide)
  obtain ⟨cellS0, hcS0, hiss⟩ := Y.statics
  obtain ⟨u0, hu0⟩ := Cond.staticRefV Y.unassigned L.unassignedStatic L.statics hcS0 hiss (a (.isRef (.static Bundle.tN "UNASSIGNED_STACK" Bundle.steD)) (by simp [Bundle.messageArmAtoms]))
  obtain ⟨sen, hsen⟩ := Cond.staticRefV Y.sentinel L.sentinelStatic L.statics hcS0 hiss (a (.isRef (.static Bundle.tN "SUPPRESSED_SENTINEL" Bundle.listD)) (by simp [Bundle.messageArmAtoms]))
  obtain ⟨ci198, i198, fB, hk198, hg198, ha198, hsB, -, hnB, htB, hffB⟩ := Cond.ownField (t := .object "java/lang/Object") Y.found L.cls (by decide +kernel) (a (.fieldLink Bundle.tN 198 Bundle.tN "backtrace" "Ljava/lang/Object;") (by simp [Bundle.messageArmAtoms])) (a (.lays Bundle.tN Bundle.tN "backtrace" "Ljava/lang/Object;") (by simp [Bundle.messageArmAtoms])) e.platform hpl
  obtain ⟨cellS, hcS', heS, -, hkeep⟩ := X.same.2.2.2.2.2 T.aS cellS0 hcS0
  have hcellS : T'.heap[T.aS]? = some cellS := hcS'
  have hB : T.aS < B := hlt _ _ _ _ _ Y.unassigned L.statics
  have hout' : ∀ i, (⟨T.aS, i⟩ : Loc) ∉ locs := fun i hmem => by
    exact absurd (hlocs _ hmem) (Nat.not_le.mpr hB)
  have hknownS : cellS.vm ≠ .unknown := by
    rw [heS]; intro hu
    rw [show cellS0.vm = .unknown from hu] at hiss
    cases hiss
  obtain ⟨iM, hffM⟩ := Y.msg
  obtain ⟨tyC, dC, hdC, hdnC⟩ := Cond.laysAt hfound hk Y.cause (a (.lays cls Bundle.tN "cause" "Ljava/lang/Throwable;") (by simp [Bundle.messageArmAtoms]))
  obtain ⟨tyS, dS, hdS, hdnS⟩ := Cond.laysAt hfound hk Y.stack (a (.lays cls Bundle.tN "stackTrace" Bundle.steD) (by simp [Bundle.messageArmAtoms]))
  obtain ⟨tyP, dP, hdP, hdnP⟩ := Cond.laysAt hfound hk Y.supp (a (.lays cls Bundle.tN "suppressedExceptions" Bundle.listD) (by simp [Bundle.messageArmAtoms]))
  obtain ⟨tyM, dM, hdM, hdnM⟩ := Cond.laysAt hfound hk hffM (a (.lays cls Bundle.tN "detailMessage" "Ljava/lang/String;") (by simp [Bundle.messageArmAtoms]))
  obtain ⟨tyB, dB, hdB, hdnB⟩ := Cond.laysAt hfound hk hffB (a (.lays cls Bundle.tN "backtrace" "Ljava/lang/Object;") (by simp [Bundle.messageArmAtoms]))
  have bC := Cond.laysApart hdB hdC hdnB hdnC (by rw [hnB, Y.causeName]; decide)
  have bS := Cond.laysApart hdB hdS hdnB hdnS (by rw [hnB, Y.stackName]; decide)
  have bP := Cond.laysApart hdB hdP hdnB hdnP (by rw [hnB, Y.suppName]; decide)
  have hskip : SkipFacts T e.platform s (fun u => u) u0 ((preparedCellV T.toThrowableT (freshCell P1.m.cls kX) (T'.heap.size + 2) u0 sen).withEntry T'.cur) :=
    ⟨{ ci198 := ci198, i198 := i198, fBack := fB }, ⟨hk198, hg198, ha198, hsB⟩, by
      have := fresh_default (c := P1.m.cls) tyB
      rw [htB] at this
      simpa [preparedCellV, Cell.setSlot, Cell.withEntry, Array.getElem?_setIfInBounds, bC, bS, bP, bC.symm, bS.symm, bP.symm, defaultValue] using this, fun _ _ => rfl⟩
  have hA : At T' g.method c below := by rw [hg]; exact X.here
  obtain ⟨hbeyond, hfreeW⟩ := X.vmMayThrow hsize (.throwNew cls (some text) none) (fun f hf => by cases hf) rfl hRlocals
  have hfr' : T'.frames.length + Ps.length + 4 < (e.platform.stackLimits T'.me).1 := by
    have := X.framesAbove hRframes
    omega
  have hwd' : (stackUse (.java g :: T'.frames.tail)).2 + 13 * Ps.length + 55 ≤ (e.platform.stackLimits T'.me).2 := by
    have := X.stackAbove hsize (K := 13 * Ps.length + 55) (by omega)
    omega
  have hslots : T'.slotsUsed + (stringBytes (stringToUtf16 text)).size + Zs.kS.instanceTypes.size + kX.instanceTypes.size ≤ e.platform.maxSlots := by
    have := X.slotsAbove hRslots
    rw [hn4, hn6]
    omega
  obtain ⟨vm', hW', st⟩ := Steps.vmThrowsMessageColdByV p (s₀ := s) (S := T') (g := g) hA hexec T L Z LZ M LM X.warmed (t := T'.cur) rfl Zs LZs P1 L1 Ps hL hlink1 hlink hsoe hoom hfound hk hinit hord hctor
    (Launch.admits_hotImplicitExceptions X.admits) hbeyond hfreeW htext hlimit hheap (X.cellsAbove hRcells) hslots (hfitv _) (hfitc _)
    (Nn := fun u => u) heapOnly_id (fun _ _ => rfl) (fun _ => rfl) (fun u x y => setCell_twice _ _ _ _) (fun _ => Nat.le_refl _) (cN := ((preparedCellV T.toThrowableT (freshCell P1.m.cls kX) (T'.heap.size + 2) u0 sen).withEntry T'.cur))
    hsel0 hcellS hknownS (by rw [hkeep _ (hout' _)]; exact hu0) (Takes.of_laid hk hord tyS (by rw [Y.stackType]; exact fits_refV_array _ u0)) (fun _ hu => hu) (fun _ hu => hu) rfl rfl rfl (by simp [preparedCellV, Cell.setSlot, Cell.withEntry]) hskip
    (fun _ _ hA hW _ hroom _ hrest => L.nativeOff p htr hA hW hroom hrest) hselF (by rw [hkeep _ (hout' _)]; exact hsen) (Takes.of_laid hk hord tyC (by rw [Y.causeType]; rfl)) (Takes.of_laid hk hord tyP (by rw [Y.suppType]; exact fits_refV_object _ sen)) (Takes.of_laid hk hord tyM (by rw [Y.msgType]; rfl)) Y.objLocals rfl hfr' hwd'
  rw [plainBareV_eq T.toThrowableT (T'.heap.size + 2) u0 sen (.ref (T'.heap.size + 1)) T'.cur rfl rfl] at st
  obtain ⟨-, -, w3, w4, w5, -, -⟩ := withThrown_facts e.platform T' Zs text P1.m.cls kX
  have X3 := ((X.pushed (bytesOf Zs.cB (stringToUtf16 text))).pushed (stringAt Zs.cS Zs.kS Zs.fv Zs.fc (stringToUtf16 text) T'.heap.size)).pushed (freshCell P1.m.cls kX)
  rw [← withString_eq] at X3
  have X4 := X3.noted hW'
  have ha : (T'.heap.size + 2) < ((withThrown T' Zs text P1.m.cls kX).setVm vm').heap.size := by show _ < (withThrown T' Zs text P1.m.cls kX).heap.size; rw [w3]; omega
  have hcell : ((withThrown T' Zs text P1.m.cls kX).setVm vm').heap[(T'.heap.size + 2)]? = some (freshCell P1.m.cls kX) := w4
  have X5 := ((((X4.stored hcell T.fCause.slot (.ref (T'.heap.size + 2))).storedAgain ha T.fStack.slot u0.v).storedAgain ha T.fSupp.slot sen.v).storedAgain ha T.fStack.slot u0.v).storedAgain ha T.fMsg.slot (.ref (T'.heap.size + 1))
  have b1 : (bytesOf Zs.cB (stringToUtf16 text)).slots.size = (stringBytes (stringToUtf16 text)).size := by
    rw [(Cell.writeAll_facts _ _).2.2]; simp [bytes0]
  have b2 : (stringAt Zs.cS Zs.kS Zs.fv Zs.fc (stringToUtf16 text) T'.heap.size).slots.size = 4 := by simp [string0, Cell.setSlot, hn4]
  have b3 : (freshCell P1.m.cls kX).slots.size = 6 := by simp [hn6]
  rw [b1, b2, b3] at X5
  simp only [List.append_assoc, List.cons_append, List.nil_append] at X5
  have X6 := am_Stand_slots X5 (slots' := slots + 1000) (by omega)
  refine ⟨_, _, plainBareV T.toThrowableT (freshCell P1.m.cls kX) (T'.heap.size + 2) u0 sen (.ref (T'.heap.size + 1)), X6, ?_, ?_, ?_, ?_, hfound, rfl, fun target hrest => st target ?_⟩
  · intro q hq
    simp only [List.mem_cons, List.not_mem_nil, or_false] at hq
    rcases hq with rfl | rfl | rfl | rfl | rfl <;> exact Nat.le_add_right _ 2
  · rw [am_setCell_heap, Array.size_setIfInBounds]
    exact w3
  · intro i hi
    rw [am_setCell_heap, Array.getElem?_setIfInBounds, if_neg (by omega)]
    exact w5 i hi
  · exact heapAt_setCell_self _ ha
  · rw [show T'.heap.size + 3 - 1 = T'.heap.size + 2 from rfl, am_pushThrowing X6] at hrest
    rw [X.tail]
    exact hrest
end Arms
section Thr
variable {p : Program} {l : Launch} {e : Env} {R : Room} {s : State} {m : MethodId} {args : Array Value} {below : List Frame} {meth : Method} {c : Code} {cc : ByteArray} {s0 : State} {ad : Int → Nat} {fm : Value} {cid : Int → ClassId} {slo : Int → Nat → Nat} {n0 s1 : Int} {pc : Nat} {L : List aV} {mm : aM} {hs : aH} {Q : aO → aM → Prop} {jp : Nat → List aV → List aV → aM → Prop} {b2 b3 : Prop} {own : String} {locs : List Loc} {ls : Array Slot} {rest : List Value}
/-- the thrown object over the frame: into the handler, or out of the method -/
theorem am_thr (X : am_Wd s0 ad fm cid slo s) (hlocks : meth.locks = false) (hown : s.vm.findClass own = some m.cls) (hHR : am_HR s args own am_xn cid hs c.exceptionTable.toList) {T : State} {ci q : Int} {cells slots : Nat} (hR : am_Rep s0 ad fm cid slo am_cF am_ft mm T.heap) (hc : mm q (-1) = ci ∧ 0 < q ∧ am_isX ci = true) (h0 : n0 ≤ mm 0 0) (h1 : s1 ≤ mm 0 1) (hlo : ∀ q ∈ locs, s0.heap.size ≤ q.base) (hg2 : b2 → mm 0 2 = 1) (hg3 : b3 → mm 0 3 = 1)
    (hce : cells = (mm 0 0 - n0).toNat) (hsl : slots = (mm 0 1 - s1).toNat) (Y : Stand p l e R s m args below meth c T locs cells slots) (hL : am_Lok ad fm L ls) (hjp : ∀ t L S mm, jp t L S mm → am_S p l e R s m args below meth c s0 ad fm cid slo am_cF am_ft (am_Post s0 ad fm cid slo am_cF am_ft s below Q n0 s1 b2 b3) n0 s1 t L S mm) (h : am_exc hs Q jp pc L ci q mm) :
    ∃ t, Steps p.tables e below ((T.setTop (F0 m pc ls rest)).pushFrame (.throwing (ad q))) t ∧ am_Post s0 ad fm cid slo am_cF am_ft s below Q n0 s1 b2 b3 t := by
  subst hce
  subst hsl
  have hne : mm q (-1) ≠ 0 := by
    rw [hc.1]
    intro z
    rw [z] at hc
    exact absurd hc.2.2 (by decide)
  obtain ⟨cell, c1, c2, c3⟩ := hR.of hne
  rw [hc.1] at c3
  obtain ⟨vm', Y', hm⟩ := am_thrown Y hlocks (g := F0 m pc ls rest) rfl rfl rfl hown hHR (fun k hk => X.asg ci k hc.2.2 hk) (X.exc ci hc.2.2).2 c1 c3 c2
  unfold am_exc at h
  cases hh : am_hnd hs pc ci with
  | some w =>
    rw [hh] at h
    rw [show (F0 m pc ls rest).pc = pc from rfl, hh] at hm
    have K1 := hjp _ _ _ _ h T.heap locs ls hR hlo hL (am_vc (v := aR q) trivial (fun w hw => absurd hw List.not_mem_nil)) h0 h1
    rw [List.map_cons, List.map_nil, show am_c ad fm (aR q) = am_rv ad fm q from rfl, (hR.rv hne).1] at K1
    obtain ⟨t, a1, b1⟩ := K1 (T.setVm vm') rfl Y'
    exact ⟨t, hm t a1, b1⟩
  | none =>
    rw [hh] at h
    rw [show (F0 m pc ls rest).pc = pc from rfl, hh] at hm
    exact ⟨_, hm, am_leave (T := T.setVm vm') hR hlo h0 h1 h hc hg2 hg3 Y'⟩
/-- the machine throws: its arm, then the frame -/
theorem am_vx {T : State} {g : JFrame} {cls : String} {ci k : Int} {kn nn : Nat} (X : am_Wd s0 ad fm cid slo s) (hlocks : meth.locks = false) (hown : s.vm.findClass own = some m.cls) (hHR : am_HR s args own am_xn cid hs c.exceptionTable.toList) (hci : am_isX ci = true) (hc3 : ci ≠ 3) (hcn : am_xn ci = cls) (hk : k = (kn : Int)) (hk1 : 1 ≤ kn) (hnn : nn ≤ 1000)
    (hR : am_Rep s0 ad fm cid slo am_cF am_ft mm T.heap) (h0 : n0 ≤ mm 0 0) (h1 : s1 ≤ mm 0 1) (hlo : ∀ q ∈ locs, s0.heap.size ≤ q.base) (hg2 : b2 → mm 0 2 = 1) (hg3 : b3 → mm 0 3 = 1) (hL : am_Lok ad fm L ls)
    (hjp : ∀ t L S mm, jp t L S mm → am_S p l e R s m args below meth c s0 ad fm cid slo am_cF am_ft (am_Post s0 ad fm cid slo am_cF am_ft s below Q n0 s1 b2 b3) n0 s1 t L S mm)
    (hstep : ∃ vm' msg, am_Arm p l e R s m args below meth c locs (mm 0 0 - n0).toNat (mm 0 1 - s1).toNat kn nn cls msg (T.setVm vm') (F0 m pc ls rest) ∧ ∀ target, Steps p.tables e below (((T.setVm vm').setTop (F0 m pc ls rest)).pushFrame (.throwNew cls msg none)) target → Steps p.tables e below (T.setTop g) target)
    (h : am_exc hs Q jp pc L ci (mm 0 0 + k) (mX mm ci k 1000)) :
    ∃ t, Steps p.tables e below (T.setTop g) t ∧ am_Post s0 ad fm cid slo am_cF am_ft s below Q n0 s1 b2 b3 t := by
  subst hk
  obtain ⟨vm', msg, ⟨U, Lo, ce, Z1, z2, z3, z4, z5, z6, z7, z8⟩, st⟩ := hstep
  have e0 : (T.setVm vm').heap = T.heap := rfl
  rw [e0] at z2 z3 z4 z5 z8
  have hR0 := hR
  obtain ⟨r0, r1, r2, -⟩ := hR0
  obtain ⟨x0, x1, x2⟩ := mX_0 (t := ci) (k := (kn : Int)) (n := 1000) r0 (by omega)
  have ea : ad (mm 0 0 + (kn : Int)) = T.heap.size + kn - 1 := by rw [X.had _ (by omega), r2]; omega
  have hcls : ce.cls = cid ci := by
    have := (X.exc ci hci).1
    rw [hcn] at this
    exact Option.some.inj (z6.symm.trans this)
  have hne : mX mm ci (kn : Int) 1000 (mm 0 0 + (kn : Int)) (-1) = ci := by rw [mX_n]; rfl
  have hcell : am_cell s0 ad fm cid slo am_cF am_ft (mX mm ci (kn : Int) 1000) U.heap (mm 0 0 + (kn : Int)) := by
    refine ⟨ce, by rw [ea]; exact z5, by rw [hne]; exact hcls, by rw [z7]; simp, by rw [z7]; rfl, fun _ _ => z7, fun q => by omega, Or.inr (Or.inr ⟨by rw [hne]; exact hci, fun z => absurd (hne.symm.trans z) hc3⟩)⟩
  have hR1 : am_Rep s0 ad fm cid slo am_cF am_ft (mX mm ci (kn : Int) 1000) U.heap :=
    hR.grow X.had (k := (kn : Int)) (by omega) (fun b j hb hb0 => mX_b hb hb0) x0 (by rw [x1]; omega) x2 (by rw [z3]; omega) z4 hcell
  have hs0 : s0.heap.size ≤ T.heap.size := by rw [r2]; omega
  have Z2 := am_Stand_slots Z1 (slots' := (mm 0 1 - s1).toNat + 1000) (by omega)
  obtain ⟨t, a1, b1⟩ := am_thr (pc := pc) (rest := rest) X hlocks hown hHR hR1 ⟨hne, by omega, hci⟩ (by rw [x0]; omega) (by rw [x1]; omega)
    (fun q hq => by
      rcases List.mem_append.mp hq with w | w
      · exact hlo q w
      · exact Nat.le_trans hs0 (z2 q w)) (fun w => by rw [x2 2 (by decide) (by decide)]; exact hg2 w) (fun w => by rw [x2 3 (by decide) (by decide)]; exact hg3 w) (by rw [x0]; omega) (by rw [x1]; omega) Z2 hL hjp h
  rw [ea] at a1
  exact ⟨t, st t (z8 t a1), b1⟩
end Thr
