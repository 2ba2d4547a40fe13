/-! THE INVOKING INSTRUCTIONS, up to the callee's entry -/
def am_Inv (p : Program) (l : Launch) (e : Env) (R : Room) (s : State) (m : MethodId) (args : Array Value) (below : List Frame) (meth : Method) (c : Code) (H : Heap) (g : JFrame) (pc : Nat) (ls : Array Slot) (rest : List Value) (mk : MethodId) (av : Array Value) : Prop :=
  ∀ (locs : List Loc) (cells slots : Nat) (T : State), T.heap = H → Stand p l e R s m args below meth c T locs cells slots → ∃ vm', Stand p l e R s m args below meth c (T.setVm vm') locs cells slots ∧ ∀ target, (∀ acts, Steps p.tables e below (doInvoke e ((T.setVm vm').setTop (F0 m pc ls rest)) acts mk av).1 target) → Steps p.tables e below (T.setTop g) target
/-- a method as the tables have it -/
def am_MD (s : State) (y : MethodName) (mk : MethodId) (meth : Method) (ck : Code) (cc : ByteArray) (maxL : Nat) (ret : Option FieldType) : Prop :=
  s.methodNamed? y = some mk ∧ s.vm.method? mk = some meth ∧ meth.code = some ck ∧ ck.code = cc ∧ ck.maxLocals = maxL ∧ meth.sig.returnType = ret ∧ meth.locks = false ∧ parseMethodDescriptor y.desc = some meth.sig
/-- the link of a method, by the class itself or by a nest mate -/
def am_ML (s : State) (args : Array Value) (own : String) (idx : Nat) (y : MethodName) : Prop := (Jvm.Cond.methodLink own idx y).before args s = true ∨ ∃ host, (Jvm.Cond.methodLinkNest own idx y host).before args s = true
def am_nMH (y : MethodName) : Prop := y.cls ≠ "java/lang/invoke/MethodHandle" ∧ y.cls ≠ "java/lang/invoke/VarHandle"
section Inv
variable {p : Program} {l : Launch} {e : Env} {R : Room} {s : State} {m : MethodId} {args : Array Value} {below : List Frame} {meth : Method} {c : Code} {cc : ByteArray} {H : Heap} {pc : Nat} {ls : Array Slot} {rest argsL : List Value} {own : String} {idx : Nat} {y : MethodName} {mk : MethodId} {methk : Method} {ck : Code} {bk : ByteArray} {maxL : Nat} {ret : Option FieldType}
theorem am_i_static (hx : p.tables.exec = Jvm.exec) (hb : c.code = cc) (hown : s.vm.findClass own = some m.cls) (hM : am_MD s y mk methk ck bk maxL ret) (hL : am_ML s args own idx y) (hst : (Jvm.Cond.static y).before args s = true) (hini : (Jvm.Cond.initialized y.cls).before args s = true) (hn : am_nMH y)
    (hlen : ∀ sig, parseMethodDescriptor y.desc = some sig → argsL.length = sig.parameters.length) (hd : decode cc pc = .ok (.invokestatic idx, 3)) : am_Inv p l e R s m args below meth c H (F0 m pc ls (argsL.reverse ++ rest)) pc ls rest mk argsL.toArray := by
  intro locs cells slots T hT X
  obtain ⟨h1, h2, h3, h4, h5, h6, h7, h8⟩ := hM
  have hstatic : methk.isStatic = true := Cond.static_spec h1 h2 hst
  obtain ⟨kP, hkP, -⟩ := className_of_methodNamed h1
  have hinitP : kP.init = .initialized := Cond.initialized_spec (findClass_of_methodNamed h1) hkP hini
  rcases hL with hl | ⟨host, hl⟩
  · obtain ⟨vm', X1, st⟩ := X.invokestatic hx hown hl h1 h2 hstatic hkP hinitP hn (g := F0 m pc ls (argsL.reverse ++ rest)) rfl (argsL := argsL) (rest := rest) (hlen _ h8) rfl (by rw [hb]; exact hd)
    exact ⟨vm', X1, st⟩
  · obtain ⟨vm', X1, st⟩ := X.invokestaticNest hx hown hl h1 h2 hstatic hkP hinitP hn (g := F0 m pc ls (argsL.reverse ++ rest)) rfl (argsL := argsL) (rest := rest) (hlen _ h8) rfl (by rw [hb]; exact hd)
    exact ⟨vm', X1, st⟩
theorem am_i_virtual (hx : p.tables.exec = Jvm.exec) (hb : c.code = cc) (hown : s.vm.findClass own = some m.cls) (hM : am_MD s y mk methk ck bk maxL ret) (hL : am_ML s args own idx y) (hin : (Jvm.Cond.instanceMethod y).before args s = true) {C : String} (hsel : (Jvm.Cond.selects C y y).before args s = true) (hn : am_nMH y)
    {b : Addr} {cellB : Cell} (hcell : H[b]? = some cellB) (hobj : cellB.vm.isStatics = false) (hcls : s.vm.findClass C = some cellB.cls)
    (hlen : ∀ sig, parseMethodDescriptor y.desc = some sig → argsL.length = sig.parameters.length) (hd : decode cc pc = .ok (.invokevirtual idx, 3)) : am_Inv p l e R s m args below meth c H (F0 m pc ls (argsL.reverse ++ .ref b :: rest)) pc ls rest mk (.ref b :: argsL).toArray := by
  intro locs cells slots T hT X
  obtain ⟨h1, h2, h3, h4, h5, h6, h7, h8⟩ := hM
  obtain ⟨mk', methM, hnamed, hmethM, hstM, habM⟩ := Cond.instanceMethod_spec hin
  cases h1.symm.trans hnamed
  cases h2.symm.trans hmethM
  obtain ⟨c2, r2, m2, q1, q2, q3, q4, kP, hkP, hkPi⟩ := Cond.selects_spec hsel
  cases hcls.symm.trans q1
  cases (State.methodFound?_of_named h1 hn).symm.trans q2
  cases h1.symm.trans q3
  have hselP : selectMethod e.platform s.vm cellB.cls mk = .method mk := by rw [Launch.admits_selectMethod X.admits]; exact q4
  rcases hL with hl | ⟨host, hl⟩
  · obtain ⟨vm', X1, st⟩ := X.invokevirtual hx hown hl h1 h2 hstM hkP hkPi hn (a := b) (cell := cellB) (by rw [hT]; exact hcell) (VmData.ne_statics_of hobj) hselP h2 habM hkP hkPi (g := F0 m pc ls (argsL.reverse ++ .ref b :: rest)) rfl (argsL := argsL) (rest := rest) (hlen _ h8) rfl (by rw [hb]; exact hd)
    exact ⟨vm', X1, st⟩
  · obtain ⟨vm', X1, st⟩ := X.invokevirtualNest hx hown hl h1 h2 hstM hkP hkPi hn (a := b) (cell := cellB) (by rw [hT]; exact hcell) (VmData.ne_statics_of hobj) hselP h2 habM hkP hkPi (g := F0 m pc ls (argsL.reverse ++ .ref b :: rest)) rfl (argsL := argsL) (rest := rest) (hlen _ h8) rfl (by rw [hb]; exact hd)
    exact ⟨vm', X1, st⟩
/-- a method that the named class has from above, or that a subclass has anew -/
theorem am_i_up (hx : p.tables.exec = Jvm.exec) (hb : c.code = cc) (hown : s.vm.findClass own = some m.cls) (hM : am_MD s y mk methk ck bk maxL ret) {x : MethodName} {owner C : String} (hlink : (Jvm.Cond.methodLink own idx x).before args s = true) (hsame : (Jvm.Cond.sameMethod x.cls owner x.name x.desc).before args s = true) (hd0 : va_Decl s ⟨owner, x.name, x.desc⟩) (howner : owner ≠ "java/lang/invoke/MethodHandle" ∧ owner ≠ "java/lang/invoke/VarHandle")
    (hsel : (Jvm.Cond.selects C x y).before args s = true) (hinst : (Jvm.Cond.instanceMethod y).before args s = true)
    {b : Addr} {cellB : Cell} (hcell : H[b]? = some cellB) (hobj : cellB.vm.isStatics = false) (hcls : s.vm.findClass C = some cellB.cls)
    (hlen : ∀ sig, parseMethodDescriptor x.desc = some sig → argsL.length = sig.parameters.length) (hd : decode cc pc = .ok (.invokevirtual idx, 3)) : am_Inv p l e R s m args below meth c H (F0 m pc ls (argsL.reverse ++ .ref b :: rest)) pc ls rest mk (.ref b :: argsL).toArray := by
  intro locs cells slots T hT X
  obtain ⟨h1, h2, h3, h4, h5, h6, h7, h8⟩ := hM
  obtain ⟨r0, r, hn, hrm, hstR, hsigR⟩ := hd0
  obtain ⟨cn, ck', r1, hcn, hck, hni, hf, hn1⟩ := Cond.sameMethod_found hsame
  cases hn.symm.trans hn1
  obtain ⟨mk', methM, hnamed, hmethM, -, habM⟩ := Cond.instanceMethod_spec hinst
  cases h1.symm.trans hnamed
  cases h2.symm.trans hmethM
  obtain ⟨c2, r2, m2, q1, q2, q3, q4, kP, hkP, hkPi⟩ := Cond.selects_spec hsel
  cases hcls.symm.trans q1
  cases hf.symm.trans q2
  cases h1.symm.trans q3
  have hselP : selectMethod e.platform s.vm cellB.cls r0 = .method mk := by rw [Launch.admits_selectMethod X.admits]; exact q4
  obtain ⟨vm', X1, st⟩ := X.invokevirtualUp hx hown hlink hsame howner hn hrm hstR (a := b) (cell := cellB) (by rw [hT]; exact hcell) (VmData.ne_statics_of hobj) hselP h2 habM hkP hkPi (g := F0 m pc ls (argsL.reverse ++ .ref b :: rest)) rfl (argsL := argsL) (rest := rest) (hlen _ hsigR) rfl (by rw [hb]; exact hd)
  exact ⟨vm', X1, st⟩
theorem am_i_special (hx : p.tables.exec = Jvm.exec) (hb : c.code = cc) (hown : s.vm.findClass own = some m.cls) (hM : am_MD s y mk methk ck bk maxL none) (hL : am_ML s args own idx y) (hy : y.name = "<init>") (hin : (Jvm.Cond.instanceMethod y).before args s = true) (hcode : (Jvm.Cond.code y bk maxL none).before args s = true) (hn : am_nMH y)
    {b : Addr} (hlen : ∀ sig, parseMethodDescriptor y.desc = some sig → argsL.length = sig.parameters.length) (hd : decode cc pc = .ok (.invokespecial idx, 3)) : am_Inv p l e R s m args below meth c H (F0 m pc ls (argsL.reverse ++ .ref b :: rest)) pc ls rest mk (.ref b :: argsL).toArray := by
  intro locs cells slots T hT X
  have hpl : e.platform.magicAccessors = ({} : Platform).magicAccessors := by rw [X.admits.platform]
  rcases hL with hl | ⟨host, hl⟩
  · obtain ⟨mk', methM, cM, kP, vm₁, hnamed, hmethM, hcodeM, -, hlocalsM, -, hkP, -, hW₁, st⟩ := Steps.initColdArgs (e := e) X.here hx X.warmed hpl hown hy hn hl hin hcode (f := F0 m pc ls (argsL.reverse ++ .ref b :: rest)) rfl hlen rfl (by rw [hb]; exact hd)
    cases hM.1.symm.trans hnamed
    exact ⟨vm₁, X.noted hW₁, st⟩
  · obtain ⟨mk', methM, cM, kP, vm₁, hnamed, hmethM, hcodeM, -, hlocalsM, -, hkP, -, hW₁, st⟩ := Steps.initColdArgsNest (e := e) X.here hx X.warmed hpl hown hy hn hl hin hcode (f := F0 m pc ls (argsL.reverse ++ .ref b :: rest)) rfl hlen rfl (by rw [hb]; exact hd)
    cases hM.1.symm.trans hnamed
    exact ⟨vm₁, X.noted hW₁, st⟩
theorem am_i_face (hx : p.tables.exec = Jvm.exec) (hb : c.code = cc) (hown : s.vm.findClass own = some m.cls) (hM : am_MD s y mk methk ck bk maxL ret) {x : MethodName} {C : String} {count : Nat} (hlink : (Jvm.Cond.methodLink own idx x).before args s = true) (hF : va_Fw C x y s) (hsel : (Jvm.Cond.selects C x y).before args s = true) (hinst : (Jvm.Cond.instanceMethod y).before args s = true) (hnx : am_nMH x)
    {b : Addr} {cellB : Cell} {kB : Class} (hcell : H[b]? = some cellB) (hobj : cellB.vm.isStatics = false) (hcls : s.vm.findClass C = some cellB.cls) (hkB : s.vm.classes[cellB.cls]? = some kB)
    (hlen : ∀ sig, parseMethodDescriptor x.desc = some sig → argsL.length = sig.parameters.length) (hd : decode cc pc = .ok (.invokeinterface idx count, 5)) : am_Inv p l e R s m args below meth c H (F0 m pc ls (argsL.reverse ++ .ref b :: rest)) pc ls rest mk (.ref b :: argsL).toArray := by
  intro locs cells slots T hT X
  obtain ⟨h1, h2, h3, h4, h5, h6, h7, h8⟩ := hM
  obtain ⟨hdecl, hface, hpub, hunh, hcast⟩ := hF
  obtain ⟨r0, r, hn, hrm, hstR, hsigR⟩ := Cond.declares_spec hdecl
  obtain ⟨cL, kL, r1, hcL, hkL, hiL, hfoundL, hn1⟩ := Cond.interfaceMethod_spec hface
  cases hn.symm.trans hn1
  have hr0cls : r0.cls = cL := Option.some.inj ((findClass_of_methodNamed hn).symm.trans hcL)
  obtain ⟨hnameR, hdescR⟩ := name_of_methodNamed hn hrm
  obtain ⟨mk', methM, hnamed, hmethM, -, habM⟩ := Cond.instanceMethod_spec hinst
  cases h1.symm.trans hnamed
  cases h2.symm.trans hmethM
  obtain ⟨c2, r2, m2, q1, q2, q3, q4, -⟩ := Cond.selects_spec hsel
  cases hcls.symm.trans q1
  cases hfoundL.symm.trans q2
  cases h1.symm.trans q3
  have hselP : selectMethod e.platform s.vm cellB.cls r0 = .method mk := by rw [Launch.admits_selectMethod X.admits]; exact q4
  have hpubM : hasFlag methk.accessFlags Acc.public_ = true := Cond.publicMethod_spec h1 h2 hpub
  have hway : ((cellB.cls :: s.vm.superclasses cellB.cls).any fun k => (declaredIn s.vm r.name r.desc k).any fun (_, z) => z.isPrivate || z.isStatic) = false := by
    rw [hnameR, hdescR]; exact Cond.unhidden_spec hcls hunh
  obtain ⟨c3, t3, w1, w2, w3⟩ := Cond.castable_spec hcast
  cases hcls.symm.trans w1
  cases hcL.symm.trans w2
  obtain ⟨vm', X1, st⟩ := X.invokeinterface hx hown hlink hn hrm hstR (by rw [hr0cls]; exact hkL) hiL hnx (a := b) (cell := cellB) (kcell := kB) (by rw [hT]; exact hcell) (VmData.ne_statics_of hobj) hkB (by rw [hr0cls]; exact w3) hselP h2 hway hpubM habM (g := F0 m pc ls (argsL.reverse ++ .ref b :: rest)) rfl (argsL := argsL) (rest := rest) (hlen _ hsigR) rfl (by rw [hb]; exact hd)
  exact ⟨vm', X1, st⟩
end Inv
