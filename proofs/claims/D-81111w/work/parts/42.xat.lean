/-! WHAT THE MACHINE's OWN EXCEPTIONS ASK OF THE WORLD -/
theorem am_static_at {args : Array Value} {s0 s : State} {C n d : String} (h1 : (Jvm.Cond.laysStatic C n d).before #[] (s0.setVm s.vm) = true) (h2 : (Jvm.Cond.isRef (.static C n d)).before #[] (s0.setVm s.vm) = true) (hold : ∀ a, a < s0.heap.size → s.heap[a]? = s0.heap[a]?) :
    (Jvm.Cond.laysStatic C n d).before args s = true ∧ (Jvm.Cond.isRef (.static C n d)).before args s = true ∧ ∀ cf k i f a, s.fieldFound? C n d = some (cf, k, i, f) → k.statics = some a → a < s0.heap.size := by
  obtain ⟨c, k, i, f, a, cell, hc, hi, hst, ha, hcell, hs, hcls, hlt, hty⟩ := Cond.laysStatic_spec h1
  have hc' : s.vm.findClass C = some c := hc
  have hi' : s.fieldFound? C n d = some (c, k, i, f) := hi
  have hcell' : s0.heap[a]? = some cell := hcell
  have hal := (Array.getElem?_eq_some_iff.mp hcell').1
  have hH : s.heap[a]? = some cell := by rw [hold a hal]; exact hcell'
  refine ⟨?_, ?_, fun cf k2 i2 f2 a2 q1 q2 => ?_⟩
  · simp only [Cond.before, Cond.holds, Cond.value, hc', hi', ha, Option.bind_some, hH, Option.map_some, hst, hs, hcls, hlt, hty, beq_self_eq_true, Bool.and_self, decide_true]
  · obtain ⟨u, hu⟩ := Cond.staticRefV (args := #[]) hi hst ha hcell hs h2
    have he : (Term.static C n d).eval args s none [] s = some u.v := by
      simp [Term.eval, State.fieldNamed?, hi', hst, ha, hH, hs, hu]
    simp only [Cond.before, Cond.holds, Cond.value, he]
    obtain ⟨v, hv⟩ := u
    cases v <;> simp [Value.isRef] at hv <;> rfl
  · cases hi'.symm.trans q1
    cases ha.symm.trans q2
    exact hal
theorem am_fc_spec {vm : Vm} {n : String} {c : ClassId} (h : vm.findClass n = some c) : ∃ k, vm.classes[c]? = some k ∧ k.name = n ∧ k.hidden = none ∧ k.loader = none := by
  obtain ⟨hlt, hp, -⟩ := Array.findIdx?_eq_some_iff_getElem.mp h
  simp only [Bool.and_eq_true, beq_iff_eq, Option.isNone_iff_eq_none] at hp
  exact ⟨_, Array.getElem?_eq_getElem hlt, hp.1.1.1, hp.1.1.2, hp.2⟩
/-- where a class of the bootstrap loader lives -/
theorem am_home {vm : Vm} {k : Class} (hl : k.loader = none) (hpk : packageOf k.name = "") (hm : (vm.modules.all fun m => m.loader.isSome || m.name == "java.base" || !((["", "java/lang"] : List String).any fun p => m.packages.contains p)) = true) : (vm.home k).toList.length ≤ 38 := by
  have hn : ∀ m, vm.moduleOf k = some m → m.name = "java.base" := by
    intro m h
    unfold Vm.moduleOf at h
    split at h
    · have := List.find?_some h
      simpa using this
    · have h1 := List.find?_some h
      have h2 := List.mem_of_find?_eq_some h
      have h3 := List.all_eq_true.mp hm m h2
      rw [hl, hpk] at h1
      simp only [Bool.and_eq_true, beq_iff_eq] at h1
      simp only [h1.1, Option.isSome_none, Bool.false_or, List.any_cons, h1.2, Bool.true_or, Bool.not_true, Bool.or_false, beq_iff_eq] at h3
      exact h3
  unfold Vm.home
  rw [hl]
  cases h : vm.moduleOf k with
  | none =>
    simp only [Vm.loaderName, String.toList_append, List.length_append]
    decide
  | some m =>
    simp only [hn m h, Vm.loaderName, String.toList_append, List.length_append]
    decide
theorem am_cce {vm : Vm} {ks kt : Class} (hs : ks.loader = none) (ht : kt.loader = none) (ps : packageOf ks.name = "") (pt : packageOf kt.name = "") (ls : ks.shown.toList.length ≤ 20) (lt : kt.shown.toList.length ≤ 20) (hm : (vm.modules.all fun m => m.loader.isSome || m.name == "java.base" || !((["", "java/lang"] : List String).any fun p => m.packages.contains p)) = true) :
    (checkcast.message vm ks kt == notModelled) = false ∧ (stringBytes (stringToUtf16 (checkcast.message vm ks kt))).size ≤ 990 := by
  have a1 := am_home hs ps hm
  have a2 := am_home ht pt hm
  have hh : (vm.homes ks kt).toList.length ≤ 140 := by
    unfold Vm.homes
    split
    · show (toString ks.shown ++ toString " and " ++ toString kt.shown ++ toString " are in " ++ toString (vm.home ks)).toList.length ≤ 140
      simp only [String.toList_append, List.length_append]
      have e1 : (toString " and ").toList.length = 5 := by decide
      have e2 : (toString " are in ").toList.length = 8 := by decide
      have e3 : (toString ks.shown) = ks.shown := rfl
      have e4 : (toString kt.shown) = kt.shown := rfl
      have e5 : (toString (vm.home ks)) = vm.home ks := rfl
      rw [e1, e2, e3, e4, e5]
      omega
    · show (toString ks.shown ++ toString " is in " ++ toString (vm.home ks) ++ toString "; " ++ toString kt.shown ++ toString " is in " ++ toString (vm.home kt)).toList.length ≤ 140
      simp only [String.toList_append, List.length_append]
      have e1 : (toString " is in ").toList.length = 7 := by decide
      have e2 : (toString "; ").toList.length = 2 := by decide
      have e3 : (toString ks.shown) = ks.shown := rfl
      have e4 : (toString kt.shown) = kt.shown := rfl
      have e5 : (toString (vm.home ks)) = vm.home ks := rfl
      have e6 : (toString (vm.home kt)) = vm.home kt := rfl
      rw [e1, e2, e3, e4, e5, e6]
      omega
  have hx : checkcast.message vm ks kt = toString "class " ++ toString ks.shown ++ toString " cannot be cast to class " ++ toString kt.shown ++ toString " (" ++ toString (vm.homes ks kt) ++ toString ")" := rfl
  refine ⟨?_, ?_⟩
  · rw [beq_eq_false_iff_ne]
    intro h
    have h2 := congrArg String.toList h
    have h3 : (checkcast.message vm ks kt).toList = 'c' :: ("lass ".toList ++ ks.shown.toList ++ " cannot be cast to class ".toList ++ kt.shown.toList ++ " (".toList ++ (vm.homes ks kt).toList ++ ")".toList) := by
      rw [hx]
      simp only [String.toList_append]
      rfl
    rw [h3] at h2
    have h4 : notModelled.toList = '\u0000' :: " a message that is not modelled".toList := by decide
    rw [h4] at h2
    simp at h2
  · have b1 := stringBytes_size_le (stringToUtf16 (checkcast.message vm ks kt))
    have b2 := utf16_size_le (checkcast.message vm ks kt)
    have b3 : (checkcast.message vm ks kt).toList.length ≤ 220 := by
      rw [hx]
      simp only [String.toList_append, List.length_append]
      have e1 : (toString "class ").toList.length = 6 := by decide
      have e2 : (toString " cannot be cast to class ").toList.length = 25 := by decide
      have e3 : (toString ks.shown) = ks.shown := rfl
      have e4 : (toString kt.shown) = kt.shown := rfl
      have e5 : (toString (vm.homes ks kt)) = vm.homes ks kt := rfl
      have e6 : (toString " (").toList.length = 2 := by decide
      have e7 : (toString ")").toList.length = 1 := by decide
      rw [e1, e2, e3, e4, e5, e6, e7]
      omega
    omega
section CastNo
variable {p : Program} {l : Launch} {e : Env} {R : Room} {s : State} {m : MethodId} {args : Array Value} {below : List Frame} {meth : Method} {c : Code} {T : State} {locs : List Loc} {cells slots : Nat}
/-- a cast that fails: the class is resolved, then the machine throws -/
theorem am_castNo (X : Stand p l e R s m args below meth c T locs cells slots) (hexec : p.tables.exec = Jvm.exec)
    {own name : String} {index : Nat} (hown : s.vm.findClass own = some m.cls) (hlink : (Jvm.Cond.classLink own index name).before args s = true)
    {a : Addr} {cell : Cell} {cT : ClassId} {ks : Class} (h1 : T.heap[a]? = some cell) (hobj : cell.vm.isStatics = false) (hks : s.vm.classes[cell.cls]? = some ks)
    (hcT : s.vm.findClass name = some cT) (hasg : s.vm.assignable cell.cls cT = false)
    {g : JFrame} (hg : g.method = m) {rest : List Value} (hstack : g.stack = .ref a :: rest) (hdg : decode c.code g.pc = .ok (.checkcast index, 3)) :
    ∃ vm' ks' kt', Stand p l e R s m args below meth c (T.setVm vm') locs cells slots ∧ ks'.name = ks.name ∧ ks'.hidden = ks.hidden ∧ ks'.loader = ks.loader ∧ kt'.name = name ∧ kt'.hidden = none ∧ kt'.loader = none ∧
      ∀ target, Steps p.tables e below (((T.setVm vm').setTop g).pushFrame (.throwNew "java/lang/ClassCastException" (some (checkcast.message vm' ks' kt')) none)) target → Steps p.tables e below (T.setTop g) target := by
  have hpl : e.platform.magicAccessors = ({} : Platform).magicAccessors := by rw [X.admits.platform]
  obtain ⟨cc, hcc, hcl⟩ := Cond.classLink_spec hown hlink e.platform hpl
  cases hcT.symm.trans hcc
  obtain ⟨dk, _, _, kt, hd, _, _, _, _, hkt, _, hopen⟩ := hcl.here
  obtain ⟨kt0, hk0, n1, n2, n3⟩ := am_fc_spec hcT
  cases hkt.symm.trans hk0
  have hcl₀ := X.warmed.classLinks hcl
  have hW' : s.WarmedH (T.vm.noted m.cls index (.cls cT)) := X.warmed.noted hd hopen (State.rightAt_cls hcl)
  obtain ⟨ks', hks', es⟩ := hW'.alike.2.2 _ _ hks
  obtain ⟨kt', hkt', et⟩ := hW'.alike.2.2 _ _ hkt
  refine ⟨_, ks', kt', X.noted hW', by rw [es], by rw [es], by rw [es], by rw [et]; exact n1, by rw [et]; exact n2, by rw [et]; exact n3, fun target hrest => ?_⟩
  subst hg
  have h4 : (T.vm.noted g.method.cls index (Resolved.cls cT)).assignable cell.cls cT = false := by rw [hW'.alike.assignable]; exact hasg
  jvm_step X.here [hexec, hdg, checkcast.wp_cold (e := e) (s := T) (f := g) X.here.top hstack (resolveClass_links e.toSetting hcl₀) hcl₀.ready,
    checkcast.wp_ready (e := e) (s := T.setVm (T.vm.noted g.method.cls index (.cls cT))) (f := g) X.here.top hcl₀.ready hstack]
  refine ⟨cell, h1, VmData.noStatics_of hobj, ks', hks', kt', hkt', ?_⟩
  rw [if_neg (by rw [h4]; decide)]
  exact hrest
end CastNo
