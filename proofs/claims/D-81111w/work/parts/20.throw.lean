/-! A THROWN OBJECT COMES TO A FRAME: its handlers are asked one by one, their classes resolved on the way -/
/-- one entry that covers the pc and names a class -/
theorem am_go1 {Q : Handler → Pre} {E : CtlPost} {e : Env} {d : Bool} {acts : List Action} {S : State} {f : JFrame} {a : Addr} {x : ExceptionTableEntry} {t : List ExceptionTableEntry} {ct : ClassId} {cell : Cell} (hx : covers x f.pc = true) (h0 : x.catchType ≠ 0)
    (hl : S.vm.ClassLinks e.platform f.method.cls x.catchType ct) (hcell : S.heap[a]? = some cell) (hobj : ∀ k, cell.vm ≠ .statics k) (hk : ∃ k, S.vm.classes[cell.cls]? = some k) (hc : ∃ k, S.vm.classes[ct]? = some k) :
    wp (findHandler.go f a (x :: t)) Q E e d acts S ↔ if S.vm.assignable cell.cls ct = true then Q (.found x.handlerPc) d acts (S.setVm (S.vm.noted f.method.cls x.catchType (.cls ct))) else wp (findHandler.go f a t) Q E e d acts (S.setVm (S.vm.noted f.method.cls x.catchType (.cls ct))) := by
  simp only [covers] at hx
  have hal : S.vm.Alike (S.vm.noted f.method.cls x.catchType (.cls ct)) := (Vm.Alike.refl S.vm).noted _ _ _
  obtain ⟨g1, g2⟩ := (resolveClass_links e.toSetting hl).op (op := VmOp.resolveClass f.method.cls x.catchType) rfl
  obtain ⟨k1, hk⟩ := hk
  obtain ⟨k2, hc⟩ := hc
  obtain ⟨k1', hk', -⟩ := hal.2.2 _ _ hk
  obtain ⟨k2', hc', -⟩ := hal.2.2 _ _ hc
  have has : (S.vm.noted f.method.cls x.catchType (.cls ct)).assignable cell.cls ct = S.vm.assignable cell.cls ct := hal.assignable _ _
  cases hfit : S.vm.assignable cell.cls ct with
  | true =>
    rw [hfit] at has
    simp [findHandler.go, hx, h0, g1, g2, hcell, hobj, hk', hc', has, VmOp.dirties, VmOp.acts]
  | false =>
    rw [hfit] at has
    simp [findHandler.go, hx, h0, g1, g2, hcell, hobj, hk', hc', has, VmOp.dirties, VmOp.acts]
/-- the abstract handlers are the table's -/
def am_HR (s : State) (args : Array Value) (own : String) (xn : Int → String) (cid : Int → ClassId) : aH → List ExceptionTableEntry → Prop
  | [], [] => True
  | (a, b, h, k) :: hs, x :: es => x.startPc = a ∧ x.endPc = b ∧ x.handlerPc = h ∧ ((k = 0 ∧ x.catchType = 0) ∨ (k ≠ 0 ∧ am_isX k = true ∧ x.catchType ≠ 0 ∧ (Jvm.Cond.classLink own x.catchType (xn k)).before args s = true ∧ s.vm.findClass (xn k) = some (cid k))) ∧ am_HR s args own xn cid hs es
  | _, _ => False
def am_hdl (o : Option Nat) : Handler := match o with
  | some h => .found h
  | none => .none
theorem am_search {e : Env} {s : State} {args : Array Value} {own : String} {xn : Int → String} {cid : Int → ClassId} {f : JFrame} {a : Addr} {cell : Cell} {ci : Int} (hpl : e.platform.magicAccessors = ({} : Platform).magicAccessors) (hown : s.vm.findClass own = some f.method.cls)
    (hasg : ∀ k, am_isX k = true → s.vm.assignable (cid ci) (cid k) = decide (ci = k)) (hcl : cell.cls = cid ci) (hkc : ∃ k, s.vm.classes[cid ci]? = some k) (hobj : ∀ k, cell.vm ≠ .statics k) :
    ∀ (hs : aH) (es : List ExceptionTableEntry), am_HR s args own xn cid hs es → ∀ S : State, s.WarmedH S.vm → S.heap[a]? = some cell →
      ∃ vm', s.WarmedH vm' ∧ ∀ (Q : Handler → Pre) (E : CtlPost) (d : Bool) (acts : List Action), wp (findHandler.go f a es) Q E e d acts S ↔ Q (am_hdl (am_hnd hs f.pc ci)) d acts (S.setVm vm') := by
  intro hs
  induction hs with
  | nil =>
    intro es hr S hW hc
    match es, hr with
    | [], _ => exact ⟨S.vm, hW, fun Q E d acts => by rw [W.findHandler_go_nil]; rfl⟩
  | cons q hs ih =>
    intro es hr S hW hc
    match q, es, hr with
    | (a1, b1, h1, k), x :: es, hr =>
      obtain ⟨e1, e2, e3, e4, hr⟩ := hr
      have hcov : covers x f.pc = (Nat.ble a1 f.pc && Nat.ble (f.pc + 1) b1) := by
        simp only [covers]
        rw [e1, e2]
        congr 1
        · cases hb : Nat.ble a1 f.pc with
          | true => exact decide_eq_true (Nat.le_of_ble_eq_true hb)
          | false => exact decide_eq_false (fun z => by rw [Nat.ble_eq_true_of_le z] at hb; cases hb)
        · cases hb : Nat.ble (f.pc + 1) b1 with
          | true => exact decide_eq_true (Nat.le_of_ble_eq_true hb)
          | false => exact decide_eq_false (fun z => by rw [Nat.ble_eq_true_of_le z] at hb; cases hb)
      cases hb : (Nat.ble a1 f.pc && Nat.ble (f.pc + 1) b1) with
      | false =>
        rw [hb] at hcov
        obtain ⟨vm', hW', h⟩ := ih es hr S hW hc
        refine ⟨vm', hW', fun Q E d acts => ?_⟩
        rw [W.findHandler_go_skip hcov, h]
        simp only [am_hnd, hb, cond_false]
      | true =>
        rw [hb] at hcov
        rcases e4 with ⟨k0, c0⟩ | ⟨k0, kx, c0, hlink, hfc⟩
        · refine ⟨S.vm, hW, fun Q E d acts => ?_⟩
          rw [W.findHandler_go_any hcov c0]
          simp only [am_hnd, hb, cond_true, k0, true_or, if_true, am_hdl, e3]
          rfl
        · obtain ⟨c', hc', hcls⟩ := Cond.classLink_spec hown hlink e.platform hpl
          cases hfc.symm.trans hc'
          obtain ⟨dk, _, _, kt, hd, _, _, _, _, hkt, _, hopen⟩ := hcls.here
          obtain ⟨kt', hkt', -⟩ := hW.alike.2.2 _ _ hkt
          obtain ⟨kc, hkc'⟩ := hkc
          obtain ⟨kc', hkc'', -⟩ := hW.alike.2.2 _ _ hkc'
          have hW2 : s.WarmedH (S.vm.noted f.method.cls x.catchType (.cls (cid k))) := hW.noted hd hopen (State.rightAt_cls hcls)
          have key : ∀ (Q : Handler → Pre) (E : CtlPost) (d : Bool) (acts : List Action), wp (findHandler.go f a (x :: es)) Q E e d acts S ↔ if ci = k then Q (.found x.handlerPc) d acts (S.setVm (S.vm.noted f.method.cls x.catchType (.cls (cid k)))) else wp (findHandler.go f a es) Q E e d acts (S.setVm (S.vm.noted f.method.cls x.catchType (.cls (cid k)))) := by
            intro Q E d acts
            rw [am_go1 hcov c0 (hW.classLinks hcls) hc hobj ⟨kc', by rw [hcl]; exact hkc''⟩ ⟨kt', hkt'⟩, hW.alike.assignable, hcl, hasg k kx]
            simp only [decide_eq_true_eq]
          by_cases hk : ci = k
          · refine ⟨_, hW2, fun Q E d acts => ?_⟩
            rw [key, if_pos hk]
            simp only [am_hnd, hb, cond_true, hk, or_true, if_true, am_hdl, e3]
          · obtain ⟨vm', hW', h⟩ := ih es hr (S.setVm (S.vm.noted f.method.cls x.catchType (.cls (cid k)))) hW2 hc
            refine ⟨vm', hW', fun Q E d acts => ?_⟩
            rw [key, if_neg hk, h]
            simp only [am_hnd, hb, cond_true, k0, Ne.symm hk, or_self, if_false]
            rfl
/-- what the search gives, and the tables that it leaves -/
def am_Find (e : Env) (S : State) (f : JFrame) (a : Addr) (h : Handler) (vm' : Vm) : Prop := ∀ (Q : Handler → Pre) (E : CtlPost) (d : Bool) (acts : List Action), wp (findHandler f a) Q E e d acts S ↔ Q h d acts (S.setVm vm')
theorem am_stepC {e : Env} {S : State} {a : Addr} {f : JFrame} {r : List Frame} {pc : Nat} {vm' : Vm} (h : am_Find e S f a (.found pc) vm') : (stepThrowing e S a (.java f :: r)).Is ((S.setVm vm').setFrames (.java { f with pc := pc, stack := [.ref a] } :: r)) [] := by
  simp only [stepThrowing, searchFrame, vmDo]
  generalize hr : Sem.go _ e false [] S = res
  obtain ⟨as, rfl, ha⟩ := Sem.eq_ok_of hr (a := Handler.found pc) (s' := S.setVm vm') (acts' := []) (by simp [h _ _ _ _])
  exact ⟨rfl, ha⟩
theorem am_stepL {e : Env} {S : State} {a : Addr} {f : JFrame} {r : List Frame} {meth : Method} {vm' : Vm} (hm : vm'.method? f.method = some meth) (hl : meth.locks = false) (h1 : f.locked = none) (h2 : f.entered = []) (h : am_Find e S f a .none vm') : (stepThrowing e S a (.java f :: r)).Is ((S.setVm vm').setFrames (.throwing a :: r)) [] := by
  simp only [stepThrowing, searchFrame, vmDo]
  generalize hr : Sem.go _ e false [] S = res
  have hm' : (S.setVm vm').vm.method? f.method = some meth := hm
  obtain ⟨as, rfl, ha⟩ := Sem.eq_ok_of hr (a := Handler.none) (s' := S.setVm vm') (acts' := [])
    (by cases hp : e.platform.frameOwnsMonitors <;> simp [h _ _ _ _, hm, hl, h1, h2, hp, leaveIfLocked])
  exact ⟨rfl, ha⟩
theorem am_sfv (u : State) (vm' : Vm) (F K : List Frame) : ((u.setFrames F).setVm vm').setFrames K = (u.setVm vm').setFrames K := by
  rw [show (u.setFrames F).setVm vm' = (u.setVm vm').setFrames F from rfl, State.setFrames_setFrames]
section Thrown
variable {p : Program} {l : Launch} {e : Env} {R : Room} {s : State} {m : MethodId} {args : Array Value} {below : List Frame} {meth : Method} {c : Code} {locs : List Loc} {cells slots : Nat} {T : State}
/-- the thrown object at a frame: into the handler, or out of the method -/
theorem am_thrown (X : Stand p l e R s m args below meth c T locs cells slots) (hlocks : meth.locks = false) {own : String} {xn : Int → String} {cid : Int → ClassId} {hs : aH} {ci : Int} {a : Addr} {cell : Cell} {g : JFrame} (hg : g.method = m) (hg1 : g.locked = none) (hg2 : g.entered = [])
    (hown : s.vm.findClass own = some m.cls) (hHR : am_HR s args own xn cid hs c.exceptionTable.toList) (hasg : ∀ k, am_isX k = true → s.vm.assignable (cid ci) (cid k) = decide (ci = k)) (hkc : ∃ k, s.vm.classes[cid ci]? = some k) (hcell : T.heap[a]? = some cell) (hcl : cell.cls = cid ci) (hobj : cell.vm.isStatics = false) :
    ∃ vm', Stand p l e R s m args below meth c (T.setVm vm') locs cells slots ∧ (match am_hnd hs g.pc ci with
      | some h => ∀ target, Steps p.tables e below ((T.setVm vm').setTop { g with pc := h, stack := [.ref a] }) target → Steps p.tables e below ((T.setTop g).pushFrame (.throwing a)) target
      | none => Steps p.tables e below ((T.setTop g).pushFrame (.throwing a)) ((T.setVm vm').setFrames (.throwing a :: below))) := by
  subst hg
  have hpl : e.platform.magicAccessors = ({} : Platform).magicAccessors := by rw [X.admits.platform]
  obtain ⟨vm', hW', hq⟩ := am_search (f := g) (a := a) (e := e) hpl hown hasg hcl hkc (VmData.ne_statics_of hobj) hs _ hHR ((T.setTop g).pushFrame (.throwing a)) X.warmed hcell
  have hF : am_Find e ((T.setTop g).pushFrame (.throwing a)) g a (am_hdl (am_hnd hs g.pc ci)) vm' := by
    intro Q E d acts
    rw [W.findHandler_eq (show ((T.setTop g).pushFrame (.throwing a)).vm.method? g.method = some meth from X.method') X.code]
    exact hq Q E d acts
  have X' := X.noted hW'
  refine ⟨vm', X', ?_⟩
  obtain ⟨hgo, hw⟩ := X.here.throwing (g := g) a
  obtain ⟨g₀, hg⟩ := Option.isSome_iff_exists.mp X.here.top
  obtain ⟨r, hr⟩ := State.topJava?_eq_some.mp hg
  have hr' : (T.setVm vm').frames = .java g₀ :: r := hr
  cases hh : am_hnd hs g.pc ci with
  | some h =>
    rw [hh] at hF
    intro target hrest
    refine Steps.head hgo hw ?_
    rw [stepThread_throwing (frames_entered X.here.top _), (am_stepC (S := (T.setTop g).pushFrame (.throwing a)) hF).1]
    rw [State.setTop_of_frames _ hr'] at hrest
    rw [hr, List.tail_cons, State.pushFrame, am_sfv, State.setTop_of_frames _ hr, am_sfv]
    exact hrest
  | none =>
    rw [hh] at hF
    refine Steps.head hgo hw ?_
    rw [stepThread_throwing (frames_entered X.here.top _), (am_stepL (S := (T.setTop g).pushFrame (.throwing a)) (meth := meth) X'.method' hlocks hg1 hg2 hF).1]
    rw [X.tail, State.pushFrame, am_sfv, State.setTop_of_frames _ hr, am_sfv]
    exact Steps.refl _
end Thrown
