/-! CALLS: into a method, back out of it -/
/-- how an outcome looks -/
def am_oc (ad : Int → Nat) (fm : Value) (o : aO) (m : aM) (oc : Outcome) : Prop := match o with
  | .inl v => oc = .returned (v.map (am_c ad fm)) ∧ ∀ w, v = some w → am_vok w
  | .inr (c, r) => oc = .threw (ad r) ∧ m r (-1) = c ∧ 0 < r ∧ am_isX c = true
/-- how a method ends -/
def am_Post (s0 : State) (ad : Int → Nat) (fm : Value) (cid : Int → ClassId) (slo : Int → Nat → Nat) (N : Int → Nat) (ft : Int → Nat → Nat) (s : State) (below : List Frame) (Q : aO → aM → Prop) (n0 s1 : Int) (b2 b3 : Prop) (t : State) : Prop :=
  ∃ (o : aO) (m' : aM) (oc : Outcome) (Lo : List Loc), Q o m' ∧ t.status = .running ∧ Ended t below oc ∧ am_oc ad fm o m' oc ∧ s.WarmedH t.vm ∧ am_Rep s0 ad fm cid slo N ft m' t.heap ∧ n0 ≤ m' 0 0 ∧ s1 ≤ m' 0 1 ∧
    s.sameButNew ({ t with vm := s.vm } : State) Lo (m' 0 0 - n0).toNat (m' 0 1 - s1).toNat ∧ (∀ q ∈ Lo, s0.heap.size ≤ q.base) ∧ (b2 → m' 0 2 = 1) ∧ (b3 → m' 0 3 = 1)
theorem W.monoQ {p : Program} {l : Launch} {e : Env} {R : Room} {s : State} {m : MethodId} {args : Array Value} {below : List Frame} {meth : Method} {c : Code} {H : Heap} {locs : List Loc} {cells slots : Nat} {Q Q' : State → Prop} {g : JFrame} (h : ∀ t, Q t → Q' t) (k : W p l e R s m args below meth c H locs cells slots Q g) : W p l e R s m args below meth c H locs cells slots Q' g := by
  intro T hT X
  obtain ⟨t, a, b⟩ := k T hT X
  exact ⟨t, a, h t b⟩
section Calls
variable {p : Program} {l : Launch} {e : Env} {R : Room} {s : State} {m : MethodId} {args : Array Value} {below : List Frame} {meth : Method} {c : Code} {cc : ByteArray} {s0 : State} {ad : Int → Nat} {fm : Value} {cid : Int → ClassId} {slo : Int → Nat → Nat} {N : Int → Nat} {ft : Int → Nat → Nat} {Q : aO → aM → Prop} {n0 s1 : Int} {pc : Nat} {L r : List aV} {mm : aM} {H : Heap} {b2 b3 : Prop}
/-- the end by a return, of any kind -/
theorem am_retQ {v : Option aV} {locs : List Loc} {oc : Outcome} (hR : am_Rep s0 ad fm cid slo N ft mm H) (hlo : ∀ q ∈ locs, s0.heap.size ≤ q.base) (h0 : n0 ≤ mm 0 0) (h1 : s1 ≤ mm 0 1) (hQ : Q (.inl v) mm) (hv : ∀ w, v = some w → am_vok w) (hoc : oc = .returned (v.map (am_c ad fm))) (hg2 : b2 → mm 0 2 = 1) (hg3 : b3 → mm 0 3 = 1) :
    ∀ t, MQ below (fun _ _ o t => o = oc ∧ t.heap = H) args s (mm 0 0 - n0).toNat (mm 0 1 - s1).toNat (fun a => s0.heap.size ≤ a) t → am_Post s0 ad fm cid slo N ft s below Q n0 s1 b2 b3 t := by
  intro t ht
  obtain ⟨o, h2, h3, ⟨h4, h5⟩, Lo, ⟨_, h7, h8⟩, h9⟩ := ht
  subst h4
  exact ⟨.inl v, mm, o, Lo, hQ, h2, h3, ⟨hoc, hv⟩, h7, by rw [h5]; exact hR, h0, h1, h8, h9, hg2, hg3⟩
theorem am_s_iret (hx : p.tables.exec = Jvm.exec) (hb : c.code = cc) (hlocks : meth.locks = false) {a : Int} {ty : FieldType} (hr : meth.sig.returnType = some ty) (hn : narrow ty (.int (Int32.ofInt a)) = .int (Int32.ofInt a)) (hQ : Q (.inl (some (.inl a))) mm) (hg2 : b2 → mm 0 2 = 1) (hg3 : b3 → mm 0 3 = 1) (hd : decode cc pc = .ok (.ireturn, 1)) :
    am_S p l e R s m args below meth c s0 ad fm cid slo N ft (am_Post s0 ad fm cid slo N ft s below Q n0 s1 b2 b3) n0 s1 pc L [.inl a] mm := by
  intro H locs ls hR hlo hL hS h0 h1
  refine W.monoQ (am_retQ (args := args) hR hlo h0 h1 hQ (fun w e => by cases e; exact am_vh hS) rfl hg2 hg3) ?_
  exact W.zret hx hb hr hn (fun t ht _ => ⟨rfl, ht⟩) hlo hd hlocks
theorem am_s_lret (hx : p.tables.exec = Jvm.exec) (hb : c.code = cc) (hlocks : meth.locks = false) {a : Int} (hr : meth.sig.returnType = some .long) (hQ : Q (.inl (some (.inr (.inl a)))) mm) (hg2 : b2 → mm 0 2 = 1) (hg3 : b3 → mm 0 3 = 1) (hd : decode cc pc = .ok (.lreturn, 1)) :
    am_S p l e R s m args below meth c s0 ad fm cid slo N ft (am_Post s0 ad fm cid slo N ft s below Q n0 s1 b2 b3) n0 s1 pc L [.inr (.inl a)] mm := by
  intro H locs ls hR hlo hL hS h0 h1
  refine W.monoQ (am_retQ (args := args) hR hlo h0 h1 hQ (fun w e => by cases e; exact am_vh hS) rfl hg2 hg3) ?_
  exact W.lret hx hb hr (fun t ht _ => ⟨rfl, ht⟩) hlo hd hlocks
theorem am_s_aret (hx : p.tables.exec = Jvm.exec) (hb : c.code = cc) (hlocks : meth.locks = false) (hf : am_fmok fm) {a : Int} {rt : FieldType} (hr : meth.sig.returnType = some rt) (hrt : (∃ n, rt = .object n) ∨ ∃ t, rt = .array t) (hQ : Q (.inl (some (.inr (.inr (.inl a))))) mm) (hg2 : b2 → mm 0 2 = 1) (hg3 : b3 → mm 0 3 = 1) (hd : decode cc pc = .ok (.areturn, 1)) :
    am_S p l e R s m args below meth c s0 ad fm cid slo N ft (am_Post s0 ad fm cid slo N ft s below Q n0 s1 b2 b3) n0 s1 pc L [.inr (.inr (.inl a))] mm := by
  intro H locs ls hR hlo hL hS h0 h1
  refine W.monoQ (am_retQ (args := args) hR hlo h0 h1 hQ (fun w e => by cases e; exact am_vh hS) rfl hg2 hg3) ?_
  exact W.aret hx hb hr hrt (am_refv hf a) (fun t ht _ => ⟨rfl, ht⟩) hlo hd hlocks
theorem am_s_vret (hx : p.tables.exec = Jvm.exec) (hb : c.code = cc) (hlocks : meth.locks = false) (hr : meth.sig.returnType = none) (hQ : Q (.inl none) mm) (hg2 : b2 → mm 0 2 = 1) (hg3 : b3 → mm 0 3 = 1) (hd : decode cc pc = .ok (.return_, 1)) :
    am_S p l e R s m args below meth c s0 ad fm cid slo N ft (am_Post s0 ad fm cid slo N ft s below Q n0 s1 b2 b3) n0 s1 pc L [] mm := by
  intro H locs ls hR hlo hL hS h0 h1
  refine W.monoQ (am_retQ (args := args) hR hlo h0 h1 hQ (fun w e => by cases e) rfl hg2 hg3) ?_
  exact W.vret hx hb hr (fun t ht _ => ⟨rfl, ht⟩) hlo hd hlocks
/-- the method leaves by an exception: the state behind it -/
theorem am_leave {locs : List Loc} {T : State} {ci q : Int} (hR : am_Rep s0 ad fm cid slo N ft mm T.heap) (hlo : ∀ q ∈ locs, s0.heap.size ≤ q.base) (h0 : n0 ≤ mm 0 0) (h1 : s1 ≤ mm 0 1) (hQ : Q (.inr (ci, q)) mm) (hc : mm q (-1) = ci ∧ 0 < q ∧ am_isX ci = true) (hg2 : b2 → mm 0 2 = 1) (hg3 : b3 → mm 0 3 = 1)
    (X : Stand p l e R s m args below meth c T locs (mm 0 0 - n0).toNat (mm 0 1 - s1).toNat) : am_Post s0 ad fm cid slo N ft s below Q n0 s1 b2 b3 (T.setFrames (.throwing (ad q) :: below)) := by
  obtain ⟨g₀, hfr⟩ := X.frames_eq
  exact ⟨.inr (ci, q), mm, .threw (ad q), locs, hQ, X.here.running, State.frames_setFrames _ (State.cur_lt_of_frames hfr), ⟨rfl, hc⟩, (X.ends _).1, hR, h0, h1, (X.ends _).2, hlo, hg2, hg3⟩
/-- THE CALL -/
theorem am_call {Qf : State → Prop} {locs : List Loc} {cells slots : Nat} {ls : Array Slot} {rest : List Value} {g : JFrame} {mk : MethodId} {av : Array Value} {methk : Method} {ck : Code} {R' : Room} {ig : Instr} {len : Nat} {Qc : aO → aM → Prop}
    (hinv : ∀ T : State, T.heap = H → Stand p l e R s m args below meth c T locs cells slots → ∃ vm', Stand p l e R s m args below meth c (T.setVm vm') locs cells slots ∧ ∀ target, (∀ acts, Steps p.tables e below (doInvoke e ((T.setVm vm').setTop (F0 m pc ls rest)) acts mk av).1 target) → Steps p.tables e below (T.setTop g) target)
    (hdg : decode c.code pc = .ok (ig, len)) (hsz : ls.size = c.maxLocals) (hmk : s.vm.method? mk = some methk) (hck : methk.code = some ck) (hlk : methk.locks = false) (hpl : ∀ U : State, s.WarmedH U.vm → U.plainMethod mk)
    (hfr : R'.frames + 1 ≤ R.frames) (hlc : (rest.map fun v => v.category).sum + (ck.maxLocals + 11) + R'.locals ≤ R.locals) (hce : cells + R'.cells ≤ R.cells) (hsl : slots + R'.slots ≤ R.slots)
    (body : ∀ s' : State, s'.heap = H → s.WarmedH s'.vm → W p l e R' s' mk av (.java (F0 m pc ls rest) :: below) methk ck H [] 0 0 (am_Post s0 ad fm cid slo N ft s' (.java (F0 m pc ls rest) :: below) Qc (mm 0 0) (mm 0 1) (mm 0 2 = 1) (mm 0 3 = 1)) (entryFrame mk av ck.maxLocals))
    (hret : ∀ (v : Option aV) (m' : aM), Qc (.inl v) m' → (∀ w, v = some w → am_vok w) → mm 0 0 ≤ m' 0 0 → mm 0 1 ≤ m' 0 1 → (mm 0 2 = 1 → m' 0 2 = 1) → (mm 0 3 = 1 → m' 0 3 = 1) → ∀ (H' : Heap) (Lo : List Loc), am_Rep s0 ad fm cid slo N ft m' H' → (∀ q ∈ Lo, s0.heap.size ≤ q.base) → W p l e R s m args below meth c H' (locs ++ Lo) (cells + (m' 0 0 - mm 0 0).toNat) (slots + (m' 0 1 - mm 0 1).toNat) Qf (F0 m (pc + len) ls ((v.map (am_c ad fm)).toList ++ rest)))
    (hthr : ∀ (ci q : Int) (m' : aM), Qc (.inr (ci, q)) m' → m' q (-1) = ci ∧ 0 < q ∧ am_isX ci = true → mm 0 0 ≤ m' 0 0 → mm 0 1 ≤ m' 0 1 → (mm 0 2 = 1 → m' 0 2 = 1) → (mm 0 3 = 1 → m' 0 3 = 1) → ∀ (T' : State) (Lo : List Loc), am_Rep s0 ad fm cid slo N ft m' T'.heap → (∀ q ∈ Lo, s0.heap.size ≤ q.base) → Stand p l e R s m args below meth c T' (locs ++ Lo) (cells + (m' 0 0 - mm 0 0).toNat) (slots + (m' 0 1 - mm 0 1).toNat) → ∃ t, Steps p.tables e below ((T'.setTop (F0 m pc ls rest)).pushFrame (.throwing (ad q))) t ∧ Qf t) :
    W p l e R s m args below meth c H locs cells slots Qf g := by
  intro T hT X
  obtain ⟨vm', X1, st⟩ := hinv T hT X
  have hmk1 : (T.setVm vm').vm.method? mk = some methk := by rw [X1.warmed.alike.method?]; exact hmk
  have hpk : (T.setVm vm').plainMethod mk := hpl _ X1.warmed
  obtain ⟨Y, hin⟩ := X1.into (g := F0 m pc ls rest) rfl hsz hdg av (R' := R') hmk1 hck hlk hpk hfr (by simpa using hlc) hce hsl
  have hW1 : s.WarmedH ((T.setVm vm').calling (F0 m pc ls rest) mk av).vm := X1.warmed
  obtain ⟨t, hst, o, m', oc, Lo, hQ, h2, h3, h4, h5, h6, h7, h8, h9, h10, h11, h12⟩ := body ((T.setVm vm').calling (F0 m pc ls rest) mk av) hT hW1 (((T.setVm vm').setTop (F0 m pc ls rest)).pushFrame (.java (entryFrame mk av ck.maxLocals))) hT Y
  match o, h4 with
  | .inl v, h4 =>
    obtain ⟨rfl, hv⟩ := h4
    obtain ⟨T', X', hW', hB', ht⟩ := X1.outOf (g := F0 m pc ls rest) rfl hdg h3 h5 h9
    have hheap : T'.heap = t.heap := by rw [ht]; rfl
    obtain ⟨t2, a1, b1⟩ := hret v m' hQ hv h7 h8 h11 h12 T'.heap Lo (by rw [hheap]; exact h6) h10 T' rfl X'
    refine ⟨t2, st t2 (fun acts => ?_), b1⟩
    rw [hin acts]
    refine (Steps.weaken (mid := [.java (F0 m pc ls rest)]) hst).trans ?_
    rw [ht]
    exact a1
  | .inr (ci, q), h4 =>
    obtain ⟨rfl, hc⟩ := h4
    obtain ⟨T', X', hW', hB', ht⟩ := X1.outOfThrown (g := F0 m pc ls rest) rfl h3 h5 h9
    have hheap : T'.heap = t.heap := by rw [ht, Stand.throwing_heap]
    obtain ⟨t2, a1, b1⟩ := hthr ci q m' hQ hc h7 h8 h11 h12 T' Lo (by rw [hheap]; exact h6) h10 X'
    refine ⟨t2, st t2 (fun acts => ?_), b1⟩
    rw [hin acts]
    refine (Steps.weaken (mid := [.java (F0 m pc ls rest)]) hst).trans ?_
    rw [ht]
    exact a1
end Calls
