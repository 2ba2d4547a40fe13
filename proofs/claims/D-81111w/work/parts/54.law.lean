/-! needs: 52.main 53.start -/
/-! THE CLAIM OUT OF THE LAW's RUN ON THE ABSTRACT MACHINE (began as the skeleton's tail) -/
set_option maxRecDepth 100000
theorem ck_30 : cd_30.all (fun e => am_ck 0 0 (some .boolean) false [] e) = true := by decide +kernel
theorem wk_30 : am_walk (code.data.toList.drop 0) 0 cd_30 = true := by decide +kernel
theorem wo_30_33 : decode code 33 = .ok (.tableswitch 1385 0 38 #[171, 234, 257, 270, 293, 306, 319, 352, 375, 418, 441, 464, 497, 540, 573, 606, 685, 718, 761, 804, 827, 860, 893, 926, 959, 992, 1035, 1068, 1081, 1114, 1128, 1141, 1164, 1187, 1210, 1263, 1306, 1349, 1362], 171) := by decide +kernel
theorem dc_30 : ∀ e ∈ cd_30, decode code e.1 = .ok (e.2.1, e.2.2.1) := am_dc1 (code := code) (es := cd_30) (os := cd_30.filter (fun e => am_odd e.2.1)) wk_30 rfl (by
  have h : cd_30.filter (fun e => am_odd e.2.1) = [(33, Instr.tableswitch 1385 0 38 #[171, 234, 257, 270, 293, 306, 319, 352, 375, 418, 441, 464, 497, 540, 573, 606, 685, 718, 761, 804, 827, 860, 893, 926, 959, 992, 1035, 1068, 1081, 1114, 1128, 1141, 1164, 1187, 1210, 1263, 1306, 1349, 1362], 171, 0, 0, 0)] := by rfl
  rw [h]
  intro e he
  rw [List.mem_singleton] at he
  subst he
  exact wo_30_33)
/-- WHAT IS LEFT: the law on the abstract machine -/
def am_Q1 : aO → aM → Prop := fun o _ => o = .inl (some (aI 1))
def am_Law : Prop := ∀ (L : Nat) (xs : Nat → Int32), L ≤ 384 → am_WP am_G (am_wpc am_G am_T 400) [] cd_30 am_Q1 0 [aR (-1), aU, aU, aU] [] (am_m0 L xs)
def R_law : String := "ArmsHouseLaw"
def lw_P (b : Addr) (xs : List Int32) (args : Array Value) (s : State) : Prop := args = #[.ref b] ∧ s.IntsAt b xs ∧ xs.length ≤ 384 ∧ (Jvm.Cond.and given_1 narrow_1).before args s = true ∧ modulesRight_1 s = true
def lw_Q (_ : Array Value) (s : State) (o : Outcome) (t : State) : Prop := o = .returned (some (.int 1)) ∧ Framed s o t [] 603072 7262314
def lw_Z (below : List Frame) (a : Array Value) (s : State) : State → Prop := fun t => ∃ o, t.status = .running ∧ Ended t below o ∧ lw_Q a s o t
def lw_At (p : Program) (e : Env) (s : State) (m : MethodId) (meth : Method) (c : Code) (b L : Nat) (xs : Nat → Int32) : Prop :=
  p.tables.exec = Jvm.exec ∧ c.code = code ∧ meth.sig.returnType = ret ∧ c.maxLocals = 4 ∧ s.vm.findClass R_law = some m.cls ∧ (∀ w ∈ lw_tbl, w.before #[Value.ref b] s = true) ∧ va_X b L xs s s.heap ∧ b < s.heap.size ∧ meth.locks = false ∧ (Jvm.Cond.and given_1 narrow_1).before #[Value.ref b] s = true ∧ modulesRight_1 s = true ∧ e.platform.stackTraces = false ∧ c.exceptionTable.toList = []
theorem whole_start (law : am_Law) {p : Program} {e : Env} {s : State} {m : MethodId} {below : List Frame} {meth : Method} {c : Code} (l : Launch) {b L : Nat} {xs : Nat → Int32} (hL : L ≤ 384) (C0 : lw_At p e s m meth c b L xs) : W p l e room_1 s m #[Value.ref b] below meth c s.heap [] 0 0 (lw_Z below #[Value.ref b] s) (entryFrame m ([Value.ref b] : List Value).toArray 4) := by
  obtain ⟨hx, hb, hret, hml, hown, hts, hX, hbl, hlocks, hgv, hmod, htr, hex⟩ := C0
  obtain ⟨ad, fm, cid, slo, X, hR, had⟩ := am_start hts hgv hX hL hmod
  have hfm := X.fmok
  obtain ⟨ls, e1, e2⟩ := am_entry (ad := ad) (fm := fm) hfm (as := [aR (-1)]) (n := 4) (by decide) (fun v hv => by rw [List.mem_singleton] at hv; subst hv; trivial) m
  have hav : ([aR (-1)] : List aV).map (am_c ad fm) = [Value.ref b] := by
    show [am_rv ad fm (-1)] = _
    unfold am_rv
    rw [if_neg (by decide), if_neg (by decide), had]
  rw [hav] at e1
  have k := am_body (l := l) (R := room_1) (args := #[Value.ref b]) (below := below) (meth := meth) (c := c) (m := m) (n0 := 0) (s1 := 0) (o := 0) (md := 0) (rt := some .boolean) (nm := false) (hs := []) (code := cd_30) (cc := code) (b2 := False) (b3 := False) (nl := 4) (d := 400) hx htr (am_sound hx htr 400) X hb hlocks hown (by rw [hex]; trivial) (by decide) (by decide) (by decide) (by decide) hml (by rw [hret]; rfl) (fun h => by cases h) ck_30 dc_30 (am_posT 30) (am_WP_kp (am_wpc_cm am_G am_T 400) (am_k0 400) (am_posT 30) (law L xs hL)) (Int.le_refl _) ⟨fun h => (by cases h), fun h => (by cases h)⟩ (fun h => h.elim) (fun h => h.elim) ⟨show (0 : Int) ≤ 603072 by decide, show (0 : Int) ≤ 7262314 by decide⟩ rfl
  have k1 := k s.heap [] ls hR (fun q hq => absurd hq List.not_mem_nil) e2 (fun v hv => absurd hv List.not_mem_nil) (Int.le_refl _) (Int.le_refl _)
  rw [e1]
  refine W.monoQ (fun t ht => ?_) k1
  obtain ⟨o, m', oc, Lo, q1, q2, q3, q4, q5, q6, q7, q8, q9, q10, -⟩ := ht
  have q1' : o = .inl (some (aI 1)) := q1.1
  subst q1'
  obtain ⟨-, -, -, kr⟩ := q1.2 (Int.le_refl _)
  obtain ⟨kC, kS⟩ := kr ⟨(by decide : (0 : Int) ≤ 603072), (by decide : (0 : Int) ≤ 7262314)⟩
  have q4' : oc = .returned (some (.int 1)) := q4.1
  subst q4'
  refine ⟨_, q2, q3, rfl, ⟨_, rfl⟩, q5, q9.weaken (fun x hx hlt => ?_) (by have : m' 0 0 ≤ 603072 := kC; omega) (by have : m' 0 1 ≤ 7262314 := kS; omega)⟩
  exact absurd hlt (Nat.not_lt.mpr (q10 x hx))
set_option maxHeartbeats 4000000 in
theorem lw_walk (law : am_Law) (l : Launch) (hfl : l.flags = flags0) (b : Addr) (xs : List Int32) : MetFree l x (headSpec (Jvm.Cond.code x code maxLocals ret :: tables_1) room_1) (lw_P b xs) (fun _ _ _ _ _ => True) lw_Q := by
  refine MetFree.of_bodyS (code := code) (maxLocals := maxLocals) (ret := ret) (by decide) ?_ ?_
  · intro args s m h hn
    obtain ⟨meth, c, h1, h2, h3, h4, h5, h6, -, -⟩ := Cond.code_spec hn (atoms_spec (ws := Jvm.Cond.code x code maxLocals ret :: tables_1) h _ List.mem_cons_self)
    exact ⟨meth, c, h1, h2, h3, h4, h5, h6⟩
  · intro p e s m args below meth c s₁ B hml0 hP _
    obtain ⟨rfl, hx, hbd, hgv, hmod⟩ := hP
    obtain ⟨scr, harrAt, hlist, hof, hsmall⟩ := hx
    obtain ⟨hcb, hkn, -, -⟩ := State.arrayAt?_spec harrAt
    have hown : s.vm.findClass R_law = some m.cls := findClass_of_methodNamed B.named
    have hts0 : ∀ c ∈ (Jvm.Cond.code x code maxLocals ret :: tables_1), c.before #[Value.ref b] s = true := atoms_spec (ws := Jvm.Cond.code x code maxLocals ret :: tables_1) B.pre
    have hts : ∀ w ∈ lw_tbl, w.before #[Value.ref b] s = true := k2_hts_sels lw_privs (fun w hw => hts0 w (List.mem_cons_of_mem _ hw)) lw_privs_ok
    have hml : c.maxLocals = 4 := B.maxLocals_eq (hts0 _ List.mem_cons_self)
    have hexc : c.exceptionTable.toList = [] := by
      obtain ⟨meth', c', h1, h2, h3, h4, h5, h6, h7, -⟩ := Cond.code_spec B.named (hts0 _ List.mem_cons_self)
      have hc := B.here.code
      rw [B.state] at hc
      have hc' : ((s.vm.classes[m.cls]?).bind (fun k => (k.methods[m.idx]?).bind (fun q => q.code))) = some c := hc
      have h1' : ((s.vm.classes[m.cls]?).bind (fun k => k.methods[m.idx]?)) = some meth' := h1
      cases hk : s.vm.classes[m.cls]? with
      | none => rw [hk] at h1'; cases h1'
      | some k =>
        rw [hk] at h1' hc'
        have e1 : k.methods[m.idx]? = some meth' := h1'
        have hc2 : (k.methods[m.idx]?).bind (fun q => q.code) = some c := hc'
        rw [e1] at hc2
        have hc3 : meth'.code = some c := hc2
        cases h2.symm.trans hc3
        simpa using h7
    have X₀ : Stand p l e room_1 s m #[Value.ref b] below meth c s₁ [] 0 0 := Stand.of_body B
    have hh0 : s₁.heap = s.heap := by rw [B.state]; rfl
    have hsz : scr.slots.size = xs.length := by rw [← Array.length_toList, hlist, List.length_map]
    have hval : ∀ j : Nat, j < xs.length → scr.slots[j]? = some (.int (xs.getD j 0)) := fun j hj => by
      rw [← Array.getElem?_toList, hlist]
      simp [hj]
    have hbl : b < s.heap.size := (Array.getElem?_eq_some_iff.mp hcb).1
    have hX : va_X b xs.length (fun j => xs.getD j 0) s s.heap := ⟨scr, hcb, hof, hkn, hsz, hval⟩
    have K : W p l e room_1 s m #[Value.ref b] below meth c s₁.heap [] 0 0 (lw_Z below #[Value.ref b] s) (entryFrame m ([Value.ref b] : List Value).toArray 4) := by
      rw [hh0]
      exact whole_start law l hbd ⟨B.exec, B.bytes, B.returns, hml, hown, hts, hX, hbl, B.notSynchronized, hgv, hmod, Launch.traces_off hfl B.admits, hexc⟩
    obtain ⟨t, a1, o, b1, b2, b3⟩ := K s₁ rfl X₀
    exact ⟨t, o, a1, b1, b2, b3⟩
theorem lw_pre_spec {args : Array Value} {s : State} (h : (Jvm.Cond.and given_1 narrow_1).before args s = true) (hr : rest_1_c.before args s = true) (hmod : modulesRight_1 s = true) : ∃ (b : Addr) (xs : List Int32), lw_P b xs args s := by
  have hs := flat_of_before _ h
  have hq := flat_of_before _ hr
  have hc : (Cond.count 1).before args s = true := hs _ (by decide +kernel)
  have harr : (Cond.arrayOf (.arg 0) .int).before args s = true := hs _ (by decide +kernel)
  have hle : (Cond.le (.length (.arg 0)) (.int 384)).before args s = true := hs _ (by decide +kernel)
  have hlen : (Cond.isInt (.length (.arg 0))).before args s = true := hq _ (by decide +kernel)
  have hall : (Cond.all (.arg 0) (.isInt (.elem (.arg 0) (.index 0)))).before args s = true := hq _ (by decide +kernel)
  obtain ⟨b, xs, hb, hx⟩ := State.ints_of_pre rfl harr hlen hall
  have hsm : xs.length < 2 ^ 31 := hx.choose_spec.2.2.2
  have hev : (Term.length (.arg 0)).eval args s none [] s = some (.int xs.length.toInt32) := hx.length_eval hb
  have hv := Cond.le_ints hev (show (Term.int 384).eval args s none [] s = some (.int 384) from rfl)
  have hd : xs.length.toInt32 ≤ 384 := by
    simpa [Cond.before, Cond.holds, hv] using hle
  have hN : xs.length ≤ 384 := (Int32.ofNat_le_ofNat hsm (by decide)).mp (show Int32.ofNat xs.length ≤ Int32.ofNat 384 from hd)
  exact ⟨b, xs, Cond.one_arg hc (show args[0]? = some (.ref b) from hb), hx, hN, h, hmod⟩
theorem lw_comes (law : am_Law) (l : Launch) (hfl : l.flags = flags0) : Comes l x (Jvm.Cond.code x code maxLocals ret :: tables_1) room_1 (fun tb e args s => Calls_1 tb e args s ∧ rest_1 tb e args s ∧ Pre_1 tb e args s)
    (fun _ _ args s o t => lw_Q args s o t) := by
  intro p e ha hc hk s m args below hf hfit hheap happ hpre
  obtain ⟨b, xs, hP⟩ := lw_pre_spec hpre.2.2 hpre.2.1.1 hpre.2.1.2
  obtain ⟨k, o, h1, h2, h3, hQ⟩ := lw_walk law l hfl b xs p e ha hc hk s m args below hf ((Spec.applies_iff_loose hf).mp happ).1 hP trivial
  exact ⟨k, o, h1, h2, h3, hQ⟩
theorem lw_frame {s t : State} {o : Outcome} {args : Array Value} (h : Framed s o t [] 603072 7262314) :
    Framed s o t (fieldLocs frame_1_writes args s ++ arrayLocs frame_1_arrays args s ++ staticLocs frame_1_statics s) 603072 7262314 := h
theorem lw_limb (law : am_Law) (L : Cond) (hL : ∀ (args : Array Value) (s t : State), L.after args s (.returned (some (.int 1))) t = true) :
    ArmFor flags0 classFile x code maxLocals ret World_1 tables_1 room_1 Calls_1 rest_1 Pre_1
      (fun tb e a s o t => postC L tb e a s o t ∧ Framed s o t (fieldLocs frame_1_writes a s ++ arrayLocs frame_1_arrays a s ++ staticLocs frame_1_statics s) 603072 7262314) := by
  intro l hfl _ _ p e ha hc hk s m args below hf hfit hheap happ hpre
  obtain ⟨k, o, h1, h2, h3, rfl, hF⟩ := lw_comes law l hfl p e ha hc hk s m args below hf hfit hheap happ hpre
  exact ⟨k, _, h1, h2, h3, hL args s _, lw_frame hF⟩
theorem am_vc_of (law : am_Law) : Claimed_1_1 ∧ Claimed_1_2 := ⟨lw_limb law limb_1_1 (fun args s t => by simp [limb_1_1, Cond.after, Cond.holds, Cond.value]), lw_limb law limb_1_2 (fun args s t => Cond.after_iff.mpr (by
  first | (rw [show limb_1_2 = Cond.eq .result (.int 1) from rfl, Cond.eq_ints (x := 1) (y := 1) rfl rfl]; simp; done) | (simp [limb_1_2, Cond.value, Term.eval]; done)))⟩
