/-! FROM AN ABSTRACT STEP TO THE MACHINE's: instructions that may throw; by tools/genexec8.py -/
theorem am_f2_of {o idx : Nat} {v : Int × Nat} (h : am_lk o idx am_fT = some v) : am_f2 o idx = some v := by
  unfold am_f2
  rw [h]
theorem am_oob {i n : Int} (hi : -2147483648 ≤ i ∧ i ≤ 2147483647) (hn : 0 ≤ n) (h : i < 0 ∨ n ≤ i) : Int32.ofInt i < 0 ∨ n.toNat ≤ (Int32.ofInt i).toNatClampNeg := by
  have e : (Int32.ofInt i).toNatClampNeg = i.toNat := by
    show (Int32.ofInt i).toInt.toNat = i.toNat
    rw [am_i32 hi]
  rcases h with h | h
  · left
    rw [Int32.lt_iff_toInt_lt, am_i32 hi]
    exact h
  · right
    rw [e]
    omega
theorem am_cat2 (v : Value) : v.category ≤ 2 := by
  unfold Value.category
  split <;> omega
theorem am_cats {ad : Int → Nat} {fm : Value} : ∀ r : List aV, ((r.map (am_c ad fm)).map fun v => v.category).sum ≤ 2 * r.length := by
  intro r
  induction r with
  | nil => simp
  | cons v r ih =>
    have := am_cat2 (am_c ad fm v)
    simp only [List.map_cons, List.sum_cons, List.length_cons]
    omega
section Exec8
variable {p : Program} {l : Launch} {e : Env} {R : Room} {s : State} {m : MethodId} {args : Array Value} {below : List Frame} {meth : Method} {c : Code} {cc : ByteArray} {s0 : State} {ad : Int → Nat} {fm : Value} {cid : Int → ClassId} {slo : Int → Nat → Nat} {n0 s1 : Int} {pc len : Nat} {x y : Int} {z : Nat} {L S : List aV} {mm : aM} {G : Nat → aM → Prop} {ca : aC} {hs : aH} {Q : aO → aM → Prop} {nx : List aV → List aV → aM → Prop} {jp : Nat → List aV → List aV → aM → Prop} {md o idx k : Nat} {t0 n : Int} {b2 b3 : Prop}
theorem am_xk_ok (X : am_Wd s0 ad fm cid slo s) {w : Jvm.Cond} (h : am_xk w = true) : w.before args s = true := by
  unfold am_xk at h
  split at h
  · exact va_Nw.use rfl (X.xcs _ (of_decide_eq_true h))
  · exact va_Nw.use rfl (X.xdl _ (of_decide_eq_true h))
  · have q := X.xst _ (of_decide_eq_true h)
    exact (am_static_at q.1 q.2 X.old).1
  · have q := X.xst _ (of_decide_eq_true h)
    exact (am_static_at q.1 q.2 X.old).2.1
  · cases h
theorem am_atoms (X : am_Wd s0 ad fm cid slo s) {ws : List Jvm.Cond} (h : ws.all (fun w => decide (w ∈ lw_all) || am_xk w) = true) : ∀ a ∈ ws, a.before args s = true := by
  intro a ha
  have q := List.all_eq_true.mp h a ha
  simp only [Bool.or_eq_true, decide_eq_true_eq] at q
  rcases q with q | q
  · exact X.words args _ q
  · exact am_xk_ok X q
theorem am_xlt (X : am_Wd s0 ad fm cid slo s) : ∀ cf k i f a, s.fieldFound? Bundle.tN "UNASSIGNED_STACK" Bundle.steD = some (cf, k, i, f) → k.statics = some a → a < s0.heap.size := by
  have q := X.xst ("java/lang/Throwable", "UNASSIGNED_STACK", "[Ljava/lang/StackTraceElement;") (by decide)
  exact (am_static_at (args := #[]) q.1 q.2 X.old).2.2
theorem am_s_npe {r : List aV} (hx : p.tables.exec = Jvm.exec) (X : am_Wd s0 ad fm cid slo s) (hlocks : meth.locks = false) (hown : s.vm.findClass (am_on o) = some m.cls) (hHR : am_HR s args (am_on o) am_xn cid hs c.exceptionTable.toList) (htr : e.platform.stackTraces = false) (hRf : 8 < R.frames) (hRl : 10300 ≤ R.locals) (hRc : (amC - n0).toNat ≤ R.cells) (hRs : (amS - s1).toNat ≤ R.slots) (hml : c.maxLocals = L.length) (hSl : S.length ≤ 24) (hg2 : b2 → mm 0 2 = 1) (hg3 : b3 → mm 0 3 = 1) (hjp : ∀ t L S mm, jp t L S mm → am_S p l e R s m args below meth c s0 ad fm cid slo am_cF am_ft (am_Post s0 ad fm cid slo am_cF am_ft s below Q n0 s1 b2 b3) n0 s1 t L S mm) (hr : r.length ≤ 24)
    (hstep : ∀ (H : Heap) (locs : List Loc) (ls : Array Slot) (T : State), am_Rep s0 ad fm cid slo am_cF am_ft mm H → T.heap = H → Stand p l e R s m args below meth c T locs (mm 0 0 - n0).toNat (mm 0 1 - s1).toNat → ∃ vm', Stand p l e R s m args below meth c (T.setVm vm') locs (mm 0 0 - n0).toNat (mm 0 1 - s1).toNat ∧ ∀ target, Steps p.tables e below (((T.setVm vm').setTop (F0 m pc ls (r.map (am_c ad fm)))).pushFrame (.throwNew "java/lang/NullPointerException" none none)) target → Steps p.tables e below (T.setTop (F0 m pc ls (S.map (am_c ad fm)))) target)
    (h : am_vmx hs Q jp pc L 62 1 mm) : am_S p l e R s m args below meth c s0 ad fm cid slo am_cF am_ft (am_Post s0 ad fm cid slo am_cF am_ft s below Q n0 s1 b2 b3) n0 s1 pc L S mm := by
  intro H locs ls hR hlo hL hS h0 h1 T hT Y
  obtain ⟨vm', Y', st⟩ := hstep H locs ls T hR hT Y
  have hcat := am_cats (ad := ad) (fm := fm) r
  have h3 := h.1
  refine am_vx (T := T) (ci := 62) (k := 1) (kn := 1) (nn := 8) (pc := pc) (rest := r.map (am_c ad fm)) X hlocks hown hHR rfl (by decide) rfl rfl (by decide) (by decide) (by rw [hT]; exact hR) h0 h1 hlo hg2 hg3 hL hjp ⟨vm', none, am_npe Y' hx htr (am_atoms X am_npeW) hlo (am_xlt X) rfl (hL.1.trans hml.symm) (by omega) ?_ (by omega) (by omega), st⟩ h.2
  show 2 * 0 + ((r.map (am_c ad fm)).map fun v => v.category).sum + 10240 ≤ R.locals
  omega
theorem am_s_msg {r : List aV} {ci : Int} (hx : p.tables.exec = Jvm.exec) (X : am_Wd s0 ad fm cid slo s) (hlocks : meth.locks = false) (hown : s.vm.findClass (am_on o) = some m.cls) (hHR : am_HR s args (am_on o) am_xn cid hs c.exceptionTable.toList) (htr : e.platform.stackTraces = false) (hRf : 8 < R.frames) (hRl : 10300 ≤ R.locals) (hRc : (amC - n0).toNat ≤ R.cells) (hRs : (amS - s1).toNat ≤ R.slots) (hml : c.maxLocals = L.length) (hSl : S.length ≤ 24) (hg2 : b2 → mm 0 2 = 1) (hg3 : b3 → mm 0 3 = 1) (hjp : ∀ t L S mm, jp t L S mm → am_S p l e R s m args below meth c s0 ad fm cid slo am_cF am_ft (am_Post s0 ad fm cid slo am_cF am_ft s below Q n0 s1 b2 b3) n0 s1 t L S mm) (hr : r.length ≤ 24) (hci : ci = 61 ∨ ci = 63 ∨ ci = 64)
    (hstep : ∀ (H : Heap) (locs : List Loc) (ls : Array Slot) (T : State), am_Rep s0 ad fm cid slo am_cF am_ft mm H → (∀ v ∈ S, am_vok v) → T.heap = H → Stand p l e R s m args below meth c T locs (mm 0 0 - n0).toNat (mm 0 1 - s1).toNat → ∃ vm' text, Stand p l e R s m args below meth c (T.setVm vm') locs (mm 0 0 - n0).toNat (mm 0 1 - s1).toNat ∧ (text == notModelled) = false ∧ (stringBytes (stringToUtf16 text)).size ≤ 990 ∧ ∀ target, Steps p.tables e below (((T.setVm vm').setTop (F0 m pc ls (r.map (am_c ad fm)))).pushFrame (.throwNew (am_xn ci) (some text) none)) target → Steps p.tables e below (T.setTop (F0 m pc ls (S.map (am_c ad fm)))) target)
    (h : am_vmx hs Q jp pc L ci 3 mm) : am_S p l e R s m args below meth c s0 ad fm cid slo am_cF am_ft (am_Post s0 ad fm cid slo am_cF am_ft s below Q n0 s1 b2 b3) n0 s1 pc L S mm := by
  intro H locs ls hR hlo hL hS h0 h1 T hT Y
  obtain ⟨vm', text, Y', t1, t2, st⟩ := hstep H locs ls T hR hS hT Y
  have hcat := am_cats (ad := ad) (fm := fm) r
  have h3 := h.1
  have hisx : am_isX ci = true := by rcases hci with rfl | rfl | rfl <;> rfl
  have hat : (Bundle.messageArmAtoms (am_xn ci) (am_nms ci)).all (fun w => decide (w ∈ lw_all) || am_xk w) = true := by
    rcases hci with rfl | rfl | rfl
    · exact am_msgW_61
    · exact am_msgW_63
    · exact am_msgW_64
  have hfit : Bundle.fit (am_xn ci) = true ∧ (∀ n ∈ am_nms ci, Bundle.fit n = true) ∧ (am_xn ci == "java/lang/StackOverflowError") = false ∧ (am_xn ci == "java/lang/OutOfMemoryError") = false ∧ (am_nms ci).length ≤ 4 := by
    rcases hci with rfl | rfl | rfl <;> decide +kernel
  refine am_vx (T := T) (ci := ci) (k := 3) (kn := 3) (nn := 1000) (pc := pc) (rest := r.map (am_c ad fm)) X hlocks hown hHR hisx (by omega) rfl rfl (by decide) (by decide) (by rw [hT]; exact hR) h0 h1 hlo hg2 hg3 hL hjp ⟨vm', some text, am_msg Y' hx htr hfit.1 hfit.2.1 hfit.2.2.1 hfit.2.2.2.1 (am_atoms X hat) hlo (am_xlt X) t1 t2 rfl (hL.1.trans hml.symm) hfit.2.2.2.2 hRf ?_ (by omega) (by omega), st⟩ h.2
  show 2 * 0 + ((r.map (am_c ad fm)).map fun v => v.category).sum + 10240 ≤ R.locals
  omega
theorem am_e_getf7  (hx : p.tables.exec = Jvm.exec) (hb : c.code = cc) (hf : am_fmok fm) (hl : len = 3) (X : am_Wd s0 ad fm cid slo s) (hlocks : meth.locks = false) (hown : s.vm.findClass (am_on o) = some m.cls) (hHR : am_HR s args (am_on o) am_xn cid hs c.exceptionTable.toList) (htr : e.platform.stackTraces = false) (hRf : 8 < R.frames) (hRl : 10300 ≤ R.locals) (hRc : (amC - n0).toNat ≤ R.cells) (hRs : (amS - s1).toNat ≤ R.slots) (hml : c.maxLocals = L.length) (hSl : S.length ≤ 24) (hg2 : b2 → mm 0 2 = 1) (hg3 : b3 → mm 0 3 = 1) (hz : z = 7) (hf2 : am_lk o idx am_fT = some (t0, k)) (hsh : am_xt x t0 k) (ho : am_isO t0 = true) (hk : k < am_cF t0) (hw : am_ft t0 k = 0) (hy : y = (k : Int)) (hd : decode cc pc = .ok (.getfield idx, len)) (hnx : ∀ L S mm, nx L S mm → am_S p l e R s m args below meth c s0 ad fm cid slo am_cF am_ft (am_Post s0 ad fm cid slo am_cF am_ft s below Q n0 s1 b2 b3) n0 s1 (pc + len) L S mm) (hjp : ∀ t L S mm, jp t L S mm → am_S p l e R s m args below meth c s0 ad fm cid slo am_cF am_ft (am_Post s0 ad fm cid slo am_cF am_ft s below Q n0 s1 b2 b3) n0 s1 t L S mm) (h : am_istep G ca hs Q nx jp (pc, .getfield idx, len, x, y, z) L S mm) : am_S p l e R s m args below meth c s0 ad fm cid slo am_cF am_ft (am_Post s0 ad fm cid slo am_cF am_ft s below Q n0 s1 b2 b3) n0 s1 pc L S mm := by
  subst hl
  subst hz
  subst hy
  rcases S with _ | ⟨v0, S⟩
  · exact False.elim h
  · rcases v0 with v0 | v0 | v0 | v0
    · exact False.elim h
    · exact False.elim h
    · by_cases e0 : v0 = 0
      · subst e0
        refine am_s_npe (r := S) hx X hlocks hown hHR htr hRf hRl hRc hRs hml (by assumption) hg2 hg3 hjp (by simp only [List.length_cons] at hSl; omega) (fun H locs ls T hR hT Y => ?_) (h.2 rfl)
        have hlink := X.words args _ (am_fT_ok _ (am_lk_mem hf2))
        have hpl : e.platform.magicAccessors = ({} : Platform).magicAccessors := by rw [Y.admits.platform]
        obtain ⟨ci, cfl, k2, i2, f2, hi2, -, -⟩ := Cond.fieldLink_spec hown hlink e.platform hpl
        obtain ⟨vm', Y', st⟩ := Y.getfieldNull hx hown hlink hi2 (am_notst X ho hk _ _ _ _ hi2) (g := F0 m pc ls ((aR 0 :: S).map (am_c ad fm))) rfl (rest := S.map (am_c ad fm)) (by rw [List.map_cons, show am_c ad fm (aR 0) = am_rv ad fm 0 from rfl, am_rv0]) (by rw [hb]; exact hd)
        exact ⟨vm', Y', st⟩
      · obtain ⟨hok, hn⟩ := h.1 e0
        exact am_gf hx hb X hown (am_f2_of hf2) rfl (am_xt_sh hsh hok) ho hk hw hd (hnx _ _ _ hn)
    · exact False.elim h
theorem am_e_getf8  (hx : p.tables.exec = Jvm.exec) (hb : c.code = cc) (hf : am_fmok fm) (hl : len = 3) (X : am_Wd s0 ad fm cid slo s) (hlocks : meth.locks = false) (hown : s.vm.findClass (am_on o) = some m.cls) (hHR : am_HR s args (am_on o) am_xn cid hs c.exceptionTable.toList) (htr : e.platform.stackTraces = false) (hRf : 8 < R.frames) (hRl : 10300 ≤ R.locals) (hRc : (amC - n0).toNat ≤ R.cells) (hRs : (amS - s1).toNat ≤ R.slots) (hml : c.maxLocals = L.length) (hSl : S.length ≤ 24) (hg2 : b2 → mm 0 2 = 1) (hg3 : b3 → mm 0 3 = 1) (hz : z = 8) (hf2 : am_lk o idx am_fT = some (t0, k)) (hsh : am_xt x t0 k) (ho : am_isO t0 = true) (hk : k < am_cF t0) (hw : am_ft t0 k = 1) (hy : y = (k : Int)) (hd : decode cc pc = .ok (.getfield idx, len)) (hnx : ∀ L S mm, nx L S mm → am_S p l e R s m args below meth c s0 ad fm cid slo am_cF am_ft (am_Post s0 ad fm cid slo am_cF am_ft s below Q n0 s1 b2 b3) n0 s1 (pc + len) L S mm) (hjp : ∀ t L S mm, jp t L S mm → am_S p l e R s m args below meth c s0 ad fm cid slo am_cF am_ft (am_Post s0 ad fm cid slo am_cF am_ft s below Q n0 s1 b2 b3) n0 s1 t L S mm) (h : am_istep G ca hs Q nx jp (pc, .getfield idx, len, x, y, z) L S mm) : am_S p l e R s m args below meth c s0 ad fm cid slo am_cF am_ft (am_Post s0 ad fm cid slo am_cF am_ft s below Q n0 s1 b2 b3) n0 s1 pc L S mm := by
  subst hl
  subst hz
  subst hy
  rcases S with _ | ⟨v0, S⟩
  · exact False.elim h
  · rcases v0 with v0 | v0 | v0 | v0
    · exact False.elim h
    · exact False.elim h
    · by_cases e0 : v0 = 0
      · subst e0
        refine am_s_npe (r := S) hx X hlocks hown hHR htr hRf hRl hRc hRs hml (by assumption) hg2 hg3 hjp (by simp only [List.length_cons] at hSl; omega) (fun H locs ls T hR hT Y => ?_) (h.2 rfl)
        have hlink := X.words args _ (am_fT_ok _ (am_lk_mem hf2))
        have hpl : e.platform.magicAccessors = ({} : Platform).magicAccessors := by rw [Y.admits.platform]
        obtain ⟨ci, cfl, k2, i2, f2, hi2, -, -⟩ := Cond.fieldLink_spec hown hlink e.platform hpl
        obtain ⟨vm', Y', st⟩ := Y.getfieldNull hx hown hlink hi2 (am_notst X ho hk _ _ _ _ hi2) (g := F0 m pc ls ((aR 0 :: S).map (am_c ad fm))) rfl (rest := S.map (am_c ad fm)) (by rw [List.map_cons, show am_c ad fm (aR 0) = am_rv ad fm 0 from rfl, am_rv0]) (by rw [hb]; exact hd)
        exact ⟨vm', Y', st⟩
      · obtain ⟨hok, hn⟩ := h.1 e0
        exact am_gf hx hb X hown (am_f2_of hf2) rfl (am_xt_sh hsh hok) ho hk hw hd (hnx _ _ _ hn)
    · exact False.elim h
theorem am_e_getf9  (hx : p.tables.exec = Jvm.exec) (hb : c.code = cc) (hf : am_fmok fm) (hl : len = 3) (X : am_Wd s0 ad fm cid slo s) (hlocks : meth.locks = false) (hown : s.vm.findClass (am_on o) = some m.cls) (hHR : am_HR s args (am_on o) am_xn cid hs c.exceptionTable.toList) (htr : e.platform.stackTraces = false) (hRf : 8 < R.frames) (hRl : 10300 ≤ R.locals) (hRc : (amC - n0).toNat ≤ R.cells) (hRs : (amS - s1).toNat ≤ R.slots) (hml : c.maxLocals = L.length) (hSl : S.length ≤ 24) (hg2 : b2 → mm 0 2 = 1) (hg3 : b3 → mm 0 3 = 1) (hz : z = 9) (hf2 : am_lk o idx am_fT = some (t0, k)) (hsh : am_xt x t0 k) (ho : am_isO t0 = true) (hk : k < am_cF t0) (hw : am_ft t0 k = 2) (hy : y = (k : Int)) (hd : decode cc pc = .ok (.getfield idx, len)) (hnx : ∀ L S mm, nx L S mm → am_S p l e R s m args below meth c s0 ad fm cid slo am_cF am_ft (am_Post s0 ad fm cid slo am_cF am_ft s below Q n0 s1 b2 b3) n0 s1 (pc + len) L S mm) (hjp : ∀ t L S mm, jp t L S mm → am_S p l e R s m args below meth c s0 ad fm cid slo am_cF am_ft (am_Post s0 ad fm cid slo am_cF am_ft s below Q n0 s1 b2 b3) n0 s1 t L S mm) (h : am_istep G ca hs Q nx jp (pc, .getfield idx, len, x, y, z) L S mm) : am_S p l e R s m args below meth c s0 ad fm cid slo am_cF am_ft (am_Post s0 ad fm cid slo am_cF am_ft s below Q n0 s1 b2 b3) n0 s1 pc L S mm := by
  subst hl
  subst hz
  subst hy
  rcases S with _ | ⟨v0, S⟩
  · exact False.elim h
  · rcases v0 with v0 | v0 | v0 | v0
    · exact False.elim h
    · exact False.elim h
    · by_cases e0 : v0 = 0
      · subst e0
        refine am_s_npe (r := S) hx X hlocks hown hHR htr hRf hRl hRc hRs hml (by assumption) hg2 hg3 hjp (by simp only [List.length_cons] at hSl; omega) (fun H locs ls T hR hT Y => ?_) (h.2 rfl)
        have hlink := X.words args _ (am_fT_ok _ (am_lk_mem hf2))
        have hpl : e.platform.magicAccessors = ({} : Platform).magicAccessors := by rw [Y.admits.platform]
        obtain ⟨ci, cfl, k2, i2, f2, hi2, -, -⟩ := Cond.fieldLink_spec hown hlink e.platform hpl
        obtain ⟨vm', Y', st⟩ := Y.getfieldNull hx hown hlink hi2 (am_notst X ho hk _ _ _ _ hi2) (g := F0 m pc ls ((aR 0 :: S).map (am_c ad fm))) rfl (rest := S.map (am_c ad fm)) (by rw [List.map_cons, show am_c ad fm (aR 0) = am_rv ad fm 0 from rfl, am_rv0]) (by rw [hb]; exact hd)
        exact ⟨vm', Y', st⟩
      · obtain ⟨hok, hn⟩ := h.1 e0
        exact am_gf hx hb X hown (am_f2_of hf2) rfl (am_xt_sh hsh hok) ho hk hw hd (hnx _ _ _ hn)
    · exact False.elim h
theorem am_e_iaload2  (hx : p.tables.exec = Jvm.exec) (hb : c.code = cc) (hf : am_fmok fm) (hl : len = 1) (X : am_Wd s0 ad fm cid slo s) (hlocks : meth.locks = false) (hown : s.vm.findClass (am_on o) = some m.cls) (hHR : am_HR s args (am_on o) am_xn cid hs c.exceptionTable.toList) (htr : e.platform.stackTraces = false) (hRf : 8 < R.frames) (hRl : 10300 ≤ R.locals) (hRc : (amC - n0).toNat ≤ R.cells) (hRs : (amS - s1).toNat ≤ R.slots) (hml : c.maxLocals = L.length) (hSl : S.length ≤ 24) (hg2 : b2 → mm 0 2 = 1) (hg3 : b3 → mm 0 3 = 1) (hgd : am_gd md mm) (hz : z = 2) (hst : am_l3 x (am_sfs md) = some (40, y)) (hd : decode cc pc = .ok (.iaload, len)) (hnx : ∀ L S mm, nx L S mm → am_S p l e R s m args below meth c s0 ad fm cid slo am_cF am_ft (am_Post s0 ad fm cid slo am_cF am_ft s below Q n0 s1 b2 b3) n0 s1 (pc + len) L S mm) (hjp : ∀ t L S mm, jp t L S mm → am_S p l e R s m args below meth c s0 ad fm cid slo am_cF am_ft (am_Post s0 ad fm cid slo am_cF am_ft s below Q n0 s1 b2 b3) n0 s1 t L S mm) (h : am_istep G ca hs Q nx jp (pc, .iaload, len, x, y, z) L S mm) : am_S p l e R s m args below meth c s0 ad fm cid slo am_cF am_ft (am_Post s0 ad fm cid slo am_cF am_ft s below Q n0 s1 b2 b3) n0 s1 pc L S mm := by
  subst hl
  subst hz
  rcases S with _ | ⟨v0, S⟩
  · exact False.elim h
  · rcases v0 with v0 | v0 | v0 | v0
    · rcases S with _ | ⟨v1, S⟩
      · exact False.elim h
      · rcases v1 with v1 | v1 | v1 | v1
        · exact False.elim h
        · exact False.elim h
        · refine am_S_rep (fun H hR => ?_)
          obtain ⟨e1, e2⟩ := hR.st hgd hst
          obtain ⟨h0, h1, h2⟩ := h
          subst h0
          have e2 := e2 (by decide)
          by_cases hin : 0 ≤ v0 ∧ v0 < y
          · exact am_s_iaload hx hb (X.arr 40 rfl).1 e1 ⟨hin.1, by rw [e2]; exact hin.2⟩ hd (hnx _ _ _ (h1 hin))
          · have ho : v0 < 0 ∨ y ≤ v0 := by omega
            refine am_s_msg (ci := 61) (r := S) hx X hlocks hown hHR htr hRf hRl hRc hRs hml (by assumption) hg2 hg3 hjp (by simp only [List.length_cons] at hSl; omega) (Or.inl rfl) (fun H locs ls T hR hS hT Y => ?_) (h2 ho)
            obtain ⟨cell, c1, c2, c3, c4, c5, c6, c7, c8, c9⟩ := hR.arr (a := v1) (by rw [e1]; exact (rfl : am_isA 40 = true))
            have st := Y.ialoadOut hx (cell := cell) (ty := FieldType.int) (j := Int32.ofInt v0) (by rw [hT]; exact c1) (am_arrOf ((X.arr 40 rfl).1) (by rw [c2, e1]) c4) (by rw [c7]; exact am_oob (am_vh hS) c6 (by rw [e2]; exact ho)) (g := F0 m pc ls ((aI v0 :: aR v1 :: S).map (am_c ad fm))) rfl (rest := S.map (am_c ad fm)) (by rw [List.map_cons, List.map_cons, show am_c ad fm (aR v1) = am_rv ad fm v1 from rfl, (hR.rv (by rw [e1]; exact (am_isA_no (rfl : am_isA 40 = true)).2.2)).1]; rfl) (by rw [hb]; exact hd)
            exact ⟨T.vm, _, Y, index_text_modelled _ _, Nat.le_trans (index_text_bytes _ (by rw [c7]; omega)) (by decide), st⟩
        · exact False.elim h
    · exact False.elim h
    · exact False.elim h
    · exact False.elim h
theorem am_e_aaload2 {C : String} (hx : p.tables.exec = Jvm.exec) (hb : c.code = cc) (hf : am_fmok fm) (hl : len = 1) (X : am_Wd s0 ad fm cid slo s) (hlocks : meth.locks = false) (hown : s.vm.findClass (am_on o) = some m.cls) (hHR : am_HR s args (am_on o) am_xn cid hs c.exceptionTable.toList) (htr : e.platform.stackTraces = false) (hRf : 8 < R.frames) (hRl : 10300 ≤ R.locals) (hRc : (amC - n0).toNat ≤ R.cells) (hRs : (amS - s1).toNat ≤ R.slots) (hml : c.maxLocals = L.length) (hSl : S.length ≤ 24) (hg2 : b2 → mm 0 2 = 1) (hg3 : b3 → mm 0 3 = 1) (hz : z = 2) (h5 : x = 30 ∨ x = 7 ∨ x = 4 ∨ x = 11 ∨ x = 12) (hC : am_aty (am_over x) = .object C) (hd : decode cc pc = .ok (.aaload, len)) (hnx : ∀ L S mm, nx L S mm → am_S p l e R s m args below meth c s0 ad fm cid slo am_cF am_ft (am_Post s0 ad fm cid slo am_cF am_ft s below Q n0 s1 b2 b3) n0 s1 (pc + len) L S mm) (hjp : ∀ t L S mm, jp t L S mm → am_S p l e R s m args below meth c s0 ad fm cid slo am_cF am_ft (am_Post s0 ad fm cid slo am_cF am_ft s below Q n0 s1 b2 b3) n0 s1 t L S mm) (h : am_istep G ca hs Q nx jp (pc, .aaload, len, x, y, z) L S mm) : am_S p l e R s m args below meth c s0 ad fm cid slo am_cF am_ft (am_Post s0 ad fm cid slo am_cF am_ft s below Q n0 s1 b2 b3) n0 s1 pc L S mm := by
  subst hl
  subst hz
  rcases S with _ | ⟨v0, S⟩
  · exact False.elim h
  · rcases v0 with v0 | v0 | v0 | v0
    · rcases S with _ | ⟨v1, S⟩
      · exact False.elim h
      · rcases v1 with v1 | v1 | v1 | v1
        · exact False.elim h
        · exact False.elim h
        · obtain ⟨h0, h1, h2⟩ := h
          have ht : 44 ≤ am_over x ∧ am_over x ≤ 48 := by rcases h5 with rfl | rfl | rfl | rfl | rfl <;> decide
          have hA : am_isA (am_over x) = true := by rcases h5 with rfl | rfl | rfl | rfl | rfl <;> rfl
          refine am_S_rep (fun H hR => ?_)
          have hnn : 0 ≤ mm v1 (-2) := by
            obtain ⟨cell, c1, c2, c3, c4, c5, c6, c7, c8, c9⟩ := hR.arr (a := v1) (by rw [h0]; exact hA)
            exact c6
          by_cases hin : 0 ≤ v0 ∧ v0 < mm v1 (-2)
          · exact am_s_aaload hx hb (by rw [h0]; exact (X.arr _ hA).1) (by rw [h0]; exact ht) hin hd (hnx _ _ _ (h1 hin))
          · have ho : v0 < 0 ∨ mm v1 (-2) ≤ v0 := by omega
            refine am_s_msg (ci := 61) (r := S) hx X hlocks hown hHR htr hRf hRl hRc hRs hml (by assumption) hg2 hg3 hjp (by simp only [List.length_cons] at hSl; omega) (Or.inl rfl) (fun H locs ls T hR hS hT Y => ?_) (h2 ho)
            obtain ⟨cell, c1, c2, c3, c4, c5, c6, c7, c8, c9⟩ := hR.arr (a := v1) (by rw [h0]; exact hA)
            have st := Y.aaloadOut hx (cell := cell) (ty := am_aty (am_over x)) (j := Int32.ofInt v0) (by rw [hT]; exact c1) (am_arrOf ((X.arr _ hA).1) (by rw [c2, h0]) c4) (by rw [c7]; exact am_oob (am_vh hS) c6 ho) (g := F0 m pc ls ((aI v0 :: aR v1 :: S).map (am_c ad fm))) rfl (rest := S.map (am_c ad fm)) (by rw [List.map_cons, List.map_cons, show am_c ad fm (aR v1) = am_rv ad fm v1 from rfl, (hR.rv (by rw [h0]; exact (am_isA_no hA).2.2)).1]; rfl) (by rw [hb]; exact hd)
            exact ⟨T.vm, _, Y, index_text_modelled _ _, Nat.le_trans (index_text_bytes _ (by rw [c7]; omega)) (by decide), st⟩
        · exact False.elim h
    · exact False.elim h
    · exact False.elim h
    · exact False.elim h
theorem am_e_aaload3 {t : Int} (hx : p.tables.exec = Jvm.exec) (hb : c.code = cc) (hf : am_fmok fm) (hl : len = 1) (X : am_Wd s0 ad fm cid slo s) (hlocks : meth.locks = false) (hown : s.vm.findClass (am_on o) = some m.cls) (hHR : am_HR s args (am_on o) am_xn cid hs c.exceptionTable.toList) (htr : e.platform.stackTraces = false) (hRf : 8 < R.frames) (hRl : 10300 ≤ R.locals) (hRc : (amC - n0).toNat ≤ R.cells) (hRs : (amS - s1).toNat ≤ R.slots) (hml : c.maxLocals = L.length) (hSl : S.length ≤ 24) (hg2 : b2 → mm 0 2 = 1) (hg3 : b3 → mm 0 3 = 1) (hgd : am_gd md mm) (hz : z = 3) (ht : 44 ≤ t ∧ t ≤ 48) (hA : am_isA t = true) (hst : am_l3 x (am_sfs md) = some (t, y)) (hd : decode cc pc = .ok (.aaload, len)) (hnx : ∀ L S mm, nx L S mm → am_S p l e R s m args below meth c s0 ad fm cid slo am_cF am_ft (am_Post s0 ad fm cid slo am_cF am_ft s below Q n0 s1 b2 b3) n0 s1 (pc + len) L S mm) (hjp : ∀ t L S mm, jp t L S mm → am_S p l e R s m args below meth c s0 ad fm cid slo am_cF am_ft (am_Post s0 ad fm cid slo am_cF am_ft s below Q n0 s1 b2 b3) n0 s1 t L S mm) (h : am_istep G ca hs Q nx jp (pc, .aaload, len, x, y, z) L S mm) : am_S p l e R s m args below meth c s0 ad fm cid slo am_cF am_ft (am_Post s0 ad fm cid slo am_cF am_ft s below Q n0 s1 b2 b3) n0 s1 pc L S mm := by
  subst hl
  subst hz
  rcases S with _ | ⟨v0, S⟩
  · exact False.elim h
  · rcases v0 with v0 | v0 | v0 | v0
    · rcases S with _ | ⟨v1, S⟩
      · exact False.elim h
      · rcases v1 with v1 | v1 | v1 | v1
        · exact False.elim h
        · exact False.elim h
        · refine am_S_rep (fun H hR => ?_)
          obtain ⟨e1, e2⟩ := hR.st hgd hst
          obtain ⟨h0, h1, h2⟩ := h
          subst h0
          have e2 := e2 (by omega)
          by_cases hin : 0 ≤ v0 ∧ v0 < y
          · exact am_s_aaload hx hb (by rw [e1]; exact (X.arr _ hA).1) (by rw [e1]; exact ht) ⟨hin.1, by rw [e2]; exact hin.2⟩ hd (hnx _ _ _ (h1 hin))
          · have ho : v0 < 0 ∨ y ≤ v0 := by omega
            refine am_s_msg (ci := 61) (r := S) hx X hlocks hown hHR htr hRf hRl hRc hRs hml (by assumption) hg2 hg3 hjp (by simp only [List.length_cons] at hSl; omega) (Or.inl rfl) (fun H locs ls T hR hS hT Y => ?_) (h2 ho)
            obtain ⟨cell, c1, c2, c3, c4, c5, c6, c7, c8, c9⟩ := hR.arr (a := v1) (by rw [e1]; exact hA)
            have st := Y.aaloadOut hx (cell := cell) (ty := am_aty t) (j := Int32.ofInt v0) (by rw [hT]; exact c1) (am_arrOf ((X.arr _ hA).1) (by rw [c2, e1]) c4) (by rw [c7]; exact am_oob (am_vh hS) c6 (by rw [e2]; exact ho)) (g := F0 m pc ls ((aI v0 :: aR v1 :: S).map (am_c ad fm))) rfl (rest := S.map (am_c ad fm)) (by rw [List.map_cons, List.map_cons, show am_c ad fm (aR v1) = am_rv ad fm v1 from rfl, (hR.rv (by rw [e1]; exact (am_isA_no hA).2.2)).1]; rfl) (by rw [hb]; exact hd)
            exact ⟨T.vm, _, Y, index_text_modelled _ _, Nat.le_trans (index_text_bytes _ (by rw [c7]; omega)) (by decide), st⟩
        · exact False.elim h
    · exact False.elim h
    · exact False.elim h
    · exact False.elim h
theorem am_e_ldiv  (hx : p.tables.exec = Jvm.exec) (hb : c.code = cc) (hf : am_fmok fm) (hl : len = 1) (X : am_Wd s0 ad fm cid slo s) (hlocks : meth.locks = false) (hown : s.vm.findClass (am_on o) = some m.cls) (hHR : am_HR s args (am_on o) am_xn cid hs c.exceptionTable.toList) (htr : e.platform.stackTraces = false) (hRf : 8 < R.frames) (hRl : 10300 ≤ R.locals) (hRc : (amC - n0).toNat ≤ R.cells) (hRs : (amS - s1).toNat ≤ R.slots) (hml : c.maxLocals = L.length) (hSl : S.length ≤ 24) (hg2 : b2 → mm 0 2 = 1) (hg3 : b3 → mm 0 3 = 1)  (hd : decode cc pc = .ok (.ldiv, len)) (hnx : ∀ L S mm, nx L S mm → am_S p l e R s m args below meth c s0 ad fm cid slo am_cF am_ft (am_Post s0 ad fm cid slo am_cF am_ft s below Q n0 s1 b2 b3) n0 s1 (pc + len) L S mm) (hjp : ∀ t L S mm, jp t L S mm → am_S p l e R s m args below meth c s0 ad fm cid slo am_cF am_ft (am_Post s0 ad fm cid slo am_cF am_ft s below Q n0 s1 b2 b3) n0 s1 t L S mm) (h : am_istep G ca hs Q nx jp (pc, .ldiv, len, x, y, z) L S mm) : am_S p l e R s m args below meth c s0 ad fm cid slo am_cF am_ft (am_Post s0 ad fm cid slo am_cF am_ft s below Q n0 s1 b2 b3) n0 s1 pc L S mm := by
  subst hl
  rcases S with _ | ⟨v0, S⟩
  · exact False.elim h
  · rcases v0 with v0 | v0 | v0 | v0
    · exact False.elim h
    · rcases S with _ | ⟨v1, S⟩
      · exact False.elim h
      · rcases v1 with v1 | v1 | v1 | v1
        · exact False.elim h
        · by_cases e0 : v0 = 0
          · subst e0
            refine am_s_msg (ci := 64) (r := S) hx X hlocks hown hHR htr hRf hRl hRc hRs hml (by assumption) hg2 hg3 hjp (by simp only [List.length_cons] at hSl; omega) (Or.inr (Or.inr rfl)) (fun H locs ls T hR hS hT Y => ?_) (h.2 rfl)
            have st := Y.ldivZero hx (a := Int64.ofInt v1) (g := F0 m pc ls ((aL 0 :: aL v1 :: S).map (am_c ad fm))) rfl (rest := S.map (am_c ad fm)) (by rw [List.map_cons, List.map_cons, show am_c ad fm (aL 0) = Value.long (Int64.ofInt 0) from rfl, show Int64.ofInt 0 = 0 from by decide]; rfl) (by rw [hb]; exact hd)
            exact ⟨T.vm, _, Y, by decide, by decide +kernel, st⟩
          · exact am_s_ldiv hx hb e0 hd (hnx _ _ _ (h.1 e0))
        · exact False.elim h
        · exact False.elim h
    · exact False.elim h
    · exact False.elim h
theorem am_shw : ∀ t ∈ ([5, 6, 7, 10, 18] : List Nat), packageOf (am_on t) = "" ∧ (dotted (am_on t)).toList.length ≤ 20 := by decide +kernel
theorem am_e_checkcast {w : Nat} (hx : p.tables.exec = Jvm.exec) (hb : c.code = cc) (hf : am_fmok fm) (hl : len = 3) (X : am_Wd s0 ad fm cid slo s) (hlocks : meth.locks = false) (hown : s.vm.findClass (am_on o) = some m.cls) (hHR : am_HR s args (am_on o) am_xn cid hs c.exceptionTable.toList) (htr : e.platform.stackTraces = false) (hRf : 8 < R.frames) (hRl : 10300 ≤ R.locals) (hRc : (amC - n0).toNat ≤ R.cells) (hRs : (amS - s1).toNat ≤ R.slots) (hml : c.maxLocals = L.length) (hSl : S.length ≤ 24) (hg2 : b2 → mm 0 2 = 1) (hg3 : b3 → mm 0 3 = 1) (hxt : x = (w : Int)) (hcl : (o, idx, w) ∈ am_cL) (hw : w ∈ ([5, 6, 7, 10, 18] : List Nat)) (hd : decode cc pc = .ok (.checkcast idx, len)) (hnx : ∀ L S mm, nx L S mm → am_S p l e R s m args below meth c s0 ad fm cid slo am_cF am_ft (am_Post s0 ad fm cid slo am_cF am_ft s below Q n0 s1 b2 b3) n0 s1 (pc + len) L S mm) (hjp : ∀ t L S mm, jp t L S mm → am_S p l e R s m args below meth c s0 ad fm cid slo am_cF am_ft (am_Post s0 ad fm cid slo am_cF am_ft s below Q n0 s1 b2 b3) n0 s1 t L S mm) (h : am_istep G ca hs Q nx jp (pc, .checkcast idx, len, x, y, z) L S mm) : am_S p l e R s m args below meth c s0 ad fm cid slo am_cF am_ft (am_Post s0 ad fm cid slo am_cF am_ft s below Q n0 s1 b2 b3) n0 s1 pc L S mm := by
  subst hl
  subst hxt
  rcases S with _ | ⟨v0, S⟩
  · exact False.elim h
  · rcases v0 with v0 | v0 | v0 | v0
    · exact False.elim h
    · exact False.elim h
    · by_cases hok : am_ok (w : Int) (mm v0 (-1))
      · exact am_yes_cast hx hb X hown hcl hw hok hd (hnx _ _ _ (h.2.1 hok))
      · obtain ⟨h5, hn⟩ := h.2.2 hok
        have hm : ∃ t ∈ ([5, 6, 7, 10] : List Nat), mm v0 (-1) = (t : Int) := by
          rcases h5 with q | q | q | q
          · exact ⟨5, by decide, q⟩
          · exact ⟨6, by decide, q⟩
          · exact ⟨7, by decide, q⟩
          · exact ⟨10, by decide, q⟩
        obtain ⟨t, ht, et⟩ := hm
        obtain ⟨q1, q2, q3⟩ := am_cst w hw t ht (by rw [← et]; exact hok)
        have ht2 : t ∈ ([5, 6, 7, 10, 18] : List Nat) := by
          simp only [List.mem_cons, List.not_mem_nil, or_false] at ht ⊢
          omega
        have hne : mm v0 (-1) ≠ 0 := by rw [et]; simp only [List.mem_cons, List.not_mem_nil, or_false] at ht; omega
        have hC := (am_cT_at X q3).1
        rw [← q2, ← et] at hC
        obtain ⟨ks, hks, n1, n2, n3⟩ := am_fc_spec hC
        obtain ⟨cA, cB, f1, f2, f3⟩ := X.ncs _ q1
        have f0 : cA = cid (mm v0 (-1)) := Option.some.inj (f1.symm.trans hC)
        subst f0
        refine am_s_msg (ci := 63) (r := aR v0 :: S) hx X hlocks hown hHR htr hRf hRl hRc hRs hml (by assumption) hg2 hg3 hjp hSl (Or.inr (Or.inl rfl)) (fun H locs ls T hR hS hT Y => ?_) hn
        obtain ⟨cell, c1, c2, c3⟩ := hR.of hne
        obtain ⟨vm', ks', kt', Y', p1, p2, p3, p4, p5, p6, st⟩ := am_castNo Y hx hown (X.words args _ (am_cL_ok _ hcl)) (cell := cell) (ks := ks) (by rw [hT]; exact c1) c2 (by rw [c3]; exact hks) f2 (by rw [c3]; exact f3) (g := F0 m pc ls ((aR v0 :: S).map (am_c ad fm))) rfl (rest := S.map (am_c ad fm)) (by rw [List.map_cons, show am_c ad fm (aR v0) = am_rv ad fm v0 from rfl, (hR.rv hne).1]) (by rw [hb]; exact hd)
        obtain ⟨s1a, s1b⟩ := am_shw t ht2
        obtain ⟨s2a, s2b⟩ := am_shw w hw
        have hmod : modulesRight_1 (T.setVm vm') = true := by rw [← X.mods]; exact am_mods Y'.warmed.alike
        have sh1 : ks'.shown = dotted (am_on t) := by unfold Class.shown; rw [p2, n2, p1, n1]
        have sh2 : kt'.shown = dotted (am_on w) := by unfold Class.shown; rw [p5, p4]
        obtain ⟨g1, g2⟩ := am_cce (vm := vm') (ks := ks') (kt := kt') (by rw [p3]; exact n3) p6 (by rw [p1, n1]; exact s1a) (by rw [p4]; exact s2a) (by rw [sh1]; exact s1b) (by rw [sh2]; exact s2b) hmod
        exact ⟨vm', _, Y', g1, g2, st⟩
    · exact False.elim h
theorem am_athrow {T : State} {locs : List Loc} {cells slots : Nat} (X : Stand p l e R s m args below meth c T locs cells slots) (hexec : p.tables.exec = Jvm.exec) {g : JFrame} (hg : g.method = m) {a : Addr} {rest : List Value} (hstack : g.stack = .ref a :: rest) (hdg : decode c.code g.pc = .ok (.athrow, 1)) :
    ∀ target, Steps p.tables e below ((T.setTop { g with stack := rest }).pushFrame (.throwing a)) target → Steps p.tables e below (T.setTop g) target := by
  intro target hrest
  subst hg
  jvm_step X.here [hexec, hdg, athrow.sem, hstack]
  exact hrest
theorem am_e_athrow  (hx : p.tables.exec = Jvm.exec) (hb : c.code = cc) (hf : am_fmok fm) (hl : len = 1) (X : am_Wd s0 ad fm cid slo s) (hlocks : meth.locks = false) (hown : s.vm.findClass (am_on o) = some m.cls) (hHR : am_HR s args (am_on o) am_xn cid hs c.exceptionTable.toList) (htr : e.platform.stackTraces = false) (hRf : 8 < R.frames) (hRl : 10300 ≤ R.locals) (hRc : (amC - n0).toNat ≤ R.cells) (hRs : (amS - s1).toNat ≤ R.slots) (hml : c.maxLocals = L.length) (hSl : S.length ≤ 24) (hg2 : b2 → mm 0 2 = 1) (hg3 : b3 → mm 0 3 = 1) (hh : ∀ q, am_hnd hs pc q = none) (hd : decode cc pc = .ok (.athrow, len)) (hnx : ∀ L S mm, nx L S mm → am_S p l e R s m args below meth c s0 ad fm cid slo am_cF am_ft (am_Post s0 ad fm cid slo am_cF am_ft s below Q n0 s1 b2 b3) n0 s1 (pc + len) L S mm) (hjp : ∀ t L S mm, jp t L S mm → am_S p l e R s m args below meth c s0 ad fm cid slo am_cF am_ft (am_Post s0 ad fm cid slo am_cF am_ft s below Q n0 s1 b2 b3) n0 s1 t L S mm) (h : am_istep G ca hs Q nx jp (pc, .athrow, len, x, y, z) L S mm) : am_S p l e R s m args below meth c s0 ad fm cid slo am_cF am_ft (am_Post s0 ad fm cid slo am_cF am_ft s below Q n0 s1 b2 b3) n0 s1 pc L S mm := by
  subst hl
  rcases S with _ | ⟨v0, S⟩
  · exact False.elim h
  · rcases v0 with v0 | v0 | v0 | v0
    · exact False.elim h
    · exact False.elim h
    · obtain ⟨⟨h0, h1⟩, -, h2⟩ := h
      have hne : mm v0 (-1) ≠ 0 := by omega
      have hisx : am_isX (mm v0 (-1)) = true := by rcases h1 with e | e <;> rw [e] <;> rfl
      intro H locs ls hR hlo hL hS n0h s1h T hT Y
      have hexc : am_exc hs Q jp pc L (mm v0 (-1)) v0 mm := by
        unfold am_exc
        rw [hh]
        exact h2
      obtain ⟨t, a1, b1⟩ := am_thr (pc := pc) (rest := S.map (am_c ad fm)) X hlocks hown hHR (by rw [hT]; exact hR) ⟨rfl, h0, hisx⟩ n0h s1h hlo hg2 hg3 rfl rfl Y hL hjp hexc
      exact ⟨t, am_athrow Y hx (g := F0 m pc ls ((aR v0 :: S).map (am_c ad fm))) rfl (rest := S.map (am_c ad fm)) (by rw [List.map_cons, show am_c ad fm (aR v0) = am_rv ad fm v0 from rfl, (hR.rv hne).1]) (by rw [hb]; exact hd) t a1, b1⟩
    · exact False.elim h
end Exec8
