/-! FROM AN ABSTRACT STEP TO THE MACHINE's: fields and arrays; by tools/genexec3.py -/
theorem am_clsAt {vm : Vm} {n : String} {ci : ClassId} (h : vm.findClass n = some ci) : ∃ k, vm.classes[ci]? = some k := by
  obtain ⟨hlt, -, -⟩ := Array.findIdx?_eq_some_iff_getElem.mp h
  exact ⟨_, Array.getElem?_eq_getElem hlt⟩
theorem am_ok_eq {x t : Int} (h : x ≠ 12 ∧ x ≠ 18 ∧ x ≠ 19) (hk : am_ok x t) : t = x := by
  unfold am_ok at hk
  split at hk
  · exact absurd rfl h.1
  · exact absurd rfl h.2.1
  · exact absurd rfl h.2.2
  · exact hk
theorem am_on_cN : ∀ t ∈ ([13, 14, 15, 16, 17] : List Int), am_on t.toNat = am_cN t ∧ (t.toNat, 12) ∈ am_cs ∧ am_isO t = true := by decide +kernel
/-- what an element of an array must be -/
theorem am_ast {s0 s : State} {ad : Int → Nat} {fm : Value} {cid : Int → ClassId} {slo : Int → Nat → Nat} (X : am_Wd s0 ad fm cid slo s) {x t : Int} (h5 : x = 30 ∨ x = 7 ∨ x = 4 ∨ x = 11 ∨ x = 12) (hok : am_ok x t) : ∃ C, am_aty (am_over x) = .object C ∧ am_isO t = true ∧ ∃ kv, s.vm.classes[cid t]? = some kv ∧ ∀ comp, s.vm.findClass C = some comp → s.vm.assignable (cid t) comp = true ∧ ∃ kc, s.vm.classes[comp]? = some kc := by
  have one : ∀ t, am_isO t = true → am_aty (am_over t) = .object (am_cN t) → ∃ C, am_aty (am_over t) = .object C ∧ am_isO t = true ∧ ∃ kv, s.vm.classes[cid t]? = some kv ∧ ∀ comp, s.vm.findClass C = some comp → s.vm.assignable (cid t) comp = true ∧ ∃ kc, s.vm.classes[comp]? = some kc := by
    intro t ho ha
    have hc := (X.kn t ho).2
    obtain ⟨hfc, k, hk, hkind⟩ := hc
    refine ⟨am_cN t, ha, ho, k, hk, fun comp hcomp => ?_⟩
    cases hfc.symm.trans hcomp
    exact ⟨va_assign (X.kn t ho).2, k, hk⟩
  rcases h5 with rfl | rfl | rfl | rfl | rfl
  · cases am_ok_eq (by decide) hok; exact one 30 rfl rfl
  · cases am_ok_eq (by decide) hok; exact one 7 rfl rfl
  · cases am_ok_eq (by decide) hok; exact one 4 rfl rfl
  · cases am_ok_eq (by decide) hok; exact one 11 rfl rfl
  · have hok' : 13 ≤ t ∧ t ≤ 17 := hok
    obtain ⟨e1, e2, e3⟩ := am_on_cN t (by simp; omega)
    obtain ⟨hfc, k, hk, hkind⟩ := (X.kn t e3).2
    obtain ⟨c1, t1, f1, f2, f3⟩ := Cond.castable_spec (X.casts _ e2)
    have f1' : s.vm.findClass (am_on t.toNat) = some c1 := f1
    rw [e1] at f1'
    cases hfc.symm.trans f1'
    refine ⟨am_on 12, rfl, e3, k, hk, fun comp hcomp => ?_⟩
    have f2' : s.vm.findClass (am_on 12) = some t1 := f2
    cases f2'.symm.trans hcomp
    exact ⟨f3, am_clsAt hcomp⟩
section Exec3
variable {p : Program} {l : Launch} {e : Env} {R : Room} {s : State} {m : MethodId} {args : Array Value} {below : List Frame} {meth : Method} {c : Code} {cc : ByteArray} {s0 : State} {ad : Int → Nat} {fm : Value} {cid : Int → ClassId} {slo : Int → Nat → Nat} {Qf : State → Prop} {n0 s1 : Int} {pc len : Nat} {x y : Int} {z : Nat} {L S : List aV} {mm : aM} {G : Nat → aM → Prop} {ca : aC} {hs : aH} {Q : aO → aM → Prop} {nx : List aV → List aV → aM → Prop} {jp : Nat → List aV → List aV → aM → Prop} {md o : Nat}
theorem am_e_iaload0  (hx : p.tables.exec = Jvm.exec) (hb : c.code = cc) (hf : am_fmok fm) (hl : len = 1) (X : am_Wd s0 ad fm cid slo s) (hz : z = 0) (hd : decode cc pc = .ok (.iaload, len)) (hnx : ∀ L S mm, nx L S mm → am_S p l e R s m args below meth c s0 ad fm cid slo am_cF am_ft Qf n0 s1 (pc + len) L S mm) (hjp : ∀ t L S mm, jp t L S mm → am_S p l e R s m args below meth c s0 ad fm cid slo am_cF am_ft Qf n0 s1 t L S mm) (h : am_istep G ca hs Q nx jp (pc, .iaload, len, x, y, z) L S mm) : am_S p l e R s m args below meth c s0 ad fm cid slo am_cF am_ft Qf n0 s1 pc L S mm := by
  subst hl
  subst hz
  rcases S with _ | ⟨v0, S⟩
  · exact False.elim h
  · rcases v0 with v0 | v0 | v0 | v0
    · rcases S with _ | ⟨v1, S⟩
      · exact False.elim h
      · rcases v1 with v1 | v1 | v1 | v1
        · exact False.elim h
        · exact False.elim h
        · exact am_s_iaload hx hb (X.arr 40 rfl).1 h.1.1 h.1.2 hd (hnx _ _ _ h.2)
        · exact False.elim h
    · exact False.elim h
    · exact False.elim h
    · exact False.elim h
theorem am_e_iaload1  (hx : p.tables.exec = Jvm.exec) (hb : c.code = cc) (hf : am_fmok fm) (hl : len = 1) (X : am_Wd s0 ad fm cid slo s) (hg : am_gd md mm) (hz : z = 1) (hst : am_l3 x (am_sfs md) = some (40, y)) (hd : decode cc pc = .ok (.iaload, len)) (hnx : ∀ L S mm, nx L S mm → am_S p l e R s m args below meth c s0 ad fm cid slo am_cF am_ft Qf n0 s1 (pc + len) L S mm) (hjp : ∀ t L S mm, jp t L S mm → am_S p l e R s m args below meth c s0 ad fm cid slo am_cF am_ft Qf n0 s1 t L S mm) (h : am_istep G ca hs Q nx jp (pc, .iaload, len, x, y, z) L S mm) : am_S p l e R s m args below meth c s0 ad fm cid slo am_cF am_ft Qf n0 s1 pc L S mm := by
  subst hl
  subst hz
  rcases S with _ | ⟨v0, S⟩
  · exact False.elim h
  · rcases v0 with v0 | v0 | v0 | v0
    · rcases S with _ | ⟨v1, S⟩
      · exact False.elim h
      · rcases v1 with v1 | v1 | v1 | v1
        · exact False.elim h
        · exact False.elim h
        · refine am_S_rep (fun H hR => ?_)
          obtain ⟨e1, e2⟩ := hR.st hg hst
          obtain ⟨⟨h0, h1, h2⟩, h3⟩ := h
          subst h0
          exact am_s_iaload hx hb (X.arr 40 rfl).1 e1 ⟨h1, by rw [e2 (by decide)]; exact h2⟩ hd (hnx _ _ _ h3)
        · exact False.elim h
    · exact False.elim h
    · exact False.elim h
    · exact False.elim h
theorem am_e_laload0  (hx : p.tables.exec = Jvm.exec) (hb : c.code = cc) (hf : am_fmok fm) (hl : len = 1) (X : am_Wd s0 ad fm cid slo s) (hz : z = 0) (hd : decode cc pc = .ok (.laload, len)) (hnx : ∀ L S mm, nx L S mm → am_S p l e R s m args below meth c s0 ad fm cid slo am_cF am_ft Qf n0 s1 (pc + len) L S mm) (hjp : ∀ t L S mm, jp t L S mm → am_S p l e R s m args below meth c s0 ad fm cid slo am_cF am_ft Qf n0 s1 t L S mm) (h : am_istep G ca hs Q nx jp (pc, .laload, len, x, y, z) L S mm) : am_S p l e R s m args below meth c s0 ad fm cid slo am_cF am_ft Qf n0 s1 pc L S mm := by
  subst hl
  subst hz
  rcases S with _ | ⟨v0, S⟩
  · exact False.elim h
  · rcases v0 with v0 | v0 | v0 | v0
    · rcases S with _ | ⟨v1, S⟩
      · exact False.elim h
      · rcases v1 with v1 | v1 | v1 | v1
        · exact False.elim h
        · exact False.elim h
        · exact am_s_laload hx hb (X.arr 41 rfl).1 h.1.1 h.1.2 hd (hnx _ _ _ h.2)
        · exact False.elim h
    · exact False.elim h
    · exact False.elim h
    · exact False.elim h
theorem am_e_laload1  (hx : p.tables.exec = Jvm.exec) (hb : c.code = cc) (hf : am_fmok fm) (hl : len = 1) (X : am_Wd s0 ad fm cid slo s) (hg : am_gd md mm) (hz : z = 1) (hst : am_l3 x (am_sfs md) = some (41, y)) (hd : decode cc pc = .ok (.laload, len)) (hnx : ∀ L S mm, nx L S mm → am_S p l e R s m args below meth c s0 ad fm cid slo am_cF am_ft Qf n0 s1 (pc + len) L S mm) (hjp : ∀ t L S mm, jp t L S mm → am_S p l e R s m args below meth c s0 ad fm cid slo am_cF am_ft Qf n0 s1 t L S mm) (h : am_istep G ca hs Q nx jp (pc, .laload, len, x, y, z) L S mm) : am_S p l e R s m args below meth c s0 ad fm cid slo am_cF am_ft Qf n0 s1 pc L S mm := by
  subst hl
  subst hz
  rcases S with _ | ⟨v0, S⟩
  · exact False.elim h
  · rcases v0 with v0 | v0 | v0 | v0
    · rcases S with _ | ⟨v1, S⟩
      · exact False.elim h
      · rcases v1 with v1 | v1 | v1 | v1
        · exact False.elim h
        · exact False.elim h
        · refine am_S_rep (fun H hR => ?_)
          obtain ⟨e1, e2⟩ := hR.st hg hst
          obtain ⟨⟨h0, h1, h2⟩, h3⟩ := h
          subst h0
          exact am_s_laload hx hb (X.arr 41 rfl).1 e1 ⟨h1, by rw [e2 (by decide)]; exact h2⟩ hd (hnx _ _ _ h3)
        · exact False.elim h
    · exact False.elim h
    · exact False.elim h
    · exact False.elim h
theorem am_e_baload0  (hx : p.tables.exec = Jvm.exec) (hb : c.code = cc) (hf : am_fmok fm) (hl : len = 1) (X : am_Wd s0 ad fm cid slo s) (hz : z = 0) (hd : decode cc pc = .ok (.baload, len)) (hnx : ∀ L S mm, nx L S mm → am_S p l e R s m args below meth c s0 ad fm cid slo am_cF am_ft Qf n0 s1 (pc + len) L S mm) (hjp : ∀ t L S mm, jp t L S mm → am_S p l e R s m args below meth c s0 ad fm cid slo am_cF am_ft Qf n0 s1 t L S mm) (h : am_istep G ca hs Q nx jp (pc, .baload, len, x, y, z) L S mm) : am_S p l e R s m args below meth c s0 ad fm cid slo am_cF am_ft Qf n0 s1 pc L S mm := by
  subst hl
  subst hz
  rcases S with _ | ⟨v0, S⟩
  · exact False.elim h
  · rcases v0 with v0 | v0 | v0 | v0
    · rcases S with _ | ⟨v1, S⟩
      · exact False.elim h
      · rcases v1 with v1 | v1 | v1 | v1
        · exact False.elim h
        · exact False.elim h
        · exact am_s_baloadz hx hb (X.arr 42 rfl).1 h.1.1 h.1.2 hd (hnx _ _ _ h.2)
        · exact False.elim h
    · exact False.elim h
    · exact False.elim h
    · exact False.elim h
theorem am_e_baload1  (hx : p.tables.exec = Jvm.exec) (hb : c.code = cc) (hf : am_fmok fm) (hl : len = 1) (X : am_Wd s0 ad fm cid slo s) (hg : am_gd md mm) (hz : z = 1) (hst : am_l3 x (am_sfs md) = some (42, y)) (hd : decode cc pc = .ok (.baload, len)) (hnx : ∀ L S mm, nx L S mm → am_S p l e R s m args below meth c s0 ad fm cid slo am_cF am_ft Qf n0 s1 (pc + len) L S mm) (hjp : ∀ t L S mm, jp t L S mm → am_S p l e R s m args below meth c s0 ad fm cid slo am_cF am_ft Qf n0 s1 t L S mm) (h : am_istep G ca hs Q nx jp (pc, .baload, len, x, y, z) L S mm) : am_S p l e R s m args below meth c s0 ad fm cid slo am_cF am_ft Qf n0 s1 pc L S mm := by
  subst hl
  subst hz
  rcases S with _ | ⟨v0, S⟩
  · exact False.elim h
  · rcases v0 with v0 | v0 | v0 | v0
    · rcases S with _ | ⟨v1, S⟩
      · exact False.elim h
      · rcases v1 with v1 | v1 | v1 | v1
        · exact False.elim h
        · exact False.elim h
        · refine am_S_rep (fun H hR => ?_)
          obtain ⟨e1, e2⟩ := hR.st hg hst
          obtain ⟨⟨h0, h1, h2⟩, h3⟩ := h
          subst h0
          exact am_s_baloadz hx hb (X.arr 42 rfl).1 e1 ⟨h1, by rw [e2 (by decide)]; exact h2⟩ hd (hnx _ _ _ h3)
        · exact False.elim h
    · exact False.elim h
    · exact False.elim h
    · exact False.elim h
theorem am_e_baload3  (hx : p.tables.exec = Jvm.exec) (hb : c.code = cc) (hf : am_fmok fm) (hl : len = 1) (X : am_Wd s0 ad fm cid slo s) (hg : am_gd md mm) (hz : z = 3) (hst : am_l3 x (am_sfs md) = some (43, y)) (hd : decode cc pc = .ok (.baload, len)) (hnx : ∀ L S mm, nx L S mm → am_S p l e R s m args below meth c s0 ad fm cid slo am_cF am_ft Qf n0 s1 (pc + len) L S mm) (hjp : ∀ t L S mm, jp t L S mm → am_S p l e R s m args below meth c s0 ad fm cid slo am_cF am_ft Qf n0 s1 t L S mm) (h : am_istep G ca hs Q nx jp (pc, .baload, len, x, y, z) L S mm) : am_S p l e R s m args below meth c s0 ad fm cid slo am_cF am_ft Qf n0 s1 pc L S mm := by
  subst hl
  subst hz
  rcases S with _ | ⟨v0, S⟩
  · exact False.elim h
  · rcases v0 with v0 | v0 | v0 | v0
    · rcases S with _ | ⟨v1, S⟩
      · exact False.elim h
      · rcases v1 with v1 | v1 | v1 | v1
        · exact False.elim h
        · exact False.elim h
        · refine am_S_rep (fun H hR => ?_)
          obtain ⟨e1, e2⟩ := hR.st hg hst
          obtain ⟨⟨h0, h1, h2⟩, h3⟩ := h
          subst h0
          exact am_s_baloadb hx hb (X.arr 43 rfl).1 e1 ⟨h1, by rw [e2 (by decide)]; exact h2⟩ hd (hnx _ _ _ h3)
        · exact False.elim h
    · exact False.elim h
    · exact False.elim h
    · exact False.elim h
theorem am_e_baload1k  (hx : p.tables.exec = Jvm.exec) (hb : c.code = cc) (hf : am_fmok fm) (hl : len = 1) (X : am_Wd s0 ad fm cid slo s) (hz : z = 2) (hd : decode cc pc = .ok (.baload, len)) (hnx : ∀ L S mm, nx L S mm → am_S p l e R s m args below meth c s0 ad fm cid slo am_cF am_ft Qf n0 s1 (pc + len) L S mm) (hjp : ∀ t L S mm, jp t L S mm → am_S p l e R s m args below meth c s0 ad fm cid slo am_cF am_ft Qf n0 s1 t L S mm) (h : am_istep G ca hs Q nx jp (pc, .baload, len, x, y, z) L S mm) : am_S p l e R s m args below meth c s0 ad fm cid slo am_cF am_ft Qf n0 s1 pc L S mm := by
  subst hl
  subst hz
  rcases S with _ | ⟨v0, S⟩
  · exact False.elim h
  · rcases v0 with v0 | v0 | v0 | v0
    · rcases S with _ | ⟨v1, S⟩
      · exact False.elim h
      · rcases v1 with v1 | v1 | v1 | v1
        · exact False.elim h
        · exact False.elim h
        · exact am_s_baload1k hx hb (by have := (X.arr (mm v1 (-1)) (by unfold am_isA; simp only [Bool.or_eq_true, Bool.and_eq_true, decide_eq_true_eq]; exact Or.inr h.1.1)).1; rw [show am_aty (mm v1 (-1)) = .byte from if_pos h.1.1.1] at this; exact this) h.1.1 h.1.2 hd (hnx _ _ _ h.2)
        · exact False.elim h
    · exact False.elim h
    · exact False.elim h
    · exact False.elim h
theorem am_e_iaload3  (hx : p.tables.exec = Jvm.exec) (hb : c.code = cc) (hf : am_fmok fm) (hl : len = 1) (X : am_Wd s0 ad fm cid slo s) (hz : z = 3) (hd : decode cc pc = .ok (.iaload, len)) (hnx : ∀ L S mm, nx L S mm → am_S p l e R s m args below meth c s0 ad fm cid slo am_cF am_ft Qf n0 s1 (pc + len) L S mm) (hjp : ∀ t L S mm, jp t L S mm → am_S p l e R s m args below meth c s0 ad fm cid slo am_cF am_ft Qf n0 s1 t L S mm) (h : am_istep G ca hs Q nx jp (pc, .iaload, len, x, y, z) L S mm) : am_S p l e R s m args below meth c s0 ad fm cid slo am_cF am_ft Qf n0 s1 pc L S mm := by
  subst hl
  subst hz
  rcases S with _ | ⟨v0, S⟩
  · exact False.elim h
  · rcases v0 with v0 | v0 | v0 | v0
    · rcases S with _ | ⟨v1, S⟩
      · exact False.elim h
      · rcases v1 with v1 | v1 | v1 | v1
        · exact False.elim h
        · exact False.elim h
        · exact am_s_iaload49 hx hb (X.arr 49 rfl).1 h.1.1 h.1.2 hd (hnx _ _ _ h.2)
        · exact False.elim h
    · exact False.elim h
    · exact False.elim h
    · exact False.elim h
theorem am_e_aaload0  (hx : p.tables.exec = Jvm.exec) (hb : c.code = cc) (hf : am_fmok fm) (hl : len = 1) (X : am_Wd s0 ad fm cid slo s) (hz : z = 0) (h5 : x = 30 ∨ x = 7 ∨ x = 4 ∨ x = 11 ∨ x = 12) (hd : decode cc pc = .ok (.aaload, len)) (hnx : ∀ L S mm, nx L S mm → am_S p l e R s m args below meth c s0 ad fm cid slo am_cF am_ft Qf n0 s1 (pc + len) L S mm) (hjp : ∀ t L S mm, jp t L S mm → am_S p l e R s m args below meth c s0 ad fm cid slo am_cF am_ft Qf n0 s1 t L S mm) (h : am_istep G ca hs Q nx jp (pc, .aaload, len, x, y, z) L S mm) : am_S p l e R s m args below meth c s0 ad fm cid slo am_cF am_ft Qf n0 s1 pc L S mm := by
  subst hl
  subst hz
  rcases S with _ | ⟨v0, S⟩
  · exact False.elim h
  · rcases v0 with v0 | v0 | v0 | v0
    · rcases S with _ | ⟨v1, S⟩
      · exact False.elim h
      · rcases v1 with v1 | v1 | v1 | v1
        · exact False.elim h
        · exact False.elim h
        · have ht : 44 ≤ am_over x ∧ am_over x ≤ 48 := by rcases h5 with rfl | rfl | rfl | rfl | rfl <;> decide
          have hA : am_isA (am_over x) = true := by rcases h5 with rfl | rfl | rfl | rfl | rfl <;> rfl
          exact am_s_aaload hx hb (by rw [h.1.1]; exact (X.arr _ hA).1) (by rw [h.1.1]; exact ht) h.1.2 hd (hnx _ _ _ h.2)
        · exact False.elim h
    · exact False.elim h
    · exact False.elim h
    · exact False.elim h
theorem am_e_aaload1 {t : Int} (hx : p.tables.exec = Jvm.exec) (hb : c.code = cc) (hf : am_fmok fm) (hl : len = 1) (X : am_Wd s0 ad fm cid slo s) (hg : am_gd md mm) (hz : z = 1) (ht : 44 ≤ t ∧ t ≤ 48) (hA : am_isA t = true) (hst : am_l3 x (am_sfs md) = some (t, y)) (hd : decode cc pc = .ok (.aaload, len)) (hnx : ∀ L S mm, nx L S mm → am_S p l e R s m args below meth c s0 ad fm cid slo am_cF am_ft Qf n0 s1 (pc + len) L S mm) (hjp : ∀ t L S mm, jp t L S mm → am_S p l e R s m args below meth c s0 ad fm cid slo am_cF am_ft Qf n0 s1 t L S mm) (h : am_istep G ca hs Q nx jp (pc, .aaload, len, x, y, z) L S mm) : am_S p l e R s m args below meth c s0 ad fm cid slo am_cF am_ft Qf n0 s1 pc L S mm := by
  subst hl
  subst hz
  rcases S with _ | ⟨v0, S⟩
  · exact False.elim h
  · rcases v0 with v0 | v0 | v0 | v0
    · rcases S with _ | ⟨v1, S⟩
      · exact False.elim h
      · rcases v1 with v1 | v1 | v1 | v1
        · exact False.elim h
        · exact False.elim h
        · refine am_S_rep (fun H hR => ?_)
          obtain ⟨e1, e2⟩ := hR.st hg hst
          obtain ⟨⟨h0, h1, h2⟩, h3⟩ := h
          subst h0
          exact am_s_aaload hx hb (by rw [e1]; exact (X.arr _ hA).1) (by rw [e1]; exact ht) ⟨h1, by rw [e2 (by omega)]; exact h2⟩ hd (hnx _ _ _ h3)
        · exact False.elim h
    · exact False.elim h
    · exact False.elim h
    · exact False.elim h
theorem am_e_iastore0  (hx : p.tables.exec = Jvm.exec) (hb : c.code = cc) (hf : am_fmok fm) (hl : len = 1) (X : am_Wd s0 ad fm cid slo s) (hz : z = 0) (hd : decode cc pc = .ok (.iastore, len)) (hnx : ∀ L S mm, nx L S mm → am_S p l e R s m args below meth c s0 ad fm cid slo am_cF am_ft Qf n0 s1 (pc + len) L S mm) (hjp : ∀ t L S mm, jp t L S mm → am_S p l e R s m args below meth c s0 ad fm cid slo am_cF am_ft Qf n0 s1 t L S mm) (h : am_istep G ca hs Q nx jp (pc, .iastore, len, x, y, z) L S mm) : am_S p l e R s m args below meth c s0 ad fm cid slo am_cF am_ft Qf n0 s1 pc L S mm := by
  subst hl
  subst hz
  rcases S with _ | ⟨v0, S⟩
  · exact False.elim h
  · rcases v0 with v0 | v0 | v0 | v0
    · rcases S with _ | ⟨v1, S⟩
      · exact False.elim h
      · rcases v1 with v1 | v1 | v1 | v1
        · rcases S with _ | ⟨v2, S⟩
          · exact False.elim h
          · rcases v2 with v2 | v2 | v2 | v2
            · exact False.elim h
            · exact False.elim h
            · exact am_S_rep (fun H hR => am_s_iastore hx hb X.had (X.arr 40 rfl).1 h.1.2.1 h.1.2.2 (hR.may h.1.1 h.1.2.2.1 (am_fin_no (by rw [h.1.2.1]; decide))) hd (hnx _ _ _ h.2))
            · exact False.elim h
        · exact False.elim h
        · exact False.elim h
        · exact False.elim h
    · rcases S with _ | ⟨v1, S⟩
      · exact False.elim h
      · rcases v1 with v1 | v1 | v1 | v1
        · rcases S with _ | ⟨v2, S⟩
          · exact False.elim h
          · rcases v2 with v2 | v2 | v2 | v2
            · exact False.elim h
            · exact False.elim h
            · exact False.elim h
            · exact False.elim h
        · exact False.elim h
        · exact False.elim h
        · exact False.elim h
    · exact False.elim h
    · exact False.elim h
theorem am_e_iastore1  (hx : p.tables.exec = Jvm.exec) (hb : c.code = cc) (hf : am_fmok fm) (hl : len = 1) (X : am_Wd s0 ad fm cid slo s) (hg : am_gd md mm) (hz : z = 1) (hx0 : 0 < x) (hst : am_l3 x (am_sfs md) = some (40, y)) (hd : decode cc pc = .ok (.iastore, len)) (hnx : ∀ L S mm, nx L S mm → am_S p l e R s m args below meth c s0 ad fm cid slo am_cF am_ft Qf n0 s1 (pc + len) L S mm) (hjp : ∀ t L S mm, jp t L S mm → am_S p l e R s m args below meth c s0 ad fm cid slo am_cF am_ft Qf n0 s1 t L S mm) (h : am_istep G ca hs Q nx jp (pc, .iastore, len, x, y, z) L S mm) : am_S p l e R s m args below meth c s0 ad fm cid slo am_cF am_ft Qf n0 s1 pc L S mm := by
  subst hl
  subst hz
  rcases S with _ | ⟨v0, S⟩
  · exact False.elim h
  · rcases v0 with v0 | v0 | v0 | v0
    · rcases S with _ | ⟨v1, S⟩
      · exact False.elim h
      · rcases v1 with v1 | v1 | v1 | v1
        · rcases S with _ | ⟨v2, S⟩
          · exact False.elim h
          · rcases v2 with v2 | v2 | v2 | v2
            · exact False.elim h
            · exact False.elim h
            · refine am_S_rep (fun H hR => ?_)
              obtain ⟨e1, e2⟩ := hR.st hg hst
              obtain ⟨⟨h0, h1, h2⟩, h3⟩ := h
              subst h0
              exact am_s_iastore hx hb X.had (X.arr 40 rfl).1 e1 ⟨h1, by rw [e2 (by decide)]; exact h2⟩ (hR.may hx0 h1 (am_fin_no (by rw [e1]; decide))) hd (hnx _ _ _ h3)
            · exact False.elim h
        · exact False.elim h
        · exact False.elim h
        · exact False.elim h
    · rcases S with _ | ⟨v1, S⟩
      · exact False.elim h
      · rcases v1 with v1 | v1 | v1 | v1
        · rcases S with _ | ⟨v2, S⟩
          · exact False.elim h
          · rcases v2 with v2 | v2 | v2 | v2
            · exact False.elim h
            · exact False.elim h
            · exact False.elim h
            · exact False.elim h
        · exact False.elim h
        · exact False.elim h
        · exact False.elim h
    · exact False.elim h
    · exact False.elim h
theorem am_e_lastore0  (hx : p.tables.exec = Jvm.exec) (hb : c.code = cc) (hf : am_fmok fm) (hl : len = 1) (X : am_Wd s0 ad fm cid slo s) (hz : z = 0) (hd : decode cc pc = .ok (.lastore, len)) (hnx : ∀ L S mm, nx L S mm → am_S p l e R s m args below meth c s0 ad fm cid slo am_cF am_ft Qf n0 s1 (pc + len) L S mm) (hjp : ∀ t L S mm, jp t L S mm → am_S p l e R s m args below meth c s0 ad fm cid slo am_cF am_ft Qf n0 s1 t L S mm) (h : am_istep G ca hs Q nx jp (pc, .lastore, len, x, y, z) L S mm) : am_S p l e R s m args below meth c s0 ad fm cid slo am_cF am_ft Qf n0 s1 pc L S mm := by
  subst hl
  subst hz
  rcases S with _ | ⟨v0, S⟩
  · exact False.elim h
  · rcases v0 with v0 | v0 | v0 | v0
    · rcases S with _ | ⟨v1, S⟩
      · exact False.elim h
      · rcases v1 with v1 | v1 | v1 | v1
        · rcases S with _ | ⟨v2, S⟩
          · exact False.elim h
          · rcases v2 with v2 | v2 | v2 | v2
            · exact False.elim h
            · exact False.elim h
            · exact False.elim h
            · exact False.elim h
        · exact False.elim h
        · exact False.elim h
        · exact False.elim h
    · rcases S with _ | ⟨v1, S⟩
      · exact False.elim h
      · rcases v1 with v1 | v1 | v1 | v1
        · rcases S with _ | ⟨v2, S⟩
          · exact False.elim h
          · rcases v2 with v2 | v2 | v2 | v2
            · exact False.elim h
            · exact False.elim h
            · exact am_S_rep (fun H hR => am_s_lastore hx hb X.had (X.arr 41 rfl).1 h.1.2.1 h.1.2.2 (hR.may h.1.1 h.1.2.2.1 (am_fin_no (by rw [h.1.2.1]; decide))) hd (hnx _ _ _ h.2))
            · exact False.elim h
        · exact False.elim h
        · exact False.elim h
        · exact False.elim h
    · exact False.elim h
    · exact False.elim h
theorem am_e_lastore1  (hx : p.tables.exec = Jvm.exec) (hb : c.code = cc) (hf : am_fmok fm) (hl : len = 1) (X : am_Wd s0 ad fm cid slo s) (hg : am_gd md mm) (hz : z = 1) (hx0 : 0 < x) (hst : am_l3 x (am_sfs md) = some (41, y)) (hd : decode cc pc = .ok (.lastore, len)) (hnx : ∀ L S mm, nx L S mm → am_S p l e R s m args below meth c s0 ad fm cid slo am_cF am_ft Qf n0 s1 (pc + len) L S mm) (hjp : ∀ t L S mm, jp t L S mm → am_S p l e R s m args below meth c s0 ad fm cid slo am_cF am_ft Qf n0 s1 t L S mm) (h : am_istep G ca hs Q nx jp (pc, .lastore, len, x, y, z) L S mm) : am_S p l e R s m args below meth c s0 ad fm cid slo am_cF am_ft Qf n0 s1 pc L S mm := by
  subst hl
  subst hz
  rcases S with _ | ⟨v0, S⟩
  · exact False.elim h
  · rcases v0 with v0 | v0 | v0 | v0
    · rcases S with _ | ⟨v1, S⟩
      · exact False.elim h
      · rcases v1 with v1 | v1 | v1 | v1
        · rcases S with _ | ⟨v2, S⟩
          · exact False.elim h
          · rcases v2 with v2 | v2 | v2 | v2
            · exact False.elim h
            · exact False.elim h
            · exact False.elim h
            · exact False.elim h
        · exact False.elim h
        · exact False.elim h
        · exact False.elim h
    · rcases S with _ | ⟨v1, S⟩
      · exact False.elim h
      · rcases v1 with v1 | v1 | v1 | v1
        · rcases S with _ | ⟨v2, S⟩
          · exact False.elim h
          · rcases v2 with v2 | v2 | v2 | v2
            · exact False.elim h
            · exact False.elim h
            · refine am_S_rep (fun H hR => ?_)
              obtain ⟨e1, e2⟩ := hR.st hg hst
              obtain ⟨⟨h0, h1, h2⟩, h3⟩ := h
              subst h0
              exact am_s_lastore hx hb X.had (X.arr 41 rfl).1 e1 ⟨h1, by rw [e2 (by decide)]; exact h2⟩ (hR.may hx0 h1 (am_fin_no (by rw [e1]; decide))) hd (hnx _ _ _ h3)
            · exact False.elim h
        · exact False.elim h
        · exact False.elim h
        · exact False.elim h
    · exact False.elim h
    · exact False.elim h
theorem am_e_bastore0  (hx : p.tables.exec = Jvm.exec) (hb : c.code = cc) (hf : am_fmok fm) (hl : len = 1) (X : am_Wd s0 ad fm cid slo s) (hz : z = 0) (hd : decode cc pc = .ok (.bastore, len)) (hnx : ∀ L S mm, nx L S mm → am_S p l e R s m args below meth c s0 ad fm cid slo am_cF am_ft Qf n0 s1 (pc + len) L S mm) (hjp : ∀ t L S mm, jp t L S mm → am_S p l e R s m args below meth c s0 ad fm cid slo am_cF am_ft Qf n0 s1 t L S mm) (h : am_istep G ca hs Q nx jp (pc, .bastore, len, x, y, z) L S mm) : am_S p l e R s m args below meth c s0 ad fm cid slo am_cF am_ft Qf n0 s1 pc L S mm := by
  subst hl
  subst hz
  rcases S with _ | ⟨v0, S⟩
  · exact False.elim h
  · rcases v0 with v0 | v0 | v0 | v0
    · rcases S with _ | ⟨v1, S⟩
      · exact False.elim h
      · rcases v1 with v1 | v1 | v1 | v1
        · rcases S with _ | ⟨v2, S⟩
          · exact False.elim h
          · rcases v2 with v2 | v2 | v2 | v2
            · exact False.elim h
            · exact False.elim h
            · exact am_S_rep (fun H hR => am_s_bastore hx hb X.had (X.arr 42 rfl).1 h.1.2.1 h.1.2.2.2 (hR.may h.1.1 h.1.2.2.2.1 (am_fin_no (by rw [h.1.2.1]; decide))) h.1.2.2.1 hd (hnx _ _ _ h.2))
            · exact False.elim h
        · exact False.elim h
        · exact False.elim h
        · exact False.elim h
    · rcases S with _ | ⟨v1, S⟩
      · exact False.elim h
      · rcases v1 with v1 | v1 | v1 | v1
        · rcases S with _ | ⟨v2, S⟩
          · exact False.elim h
          · rcases v2 with v2 | v2 | v2 | v2
            · exact False.elim h
            · exact False.elim h
            · exact False.elim h
            · exact False.elim h
        · exact False.elim h
        · exact False.elim h
        · exact False.elim h
    · exact False.elim h
    · exact False.elim h
theorem am_e_bastore1  (hx : p.tables.exec = Jvm.exec) (hb : c.code = cc) (hf : am_fmok fm) (hl : len = 1) (X : am_Wd s0 ad fm cid slo s) (hg : am_gd md mm) (hz : z = 1) (hx0 : 0 < x) (hst : am_l3 x (am_sfs md) = some (42, y)) (hd : decode cc pc = .ok (.bastore, len)) (hnx : ∀ L S mm, nx L S mm → am_S p l e R s m args below meth c s0 ad fm cid slo am_cF am_ft Qf n0 s1 (pc + len) L S mm) (hjp : ∀ t L S mm, jp t L S mm → am_S p l e R s m args below meth c s0 ad fm cid slo am_cF am_ft Qf n0 s1 t L S mm) (h : am_istep G ca hs Q nx jp (pc, .bastore, len, x, y, z) L S mm) : am_S p l e R s m args below meth c s0 ad fm cid slo am_cF am_ft Qf n0 s1 pc L S mm := by
  subst hl
  subst hz
  rcases S with _ | ⟨v0, S⟩
  · exact False.elim h
  · rcases v0 with v0 | v0 | v0 | v0
    · rcases S with _ | ⟨v1, S⟩
      · exact False.elim h
      · rcases v1 with v1 | v1 | v1 | v1
        · rcases S with _ | ⟨v2, S⟩
          · exact False.elim h
          · rcases v2 with v2 | v2 | v2 | v2
            · exact False.elim h
            · exact False.elim h
            · refine am_S_rep (fun H hR => ?_)
              obtain ⟨e1, e2⟩ := hR.st hg hst
              obtain ⟨⟨h0, hv, h1, h2⟩, h3⟩ := h
              subst h0
              exact am_s_bastore hx hb X.had (X.arr 42 rfl).1 e1 ⟨h1, by rw [e2 (by decide)]; exact h2⟩ (hR.may hx0 h1 (am_fin_no (by rw [e1]; decide))) hv hd (hnx _ _ _ h3)
            · exact False.elim h
        · exact False.elim h
        · exact False.elim h
        · exact False.elim h
    · rcases S with _ | ⟨v1, S⟩
      · exact False.elim h
      · rcases v1 with v1 | v1 | v1 | v1
        · rcases S with _ | ⟨v2, S⟩
          · exact False.elim h
          · rcases v2 with v2 | v2 | v2 | v2
            · exact False.elim h
            · exact False.elim h
            · exact False.elim h
            · exact False.elim h
        · exact False.elim h
        · exact False.elim h
        · exact False.elim h
    · exact False.elim h
    · exact False.elim h
theorem am_e_aastore0 {w : Int} (hx : p.tables.exec = Jvm.exec) (hb : c.code = cc) (hf : am_fmok fm) (hl : len = 1) (X : am_Wd s0 ad fm cid slo s) (hz : z = 0) (hw : x = w) (h5 : w = 30 ∨ w = 7 ∨ w = 4 ∨ w = 11 ∨ w = 12) (hd : decode cc pc = .ok (.aastore, len)) (hnx : ∀ L S mm, nx L S mm → am_S p l e R s m args below meth c s0 ad fm cid slo am_cF am_ft Qf n0 s1 (pc + len) L S mm) (hjp : ∀ t L S mm, jp t L S mm → am_S p l e R s m args below meth c s0 ad fm cid slo am_cF am_ft Qf n0 s1 t L S mm) (h : am_istep G ca hs Q nx jp (pc, .aastore, len, x, y, z) L S mm) : am_S p l e R s m args below meth c s0 ad fm cid slo am_cF am_ft Qf n0 s1 pc L S mm := by
  subst hl
  subst hz
  subst hw
  have ht : 44 ≤ am_over x ∧ am_over x ≤ 48 := by rcases h5 with rfl | rfl | rfl | rfl | rfl <;> decide
  have hA : am_isA (am_over x) = true := by rcases h5 with rfl | rfl | rfl | rfl | rfl <;> rfl
  obtain ⟨C, hC⟩ : ∃ C, am_aty (am_over x) = .object C := by rcases h5 with rfl | rfl | rfl | rfl | rfl <;> exact ⟨_, rfl⟩
  rcases S with _ | ⟨v0, S⟩
  · exact False.elim h
  · rcases v0 with v0 | v0 | v0 | v0
    · exact False.elim h
    · exact False.elim h
    · rcases S with _ | ⟨v1, S⟩
      · exact False.elim h
      · rcases v1 with v1 | v1 | v1 | v1
        · rcases S with _ | ⟨v2, S⟩
          · exact False.elim h
          · rcases v2 with v2 | v2 | v2 | v2
            · exact False.elim h
            · exact False.elim h
            · obtain ⟨⟨h0, h1, h2, h3, hv⟩, h4⟩ := h
              have hv2 : v0 = 0 ∨ (am_isO (mm v0 (-1)) = true ∧ ∃ kv, s.vm.classes[cid (mm v0 (-1))]? = some kv ∧ ∀ comp, s.vm.findClass C = some comp → s.vm.assignable (cid (mm v0 (-1))) comp = true ∧ ∃ kc, s.vm.classes[comp]? = some kc) := by
                rcases hv with hv | ⟨_, hv⟩
                · exact Or.inl hv
                · obtain ⟨C2, g1, g2⟩ := am_ast X h5 hv
                  cases hC.symm.trans g1
                  exact Or.inr g2
              exact am_S_rep (fun H hR => am_s_aastore hx hb X.had (by rw [h1]; exact hC) (by rw [h1]; exact (X.arr _ hA).1) (by rw [h1]; exact (X.arr _ hA).2 (by omega)) (by rw [h1]; exact ht) ⟨h2, h3⟩ (hR.may h0 h2 (am_fin_no (by rw [h1]; omega))) hv2 hd (hnx _ _ _ h4))
            · exact False.elim h
        · exact False.elim h
        · exact False.elim h
        · exact False.elim h
    · exact False.elim h
theorem am_e_aastore1 {w : Int} {k : Nat} (hx : p.tables.exec = Jvm.exec) (hb : c.code = cc) (hf : am_fmok fm) (hl : len = 1) (X : am_Wd s0 ad fm cid slo s) (hg : am_gd md mm) (hz : z = k + 1) (hw : ((k : Nat) : Int) = w) (hx0 : 0 < x) (hst : am_l3 x (am_sfs md) = some (am_over w, y)) (h5 : w = 30 ∨ w = 7 ∨ w = 4 ∨ w = 11 ∨ w = 12) (hd : decode cc pc = .ok (.aastore, len)) (hnx : ∀ L S mm, nx L S mm → am_S p l e R s m args below meth c s0 ad fm cid slo am_cF am_ft Qf n0 s1 (pc + len) L S mm) (hjp : ∀ t L S mm, jp t L S mm → am_S p l e R s m args below meth c s0 ad fm cid slo am_cF am_ft Qf n0 s1 t L S mm) (h : am_istep G ca hs Q nx jp (pc, .aastore, len, x, y, z) L S mm) : am_S p l e R s m args below meth c s0 ad fm cid slo am_cF am_ft Qf n0 s1 pc L S mm := by
  subst hl
  subst hz
  have ht : 44 ≤ am_over w ∧ am_over w ≤ 48 := by rcases h5 with rfl | rfl | rfl | rfl | rfl <;> decide
  have hA : am_isA (am_over w) = true := by rcases h5 with rfl | rfl | rfl | rfl | rfl <;> rfl
  obtain ⟨C, hC⟩ : ∃ C, am_aty (am_over w) = .object C := by rcases h5 with rfl | rfl | rfl | rfl | rfl <;> exact ⟨_, rfl⟩
  rcases S with _ | ⟨v0, S⟩
  · exact False.elim h
  · rcases v0 with v0 | v0 | v0 | v0
    · exact False.elim h
    · exact False.elim h
    · rcases S with _ | ⟨v1, S⟩
      · exact False.elim h
      · rcases v1 with v1 | v1 | v1 | v1
        · rcases S with _ | ⟨v2, S⟩
          · exact False.elim h
          · rcases v2 with v2 | v2 | v2 | v2
            · exact False.elim h
            · exact False.elim h
            · refine am_S_rep (fun H hR => ?_)
              obtain ⟨e1, e2⟩ := hR.st hg hst
              obtain ⟨⟨h0, h2, h3, hv⟩, h4⟩ := h
              subst h0
              have hv : v0 = 0 ∨ (v0 ≠ 0 ∧ am_ok w (mm v0 (-1))) := by rw [← hw]; exact hv
              have hv2 : v0 = 0 ∨ (am_isO (mm v0 (-1)) = true ∧ ∃ kv, s.vm.classes[cid (mm v0 (-1))]? = some kv ∧ ∀ comp, s.vm.findClass C = some comp → s.vm.assignable (cid (mm v0 (-1))) comp = true ∧ ∃ kc, s.vm.classes[comp]? = some kc) := by
                rcases hv with hv | ⟨_, hv⟩
                · exact Or.inl hv
                · obtain ⟨C2, g1, g2⟩ := am_ast X h5 hv
                  cases hC.symm.trans g1
                  exact Or.inr g2
              exact am_s_aastore hx hb X.had (by rw [e1]; exact hC) (by rw [e1]; exact (X.arr _ hA).1) (by rw [e1]; exact (X.arr _ hA).2 (by omega)) (by rw [e1]; exact ht) ⟨h2, by rw [e2 (by omega)]; exact h3⟩ (hR.may hx0 h2 (am_fin_no (by rw [e1]; omega))) hv2 hd (hnx _ _ _ h4)
            · exact False.elim h
        · exact False.elim h
        · exact False.elim h
        · exact False.elim h
    · exact False.elim h
theorem am_e_alen0  (hx : p.tables.exec = Jvm.exec) (hb : c.code = cc) (hf : am_fmok fm) (hl : len = 1) (X : am_Wd s0 ad fm cid slo s) (hz : z = 0) (hd : decode cc pc = .ok (.arraylength, len)) (hnx : ∀ L S mm, nx L S mm → am_S p l e R s m args below meth c s0 ad fm cid slo am_cF am_ft Qf n0 s1 (pc + len) L S mm) (hjp : ∀ t L S mm, jp t L S mm → am_S p l e R s m args below meth c s0 ad fm cid slo am_cF am_ft Qf n0 s1 t L S mm) (h : am_istep G ca hs Q nx jp (pc, .arraylength, len, x, y, z) L S mm) : am_S p l e R s m args below meth c s0 ad fm cid slo am_cF am_ft Qf n0 s1 pc L S mm := by
  subst hl
  subst hz
  rcases S with _ | ⟨v0, S⟩
  · exact False.elim h
  · rcases v0 with v0 | v0 | v0 | v0
    · exact False.elim h
    · exact False.elim h
    · have hA : am_isA (mm v0 (-1)) = true := by
        unfold am_isA
        simp only [Bool.or_eq_true, Bool.and_eq_true, decide_eq_true_eq]
        exact h.1
      exact am_s_alen hx hb (X.arr _ hA).1 hA hd (hnx _ _ _ h.2)
    · exact False.elim h
theorem am_e_alen1 {t : Int} (hx : p.tables.exec = Jvm.exec) (hb : c.code = cc) (hf : am_fmok fm) (hl : len = 1) (X : am_Wd s0 ad fm cid slo s) (hg : am_gd md mm) (hz : z = 1) (hA : am_isA t = true) (h40 : 40 ≤ t) (hst : am_l3 x (am_sfs md) = some (t, y)) (hd : decode cc pc = .ok (.arraylength, len)) (hnx : ∀ L S mm, nx L S mm → am_S p l e R s m args below meth c s0 ad fm cid slo am_cF am_ft Qf n0 s1 (pc + len) L S mm) (hjp : ∀ t L S mm, jp t L S mm → am_S p l e R s m args below meth c s0 ad fm cid slo am_cF am_ft Qf n0 s1 t L S mm) (h : am_istep G ca hs Q nx jp (pc, .arraylength, len, x, y, z) L S mm) : am_S p l e R s m args below meth c s0 ad fm cid slo am_cF am_ft Qf n0 s1 pc L S mm := by
  subst hl
  subst hz
  rcases S with _ | ⟨v0, S⟩
  · exact False.elim h
  · rcases v0 with v0 | v0 | v0 | v0
    · exact False.elim h
    · exact False.elim h
    · refine am_S_rep (fun H hR => ?_)
      obtain ⟨e1, e2⟩ := hR.st hg hst
      obtain ⟨h0, h3⟩ := h
      subst h0
      exact am_s_alen hx hb (by rw [e1]; exact (X.arr _ hA).1) (by rw [e1]; exact hA) hd (by rw [e2 h40]; exact hnx _ _ _ h3)
    · exact False.elim h
end Exec3
