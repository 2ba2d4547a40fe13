/-! FROM AN ABSTRACT STEP TO THE MACHINE's: the simple instructions, by tools/genexec.py -/
section Exec
variable {p : Program} {l : Launch} {e : Env} {R : Room} {s : State} {m : MethodId} {args : Array Value} {below : List Frame} {meth : Method} {c : Code} {cc : ByteArray} {s0 : State} {ad : Int → Nat} {fm : Value} {cid : Int → ClassId} {slo : Int → Nat → Nat} {Qf : State → Prop} {n0 s1 : Int} {pc len : Nat} {x y : Int} {z : Nat} {L S : List aV} {mm : aM} {G : Nat → aM → Prop} {ca : aC} {hs : aH} {Q : aO → aM → Prop} {nx : List aV → List aV → aM → Prop} {jp : Nat → List aV → List aV → aM → Prop}
theorem am_e_iadd  (hx : p.tables.exec = Jvm.exec) (hb : c.code = cc) (hf : am_fmok fm) (hl : len = 1) (hd : decode cc pc = .ok (.iadd, len)) (hnx : ∀ L S mm, nx L S mm → am_S p l e R s m args below meth c s0 ad fm cid slo am_cF am_ft Qf n0 s1 (pc + len) L S mm) (hjp : ∀ t L S mm, jp t L S mm → am_S p l e R s m args below meth c s0 ad fm cid slo am_cF am_ft Qf n0 s1 t L S mm) (h : am_istep G ca hs Q nx jp (pc, .iadd, len, x, y, z) L S mm) : am_S p l e R s m args below meth c s0 ad fm cid slo am_cF am_ft Qf n0 s1 pc L S mm := by
  rcases S with _ | ⟨v0, S⟩
  · exact False.elim h
  · rcases v0 with v0 | v0 | v0 | v0
    · rcases S with _ | ⟨v1, S⟩
      · exact False.elim h
      · rcases v1 with v1 | v1 | v1 | v1
        · subst hl
          exact am_s_iadd hx hb h.1 hd (hnx _ _ _ h.2)
        · exact False.elim h
        · exact False.elim h
        · exact False.elim h
    · exact False.elim h
    · exact False.elim h
    · exact False.elim h
theorem am_e_isub  (hx : p.tables.exec = Jvm.exec) (hb : c.code = cc) (hf : am_fmok fm) (hl : len = 1) (hd : decode cc pc = .ok (.isub, len)) (hnx : ∀ L S mm, nx L S mm → am_S p l e R s m args below meth c s0 ad fm cid slo am_cF am_ft Qf n0 s1 (pc + len) L S mm) (hjp : ∀ t L S mm, jp t L S mm → am_S p l e R s m args below meth c s0 ad fm cid slo am_cF am_ft Qf n0 s1 t L S mm) (h : am_istep G ca hs Q nx jp (pc, .isub, len, x, y, z) L S mm) : am_S p l e R s m args below meth c s0 ad fm cid slo am_cF am_ft Qf n0 s1 pc L S mm := by
  rcases S with _ | ⟨v0, S⟩
  · exact False.elim h
  · rcases v0 with v0 | v0 | v0 | v0
    · rcases S with _ | ⟨v1, S⟩
      · exact False.elim h
      · rcases v1 with v1 | v1 | v1 | v1
        · subst hl
          exact am_s_isub hx hb h.1 hd (hnx _ _ _ h.2)
        · exact False.elim h
        · exact False.elim h
        · exact False.elim h
    · exact False.elim h
    · exact False.elim h
    · exact False.elim h
theorem am_e_imul  (hx : p.tables.exec = Jvm.exec) (hb : c.code = cc) (hf : am_fmok fm) (hl : len = 1) (hd : decode cc pc = .ok (.imul, len)) (hnx : ∀ L S mm, nx L S mm → am_S p l e R s m args below meth c s0 ad fm cid slo am_cF am_ft Qf n0 s1 (pc + len) L S mm) (hjp : ∀ t L S mm, jp t L S mm → am_S p l e R s m args below meth c s0 ad fm cid slo am_cF am_ft Qf n0 s1 t L S mm) (h : am_istep G ca hs Q nx jp (pc, .imul, len, x, y, z) L S mm) : am_S p l e R s m args below meth c s0 ad fm cid slo am_cF am_ft Qf n0 s1 pc L S mm := by
  rcases S with _ | ⟨v0, S⟩
  · exact False.elim h
  · rcases v0 with v0 | v0 | v0 | v0
    · rcases S with _ | ⟨v1, S⟩
      · exact False.elim h
      · rcases v1 with v1 | v1 | v1 | v1
        · subst hl
          exact am_s_imul hx hb h.1 hd (hnx _ _ _ h.2)
        · exact False.elim h
        · exact False.elim h
        · exact False.elim h
    · exact False.elim h
    · exact False.elim h
    · exact False.elim h
theorem am_e_idiv  (hx : p.tables.exec = Jvm.exec) (hb : c.code = cc) (hf : am_fmok fm) (hl : len = 1) (hd : decode cc pc = .ok (.idiv, len)) (hnx : ∀ L S mm, nx L S mm → am_S p l e R s m args below meth c s0 ad fm cid slo am_cF am_ft Qf n0 s1 (pc + len) L S mm) (hjp : ∀ t L S mm, jp t L S mm → am_S p l e R s m args below meth c s0 ad fm cid slo am_cF am_ft Qf n0 s1 t L S mm) (h : am_istep G ca hs Q nx jp (pc, .idiv, len, x, y, z) L S mm) : am_S p l e R s m args below meth c s0 ad fm cid slo am_cF am_ft Qf n0 s1 pc L S mm := by
  rcases S with _ | ⟨v0, S⟩
  · exact False.elim h
  · rcases v0 with v0 | v0 | v0 | v0
    · rcases S with _ | ⟨v1, S⟩
      · exact False.elim h
      · rcases v1 with v1 | v1 | v1 | v1
        · subst hl
          exact am_s_idiv hx hb h.1 hd (hnx _ _ _ h.2)
        · exact False.elim h
        · exact False.elim h
        · exact False.elim h
    · exact False.elim h
    · exact False.elim h
    · exact False.elim h
theorem am_e_irem  (hx : p.tables.exec = Jvm.exec) (hb : c.code = cc) (hf : am_fmok fm) (hl : len = 1) (hd : decode cc pc = .ok (.irem, len)) (hnx : ∀ L S mm, nx L S mm → am_S p l e R s m args below meth c s0 ad fm cid slo am_cF am_ft Qf n0 s1 (pc + len) L S mm) (hjp : ∀ t L S mm, jp t L S mm → am_S p l e R s m args below meth c s0 ad fm cid slo am_cF am_ft Qf n0 s1 t L S mm) (h : am_istep G ca hs Q nx jp (pc, .irem, len, x, y, z) L S mm) : am_S p l e R s m args below meth c s0 ad fm cid slo am_cF am_ft Qf n0 s1 pc L S mm := by
  rcases S with _ | ⟨v0, S⟩
  · exact False.elim h
  · rcases v0 with v0 | v0 | v0 | v0
    · rcases S with _ | ⟨v1, S⟩
      · exact False.elim h
      · rcases v1 with v1 | v1 | v1 | v1
        · subst hl
          exact am_s_irem hx hb h.1 hd (hnx _ _ _ h.2)
        · exact False.elim h
        · exact False.elim h
        · exact False.elim h
    · exact False.elim h
    · exact False.elim h
    · exact False.elim h
theorem am_e_ineg  (hx : p.tables.exec = Jvm.exec) (hb : c.code = cc) (hf : am_fmok fm) (hl : len = 1) (hd : decode cc pc = .ok (.ineg, len)) (hnx : ∀ L S mm, nx L S mm → am_S p l e R s m args below meth c s0 ad fm cid slo am_cF am_ft Qf n0 s1 (pc + len) L S mm) (hjp : ∀ t L S mm, jp t L S mm → am_S p l e R s m args below meth c s0 ad fm cid slo am_cF am_ft Qf n0 s1 t L S mm) (h : am_istep G ca hs Q nx jp (pc, .ineg, len, x, y, z) L S mm) : am_S p l e R s m args below meth c s0 ad fm cid slo am_cF am_ft Qf n0 s1 pc L S mm := by
  rcases S with _ | ⟨v0, S⟩
  · exact False.elim h
  · rcases v0 with v0 | v0 | v0 | v0
    · subst hl
      exact am_s_ineg hx hb h.1 hd (hnx _ _ _ h.2)
    · exact False.elim h
    · exact False.elim h
    · exact False.elim h
theorem am_e_iand  (hx : p.tables.exec = Jvm.exec) (hb : c.code = cc) (hf : am_fmok fm) (hl : len = 1) (hd : decode cc pc = .ok (.iand, len)) (hnx : ∀ L S mm, nx L S mm → am_S p l e R s m args below meth c s0 ad fm cid slo am_cF am_ft Qf n0 s1 (pc + len) L S mm) (hjp : ∀ t L S mm, jp t L S mm → am_S p l e R s m args below meth c s0 ad fm cid slo am_cF am_ft Qf n0 s1 t L S mm) (h : am_istep G ca hs Q nx jp (pc, .iand, len, x, y, z) L S mm) : am_S p l e R s m args below meth c s0 ad fm cid slo am_cF am_ft Qf n0 s1 pc L S mm := by
  rcases S with _ | ⟨v0, S⟩
  · exact False.elim h
  · rcases v0 with v0 | v0 | v0 | v0
    · rcases S with _ | ⟨v1, S⟩
      · exact False.elim h
      · rcases v1 with v1 | v1 | v1 | v1
        · subst hl
          exact am_s_iand hx hb hd (hnx _ _ _ h)
        · exact False.elim h
        · exact False.elim h
        · exact False.elim h
    · exact False.elim h
    · exact False.elim h
    · exact False.elim h
theorem am_e_ior  (hx : p.tables.exec = Jvm.exec) (hb : c.code = cc) (hf : am_fmok fm) (hl : len = 1) (hd : decode cc pc = .ok (.ior, len)) (hnx : ∀ L S mm, nx L S mm → am_S p l e R s m args below meth c s0 ad fm cid slo am_cF am_ft Qf n0 s1 (pc + len) L S mm) (hjp : ∀ t L S mm, jp t L S mm → am_S p l e R s m args below meth c s0 ad fm cid slo am_cF am_ft Qf n0 s1 t L S mm) (h : am_istep G ca hs Q nx jp (pc, .ior, len, x, y, z) L S mm) : am_S p l e R s m args below meth c s0 ad fm cid slo am_cF am_ft Qf n0 s1 pc L S mm := by
  rcases S with _ | ⟨v0, S⟩
  · exact False.elim h
  · rcases v0 with v0 | v0 | v0 | v0
    · rcases S with _ | ⟨v1, S⟩
      · exact False.elim h
      · rcases v1 with v1 | v1 | v1 | v1
        · subst hl
          exact am_s_ior hx hb hd (hnx _ _ _ h)
        · exact False.elim h
        · exact False.elim h
        · exact False.elim h
    · exact False.elim h
    · exact False.elim h
    · exact False.elim h
theorem am_e_ixor  (hx : p.tables.exec = Jvm.exec) (hb : c.code = cc) (hf : am_fmok fm) (hl : len = 1) (hd : decode cc pc = .ok (.ixor, len)) (hnx : ∀ L S mm, nx L S mm → am_S p l e R s m args below meth c s0 ad fm cid slo am_cF am_ft Qf n0 s1 (pc + len) L S mm) (hjp : ∀ t L S mm, jp t L S mm → am_S p l e R s m args below meth c s0 ad fm cid slo am_cF am_ft Qf n0 s1 t L S mm) (h : am_istep G ca hs Q nx jp (pc, .ixor, len, x, y, z) L S mm) : am_S p l e R s m args below meth c s0 ad fm cid slo am_cF am_ft Qf n0 s1 pc L S mm := by
  rcases S with _ | ⟨v0, S⟩
  · exact False.elim h
  · rcases v0 with v0 | v0 | v0 | v0
    · rcases S with _ | ⟨v1, S⟩
      · exact False.elim h
      · rcases v1 with v1 | v1 | v1 | v1
        · subst hl
          exact am_s_ixor hx hb hd (hnx _ _ _ h)
        · exact False.elim h
        · exact False.elim h
        · exact False.elim h
    · exact False.elim h
    · exact False.elim h
    · exact False.elim h
theorem am_e_ishl  (hx : p.tables.exec = Jvm.exec) (hb : c.code = cc) (hf : am_fmok fm) (hl : len = 1) (hd : decode cc pc = .ok (.ishl, len)) (hnx : ∀ L S mm, nx L S mm → am_S p l e R s m args below meth c s0 ad fm cid slo am_cF am_ft Qf n0 s1 (pc + len) L S mm) (hjp : ∀ t L S mm, jp t L S mm → am_S p l e R s m args below meth c s0 ad fm cid slo am_cF am_ft Qf n0 s1 t L S mm) (h : am_istep G ca hs Q nx jp (pc, .ishl, len, x, y, z) L S mm) : am_S p l e R s m args below meth c s0 ad fm cid slo am_cF am_ft Qf n0 s1 pc L S mm := by
  rcases S with _ | ⟨v0, S⟩
  · exact False.elim h
  · rcases v0 with v0 | v0 | v0 | v0
    · rcases S with _ | ⟨v1, S⟩
      · exact False.elim h
      · rcases v1 with v1 | v1 | v1 | v1
        · subst hl
          exact am_s_ishl hx hb hd (hnx _ _ _ h)
        · exact False.elim h
        · exact False.elim h
        · exact False.elim h
    · exact False.elim h
    · exact False.elim h
    · exact False.elim h
theorem am_e_ishr  (hx : p.tables.exec = Jvm.exec) (hb : c.code = cc) (hf : am_fmok fm) (hl : len = 1) (hd : decode cc pc = .ok (.ishr, len)) (hnx : ∀ L S mm, nx L S mm → am_S p l e R s m args below meth c s0 ad fm cid slo am_cF am_ft Qf n0 s1 (pc + len) L S mm) (hjp : ∀ t L S mm, jp t L S mm → am_S p l e R s m args below meth c s0 ad fm cid slo am_cF am_ft Qf n0 s1 t L S mm) (h : am_istep G ca hs Q nx jp (pc, .ishr, len, x, y, z) L S mm) : am_S p l e R s m args below meth c s0 ad fm cid slo am_cF am_ft Qf n0 s1 pc L S mm := by
  rcases S with _ | ⟨v0, S⟩
  · exact False.elim h
  · rcases v0 with v0 | v0 | v0 | v0
    · rcases S with _ | ⟨v1, S⟩
      · exact False.elim h
      · rcases v1 with v1 | v1 | v1 | v1
        · subst hl
          exact am_s_ishr hx hb hd (hnx _ _ _ h)
        · exact False.elim h
        · exact False.elim h
        · exact False.elim h
    · exact False.elim h
    · exact False.elim h
    · exact False.elim h
theorem am_e_ladd  (hx : p.tables.exec = Jvm.exec) (hb : c.code = cc) (hf : am_fmok fm) (hl : len = 1) (hd : decode cc pc = .ok (.ladd, len)) (hnx : ∀ L S mm, nx L S mm → am_S p l e R s m args below meth c s0 ad fm cid slo am_cF am_ft Qf n0 s1 (pc + len) L S mm) (hjp : ∀ t L S mm, jp t L S mm → am_S p l e R s m args below meth c s0 ad fm cid slo am_cF am_ft Qf n0 s1 t L S mm) (h : am_istep G ca hs Q nx jp (pc, .ladd, len, x, y, z) L S mm) : am_S p l e R s m args below meth c s0 ad fm cid slo am_cF am_ft Qf n0 s1 pc L S mm := by
  rcases S with _ | ⟨v0, S⟩
  · exact False.elim h
  · rcases v0 with v0 | v0 | v0 | v0
    · exact False.elim h
    · rcases S with _ | ⟨v1, S⟩
      · exact False.elim h
      · rcases v1 with v1 | v1 | v1 | v1
        · exact False.elim h
        · subst hl
          exact am_s_ladd hx hb hd (hnx _ _ _ h)
        · exact False.elim h
        · exact False.elim h
    · exact False.elim h
    · exact False.elim h
theorem am_e_lsub  (hx : p.tables.exec = Jvm.exec) (hb : c.code = cc) (hf : am_fmok fm) (hl : len = 1) (hd : decode cc pc = .ok (.lsub, len)) (hnx : ∀ L S mm, nx L S mm → am_S p l e R s m args below meth c s0 ad fm cid slo am_cF am_ft Qf n0 s1 (pc + len) L S mm) (hjp : ∀ t L S mm, jp t L S mm → am_S p l e R s m args below meth c s0 ad fm cid slo am_cF am_ft Qf n0 s1 t L S mm) (h : am_istep G ca hs Q nx jp (pc, .lsub, len, x, y, z) L S mm) : am_S p l e R s m args below meth c s0 ad fm cid slo am_cF am_ft Qf n0 s1 pc L S mm := by
  rcases S with _ | ⟨v0, S⟩
  · exact False.elim h
  · rcases v0 with v0 | v0 | v0 | v0
    · exact False.elim h
    · rcases S with _ | ⟨v1, S⟩
      · exact False.elim h
      · rcases v1 with v1 | v1 | v1 | v1
        · exact False.elim h
        · subst hl
          exact am_s_lsub hx hb hd (hnx _ _ _ h)
        · exact False.elim h
        · exact False.elim h
    · exact False.elim h
    · exact False.elim h
theorem am_e_lmul  (hx : p.tables.exec = Jvm.exec) (hb : c.code = cc) (hf : am_fmok fm) (hl : len = 1) (hd : decode cc pc = .ok (.lmul, len)) (hnx : ∀ L S mm, nx L S mm → am_S p l e R s m args below meth c s0 ad fm cid slo am_cF am_ft Qf n0 s1 (pc + len) L S mm) (hjp : ∀ t L S mm, jp t L S mm → am_S p l e R s m args below meth c s0 ad fm cid slo am_cF am_ft Qf n0 s1 t L S mm) (h : am_istep G ca hs Q nx jp (pc, .lmul, len, x, y, z) L S mm) : am_S p l e R s m args below meth c s0 ad fm cid slo am_cF am_ft Qf n0 s1 pc L S mm := by
  rcases S with _ | ⟨v0, S⟩
  · exact False.elim h
  · rcases v0 with v0 | v0 | v0 | v0
    · exact False.elim h
    · rcases S with _ | ⟨v1, S⟩
      · exact False.elim h
      · rcases v1 with v1 | v1 | v1 | v1
        · exact False.elim h
        · subst hl
          exact am_s_lmul hx hb hd (hnx _ _ _ h)
        · exact False.elim h
        · exact False.elim h
    · exact False.elim h
    · exact False.elim h
theorem am_e_land  (hx : p.tables.exec = Jvm.exec) (hb : c.code = cc) (hf : am_fmok fm) (hl : len = 1) (hd : decode cc pc = .ok (.land, len)) (hnx : ∀ L S mm, nx L S mm → am_S p l e R s m args below meth c s0 ad fm cid slo am_cF am_ft Qf n0 s1 (pc + len) L S mm) (hjp : ∀ t L S mm, jp t L S mm → am_S p l e R s m args below meth c s0 ad fm cid slo am_cF am_ft Qf n0 s1 t L S mm) (h : am_istep G ca hs Q nx jp (pc, .land, len, x, y, z) L S mm) : am_S p l e R s m args below meth c s0 ad fm cid slo am_cF am_ft Qf n0 s1 pc L S mm := by
  rcases S with _ | ⟨v0, S⟩
  · exact False.elim h
  · rcases v0 with v0 | v0 | v0 | v0
    · exact False.elim h
    · rcases S with _ | ⟨v1, S⟩
      · exact False.elim h
      · rcases v1 with v1 | v1 | v1 | v1
        · exact False.elim h
        · subst hl
          exact am_s_land hx hb hd (hnx _ _ _ h)
        · exact False.elim h
        · exact False.elim h
    · exact False.elim h
    · exact False.elim h
theorem am_e_lor  (hx : p.tables.exec = Jvm.exec) (hb : c.code = cc) (hf : am_fmok fm) (hl : len = 1) (hd : decode cc pc = .ok (.lor, len)) (hnx : ∀ L S mm, nx L S mm → am_S p l e R s m args below meth c s0 ad fm cid slo am_cF am_ft Qf n0 s1 (pc + len) L S mm) (hjp : ∀ t L S mm, jp t L S mm → am_S p l e R s m args below meth c s0 ad fm cid slo am_cF am_ft Qf n0 s1 t L S mm) (h : am_istep G ca hs Q nx jp (pc, .lor, len, x, y, z) L S mm) : am_S p l e R s m args below meth c s0 ad fm cid slo am_cF am_ft Qf n0 s1 pc L S mm := by
  rcases S with _ | ⟨v0, S⟩
  · exact False.elim h
  · rcases v0 with v0 | v0 | v0 | v0
    · exact False.elim h
    · rcases S with _ | ⟨v1, S⟩
      · exact False.elim h
      · rcases v1 with v1 | v1 | v1 | v1
        · exact False.elim h
        · subst hl
          exact am_s_lor hx hb hd (hnx _ _ _ h)
        · exact False.elim h
        · exact False.elim h
    · exact False.elim h
    · exact False.elim h
theorem am_e_lneg  (hx : p.tables.exec = Jvm.exec) (hb : c.code = cc) (hf : am_fmok fm) (hl : len = 1) (hd : decode cc pc = .ok (.lneg, len)) (hnx : ∀ L S mm, nx L S mm → am_S p l e R s m args below meth c s0 ad fm cid slo am_cF am_ft Qf n0 s1 (pc + len) L S mm) (hjp : ∀ t L S mm, jp t L S mm → am_S p l e R s m args below meth c s0 ad fm cid slo am_cF am_ft Qf n0 s1 t L S mm) (h : am_istep G ca hs Q nx jp (pc, .lneg, len, x, y, z) L S mm) : am_S p l e R s m args below meth c s0 ad fm cid slo am_cF am_ft Qf n0 s1 pc L S mm := by
  rcases S with _ | ⟨v0, S⟩
  · exact False.elim h
  · rcases v0 with v0 | v0 | v0 | v0
    · exact False.elim h
    · subst hl
      exact am_s_lneg hx hb hd (hnx _ _ _ h)
    · exact False.elim h
    · exact False.elim h
theorem am_e_lshl  (hx : p.tables.exec = Jvm.exec) (hb : c.code = cc) (hf : am_fmok fm) (hl : len = 1) (hd : decode cc pc = .ok (.lshl, len)) (hnx : ∀ L S mm, nx L S mm → am_S p l e R s m args below meth c s0 ad fm cid slo am_cF am_ft Qf n0 s1 (pc + len) L S mm) (hjp : ∀ t L S mm, jp t L S mm → am_S p l e R s m args below meth c s0 ad fm cid slo am_cF am_ft Qf n0 s1 t L S mm) (h : am_istep G ca hs Q nx jp (pc, .lshl, len, x, y, z) L S mm) : am_S p l e R s m args below meth c s0 ad fm cid slo am_cF am_ft Qf n0 s1 pc L S mm := by
  rcases S with _ | ⟨v0, S⟩
  · exact False.elim h
  · rcases v0 with v0 | v0 | v0 | v0
    · rcases S with _ | ⟨v1, S⟩
      · exact False.elim h
      · rcases v1 with v1 | v1 | v1 | v1
        · exact False.elim h
        · subst hl
          exact am_s_lshl hx hb hd (hnx _ _ _ h)
        · exact False.elim h
        · exact False.elim h
    · exact False.elim h
    · exact False.elim h
    · exact False.elim h
theorem am_e_lushr  (hx : p.tables.exec = Jvm.exec) (hb : c.code = cc) (hf : am_fmok fm) (hl : len = 1) (hd : decode cc pc = .ok (.lushr, len)) (hnx : ∀ L S mm, nx L S mm → am_S p l e R s m args below meth c s0 ad fm cid slo am_cF am_ft Qf n0 s1 (pc + len) L S mm) (hjp : ∀ t L S mm, jp t L S mm → am_S p l e R s m args below meth c s0 ad fm cid slo am_cF am_ft Qf n0 s1 t L S mm) (h : am_istep G ca hs Q nx jp (pc, .lushr, len, x, y, z) L S mm) : am_S p l e R s m args below meth c s0 ad fm cid slo am_cF am_ft Qf n0 s1 pc L S mm := by
  rcases S with _ | ⟨v0, S⟩
  · exact False.elim h
  · rcases v0 with v0 | v0 | v0 | v0
    · rcases S with _ | ⟨v1, S⟩
      · exact False.elim h
      · rcases v1 with v1 | v1 | v1 | v1
        · exact False.elim h
        · subst hl
          exact am_s_lushr hx hb hd (hnx _ _ _ h)
        · exact False.elim h
        · exact False.elim h
    · exact False.elim h
    · exact False.elim h
    · exact False.elim h
theorem am_e_lcmp  (hx : p.tables.exec = Jvm.exec) (hb : c.code = cc) (hf : am_fmok fm) (hl : len = 1) (hd : decode cc pc = .ok (.lcmp, len)) (hnx : ∀ L S mm, nx L S mm → am_S p l e R s m args below meth c s0 ad fm cid slo am_cF am_ft Qf n0 s1 (pc + len) L S mm) (hjp : ∀ t L S mm, jp t L S mm → am_S p l e R s m args below meth c s0 ad fm cid slo am_cF am_ft Qf n0 s1 t L S mm) (h : am_istep G ca hs Q nx jp (pc, .lcmp, len, x, y, z) L S mm) : am_S p l e R s m args below meth c s0 ad fm cid slo am_cF am_ft Qf n0 s1 pc L S mm := by
  rcases S with _ | ⟨v0, S⟩
  · exact False.elim h
  · rcases v0 with v0 | v0 | v0 | v0
    · exact False.elim h
    · rcases S with _ | ⟨v1, S⟩
      · exact False.elim h
      · rcases v1 with v1 | v1 | v1 | v1
        · exact False.elim h
        · subst hl
          exact am_s_lcmp hx hb hd (hnx _ _ _ h)
        · exact False.elim h
        · exact False.elim h
    · exact False.elim h
    · exact False.elim h
theorem am_e_i2l  (hx : p.tables.exec = Jvm.exec) (hb : c.code = cc) (hf : am_fmok fm) (hl : len = 1) (hd : decode cc pc = .ok (.i2l, len)) (hnx : ∀ L S mm, nx L S mm → am_S p l e R s m args below meth c s0 ad fm cid slo am_cF am_ft Qf n0 s1 (pc + len) L S mm) (hjp : ∀ t L S mm, jp t L S mm → am_S p l e R s m args below meth c s0 ad fm cid slo am_cF am_ft Qf n0 s1 t L S mm) (h : am_istep G ca hs Q nx jp (pc, .i2l, len, x, y, z) L S mm) : am_S p l e R s m args below meth c s0 ad fm cid slo am_cF am_ft Qf n0 s1 pc L S mm := by
  rcases S with _ | ⟨v0, S⟩
  · exact False.elim h
  · rcases v0 with v0 | v0 | v0 | v0
    · subst hl
      exact am_s_i2l hx hb hd (hnx _ _ _ h)
    · exact False.elim h
    · exact False.elim h
    · exact False.elim h
theorem am_e_l2i  (hx : p.tables.exec = Jvm.exec) (hb : c.code = cc) (hf : am_fmok fm) (hl : len = 1) (hd : decode cc pc = .ok (.l2i, len)) (hnx : ∀ L S mm, nx L S mm → am_S p l e R s m args below meth c s0 ad fm cid slo am_cF am_ft Qf n0 s1 (pc + len) L S mm) (hjp : ∀ t L S mm, jp t L S mm → am_S p l e R s m args below meth c s0 ad fm cid slo am_cF am_ft Qf n0 s1 t L S mm) (h : am_istep G ca hs Q nx jp (pc, .l2i, len, x, y, z) L S mm) : am_S p l e R s m args below meth c s0 ad fm cid slo am_cF am_ft Qf n0 s1 pc L S mm := by
  rcases S with _ | ⟨v0, S⟩
  · exact False.elim h
  · rcases v0 with v0 | v0 | v0 | v0
    · exact False.elim h
    · subst hl
      exact am_s_l2i hx hb hd (hnx _ _ _ h)
    · exact False.elim h
    · exact False.elim h
theorem am_e_i2c  (hx : p.tables.exec = Jvm.exec) (hb : c.code = cc) (hf : am_fmok fm) (hl : len = 1) (hd : decode cc pc = .ok (.i2c, len)) (hnx : ∀ L S mm, nx L S mm → am_S p l e R s m args below meth c s0 ad fm cid slo am_cF am_ft Qf n0 s1 (pc + len) L S mm) (hjp : ∀ t L S mm, jp t L S mm → am_S p l e R s m args below meth c s0 ad fm cid slo am_cF am_ft Qf n0 s1 t L S mm) (h : am_istep G ca hs Q nx jp (pc, .i2c, len, x, y, z) L S mm) : am_S p l e R s m args below meth c s0 ad fm cid slo am_cF am_ft Qf n0 s1 pc L S mm := by
  rcases S with _ | ⟨v0, S⟩
  · exact False.elim h
  · rcases v0 with v0 | v0 | v0 | v0
    · subst hl
      exact am_s_i2c hx hb hd (hnx _ _ _ h)
    · exact False.elim h
    · exact False.elim h
    · exact False.elim h
theorem am_e_null  (hx : p.tables.exec = Jvm.exec) (hb : c.code = cc) (hf : am_fmok fm) (hl : len = 1) (hd : decode cc pc = .ok (.aconst_null, len)) (hnx : ∀ L S mm, nx L S mm → am_S p l e R s m args below meth c s0 ad fm cid slo am_cF am_ft Qf n0 s1 (pc + len) L S mm) (hjp : ∀ t L S mm, jp t L S mm → am_S p l e R s m args below meth c s0 ad fm cid slo am_cF am_ft Qf n0 s1 t L S mm) (h : am_istep G ca hs Q nx jp (pc, .aconst_null, len, x, y, z) L S mm) : am_S p l e R s m args below meth c s0 ad fm cid slo am_cF am_ft Qf n0 s1 pc L S mm := by
  subst hl
  exact am_s_null hx hb hd (hnx _ _ _ h)
theorem am_e_iload {n : Nat} (hx : p.tables.exec = Jvm.exec) (hb : c.code = cc) (hf : am_fmok fm) (hl : len = 2) (hd : decode cc pc = .ok (.iload n, len)) (hnx : ∀ L S mm, nx L S mm → am_S p l e R s m args below meth c s0 ad fm cid slo am_cF am_ft Qf n0 s1 (pc + len) L S mm) (hjp : ∀ t L S mm, jp t L S mm → am_S p l e R s m args below meth c s0 ad fm cid slo am_cF am_ft Qf n0 s1 t L S mm) (h : am_istep G ca hs Q nx jp (pc, .iload n, len, x, y, z) L S mm) : am_S p l e R s m args below meth c s0 ad fm cid slo am_cF am_ft Qf n0 s1 pc L S mm := by
  subst hl
  simp only [am_istep, am_pst, am_ld] at h
  rcases hv : am_at L n with a | a | a | a
  · rw [hv] at h
    exact am_s_iload hx hb hv hd (hnx _ _ _ h)
  · rw [hv] at h
    exact False.elim h
  · rw [hv] at h
    exact False.elim h
  · rw [hv] at h
    exact False.elim h
theorem am_e_iload_n {n : Fin 4} (hx : p.tables.exec = Jvm.exec) (hb : c.code = cc) (hf : am_fmok fm) (hl : len = 1) (hd : decode cc pc = .ok (.iload_n n, len)) (hnx : ∀ L S mm, nx L S mm → am_S p l e R s m args below meth c s0 ad fm cid slo am_cF am_ft Qf n0 s1 (pc + len) L S mm) (hjp : ∀ t L S mm, jp t L S mm → am_S p l e R s m args below meth c s0 ad fm cid slo am_cF am_ft Qf n0 s1 t L S mm) (h : am_istep G ca hs Q nx jp (pc, .iload_n n, len, x, y, z) L S mm) : am_S p l e R s m args below meth c s0 ad fm cid slo am_cF am_ft Qf n0 s1 pc L S mm := by
  subst hl
  simp only [am_istep, am_pst, am_ld] at h
  rcases hv : am_at L n with a | a | a | a
  · rw [hv] at h
    exact am_s_iload_n hx hb hv hd (hnx _ _ _ h)
  · rw [hv] at h
    exact False.elim h
  · rw [hv] at h
    exact False.elim h
  · rw [hv] at h
    exact False.elim h
theorem am_e_lload {n : Nat} (hx : p.tables.exec = Jvm.exec) (hb : c.code = cc) (hf : am_fmok fm) (hl : len = 2) (hd : decode cc pc = .ok (.lload n, len)) (hnx : ∀ L S mm, nx L S mm → am_S p l e R s m args below meth c s0 ad fm cid slo am_cF am_ft Qf n0 s1 (pc + len) L S mm) (hjp : ∀ t L S mm, jp t L S mm → am_S p l e R s m args below meth c s0 ad fm cid slo am_cF am_ft Qf n0 s1 t L S mm) (h : am_istep G ca hs Q nx jp (pc, .lload n, len, x, y, z) L S mm) : am_S p l e R s m args below meth c s0 ad fm cid slo am_cF am_ft Qf n0 s1 pc L S mm := by
  subst hl
  simp only [am_istep, am_pst, am_ldl] at h
  rcases hv : am_at L n with a | a | a | a
  · rw [hv] at h
    exact False.elim h
  · rw [hv] at h
    exact am_s_lload hx hb hv hd (hnx _ _ _ h)
  · rw [hv] at h
    exact False.elim h
  · rw [hv] at h
    exact False.elim h
theorem am_e_lload_n {n : Fin 4} (hx : p.tables.exec = Jvm.exec) (hb : c.code = cc) (hf : am_fmok fm) (hl : len = 1) (hd : decode cc pc = .ok (.lload_n n, len)) (hnx : ∀ L S mm, nx L S mm → am_S p l e R s m args below meth c s0 ad fm cid slo am_cF am_ft Qf n0 s1 (pc + len) L S mm) (hjp : ∀ t L S mm, jp t L S mm → am_S p l e R s m args below meth c s0 ad fm cid slo am_cF am_ft Qf n0 s1 t L S mm) (h : am_istep G ca hs Q nx jp (pc, .lload_n n, len, x, y, z) L S mm) : am_S p l e R s m args below meth c s0 ad fm cid slo am_cF am_ft Qf n0 s1 pc L S mm := by
  subst hl
  simp only [am_istep, am_pst, am_ldl] at h
  rcases hv : am_at L n with a | a | a | a
  · rw [hv] at h
    exact False.elim h
  · rw [hv] at h
    exact am_s_lload_n hx hb hv hd (hnx _ _ _ h)
  · rw [hv] at h
    exact False.elim h
  · rw [hv] at h
    exact False.elim h
theorem am_e_aload {n : Nat} (hx : p.tables.exec = Jvm.exec) (hb : c.code = cc) (hf : am_fmok fm) (hl : len = 2) (hd : decode cc pc = .ok (.aload n, len)) (hnx : ∀ L S mm, nx L S mm → am_S p l e R s m args below meth c s0 ad fm cid slo am_cF am_ft Qf n0 s1 (pc + len) L S mm) (hjp : ∀ t L S mm, jp t L S mm → am_S p l e R s m args below meth c s0 ad fm cid slo am_cF am_ft Qf n0 s1 t L S mm) (h : am_istep G ca hs Q nx jp (pc, .aload n, len, x, y, z) L S mm) : am_S p l e R s m args below meth c s0 ad fm cid slo am_cF am_ft Qf n0 s1 pc L S mm := by
  subst hl
  simp only [am_istep, am_pst, am_lda] at h
  rcases hv : am_at L n with a | a | a | a
  · rw [hv] at h
    exact False.elim h
  · rw [hv] at h
    exact False.elim h
  · rw [hv] at h
    exact am_s_aload hx hb hv hf hd (hnx _ _ _ h)
  · rw [hv] at h
    exact False.elim h
theorem am_e_aload_n {n : Fin 4} (hx : p.tables.exec = Jvm.exec) (hb : c.code = cc) (hf : am_fmok fm) (hl : len = 1) (hd : decode cc pc = .ok (.aload_n n, len)) (hnx : ∀ L S mm, nx L S mm → am_S p l e R s m args below meth c s0 ad fm cid slo am_cF am_ft Qf n0 s1 (pc + len) L S mm) (hjp : ∀ t L S mm, jp t L S mm → am_S p l e R s m args below meth c s0 ad fm cid slo am_cF am_ft Qf n0 s1 t L S mm) (h : am_istep G ca hs Q nx jp (pc, .aload_n n, len, x, y, z) L S mm) : am_S p l e R s m args below meth c s0 ad fm cid slo am_cF am_ft Qf n0 s1 pc L S mm := by
  subst hl
  simp only [am_istep, am_pst, am_lda] at h
  rcases hv : am_at L n with a | a | a | a
  · rw [hv] at h
    exact False.elim h
  · rw [hv] at h
    exact False.elim h
  · rw [hv] at h
    exact am_s_aload_n hx hb hv hf hd (hnx _ _ _ h)
  · rw [hv] at h
    exact False.elim h
end Exec
