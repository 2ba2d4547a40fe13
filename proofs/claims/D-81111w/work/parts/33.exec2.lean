/-! FROM AN ABSTRACT STEP TO THE MACHINE's: constants, the stack, stores, branches; by tools/genexec2.py -/
theorem am_i8 {n : Int} (h : -128 ≤ n ∧ n ≤ 127) : (Int8.ofInt n).toInt32 = Int32.ofInt n := by
  rw [← Int32.toInt_inj, Int8.toInt_toInt32, am_i32 ⟨by omega, by omega⟩, Int8.toInt_ofInt]
  have e : (Int8.size : Int) = 256 := rfl
  exact Int.bmod_eq_of_le (by omega) (by omega)
theorem am_i16 {n : Int} (h : -32768 ≤ n ∧ n ≤ 32767) : (Int16.ofInt n).toInt32 = Int32.ofInt n := by
  rw [← Int32.toInt_inj, Int16.toInt_toInt32, am_i32 ⟨by omega, by omega⟩, Int16.toInt_ofInt]
  have e : (Int16.size : Int) = 65536 := rfl
  exact Int.bmod_eq_of_le (by omega) (by omega)
section Exec2
variable {p : Program} {l : Launch} {e : Env} {R : Room} {s : State} {m : MethodId} {args : Array Value} {below : List Frame} {meth : Method} {c : Code} {cc : ByteArray} {s0 : State} {ad : Int → Nat} {fm : Value} {cid : Int → ClassId} {slo : Int → Nat → Nat} {Qf : State → Prop} {n0 s1 : Int} {pc len : Nat} {x y : Int} {z : Nat} {L S : List aV} {mm : aM} {G : Nat → aM → Prop} {ca : aC} {hs : aH} {Q : aO → aM → Prop} {nx : List aV → List aV → aM → Prop} {jp : Nat → List aV → List aV → aM → Prop}
theorem am_e_iconst {n : Int} (hx : p.tables.exec = Jvm.exec) (hb : c.code = cc) (hf : am_fmok fm) (hl : len = 1) (hn : n = y) (hr : -2147483648 ≤ y ∧ y ≤ 2147483647) (hd : decode cc pc = .ok (.iconst n, len)) (hnx : ∀ L S mm, nx L S mm → am_S p l e R s m args below meth c s0 ad fm cid slo am_cF am_ft Qf n0 s1 (pc + len) L S mm) (hjp : ∀ t L S mm, jp t L S mm → am_S p l e R s m args below meth c s0 ad fm cid slo am_cF am_ft Qf n0 s1 t L S mm) (h : am_istep G ca hs Q nx jp (pc, .iconst n, len, x, y, z) L S mm) : am_S p l e R s m args below meth c s0 ad fm cid slo am_cF am_ft Qf n0 s1 pc L S mm := by
  subst hl
  subst hn
  exact am_s_iconst hx hb rfl hr hd (hnx _ _ _ h)
theorem am_e_bipush {n : Int} (hx : p.tables.exec = Jvm.exec) (hb : c.code = cc) (hf : am_fmok fm) (hl : len = 2) (hn : n = y) (hr : -128 ≤ y ∧ y ≤ 127) (hd : decode cc pc = .ok (.bipush n, len)) (hnx : ∀ L S mm, nx L S mm → am_S p l e R s m args below meth c s0 ad fm cid slo am_cF am_ft Qf n0 s1 (pc + len) L S mm) (hjp : ∀ t L S mm, jp t L S mm → am_S p l e R s m args below meth c s0 ad fm cid slo am_cF am_ft Qf n0 s1 t L S mm) (h : am_istep G ca hs Q nx jp (pc, .bipush n, len, x, y, z) L S mm) : am_S p l e R s m args below meth c s0 ad fm cid slo am_cF am_ft Qf n0 s1 pc L S mm := by
  subst hl
  subst hn
  exact am_s_bipush hx hb (am_i8 hr) ⟨by omega, by omega⟩ hd (hnx _ _ _ h)
theorem am_e_sipush {n : Int} (hx : p.tables.exec = Jvm.exec) (hb : c.code = cc) (hf : am_fmok fm) (hl : len = 3) (hn : n = y) (hr : -32768 ≤ y ∧ y ≤ 32767) (hd : decode cc pc = .ok (.sipush n, len)) (hnx : ∀ L S mm, nx L S mm → am_S p l e R s m args below meth c s0 ad fm cid slo am_cF am_ft Qf n0 s1 (pc + len) L S mm) (hjp : ∀ t L S mm, jp t L S mm → am_S p l e R s m args below meth c s0 ad fm cid slo am_cF am_ft Qf n0 s1 t L S mm) (h : am_istep G ca hs Q nx jp (pc, .sipush n, len, x, y, z) L S mm) : am_S p l e R s m args below meth c s0 ad fm cid slo am_cF am_ft Qf n0 s1 pc L S mm := by
  subst hl
  subst hn
  exact am_s_sipush hx hb (am_i16 hr) ⟨by omega, by omega⟩ hd (hnx _ _ _ h)
theorem am_e_lconst {n : Fin 2} (hx : p.tables.exec = Jvm.exec) (hb : c.code = cc) (hf : am_fmok fm) (hl : len = 1) (hn : y = ((n : Nat) : Int)) (hd : decode cc pc = .ok (.lconst n, len)) (hnx : ∀ L S mm, nx L S mm → am_S p l e R s m args below meth c s0 ad fm cid slo am_cF am_ft Qf n0 s1 (pc + len) L S mm) (hjp : ∀ t L S mm, jp t L S mm → am_S p l e R s m args below meth c s0 ad fm cid slo am_cF am_ft Qf n0 s1 t L S mm) (h : am_istep G ca hs Q nx jp (pc, .lconst n, len, x, y, z) L S mm) : am_S p l e R s m args below meth c s0 ad fm cid slo am_cF am_ft Qf n0 s1 pc L S mm := by
  subst hl
  subst hn
  have hn2 : (n : Nat) < 2 := n.isLt
  exact am_s_lconst hx hb (Int64.ofInt_eq_ofNat).symm ⟨by omega, by omega⟩ hd (hnx _ _ _ h)
theorem am_e_ldc2 {own : String} {idx : Nat} (hx : p.tables.exec = Jvm.exec) (hb : c.code = cc) (hf : am_fmok fm) (hl : len = 3) (hown : s.vm.findClass own = some m.cls) (hc : (Jvm.Cond.constantLong own idx (Int64.ofInt y)).before args s = true) (hv : am_vok (.inr (.inl y))) (hd : decode cc pc = .ok (.ldc2_w idx, len)) (hnx : ∀ L S mm, nx L S mm → am_S p l e R s m args below meth c s0 ad fm cid slo am_cF am_ft Qf n0 s1 (pc + len) L S mm) (hjp : ∀ t L S mm, jp t L S mm → am_S p l e R s m args below meth c s0 ad fm cid slo am_cF am_ft Qf n0 s1 t L S mm) (h : am_istep G ca hs Q nx jp (pc, .ldc2_w idx, len, x, y, z) L S mm) : am_S p l e R s m args below meth c s0 ad fm cid slo am_cF am_ft Qf n0 s1 pc L S mm := by
  subst hl
  exact am_s_ldc2 hx hb hown hc hv hd (hnx _ _ _ h)
theorem am_e_ldcI {own : String} {idx : Nat} (hx : p.tables.exec = Jvm.exec) (hb : c.code = cc) (hf : am_fmok fm) (hl : len = 2) (hown : s.vm.findClass own = some m.cls) (hz : z = 0) (hc : (Jvm.Cond.constant own idx (Int32.ofInt y)).before args s = true) (hv : am_vok (.inl y)) (hd : decode cc pc = .ok (.ldc idx, len)) (hnx : ∀ L S mm, nx L S mm → am_S p l e R s m args below meth c s0 ad fm cid slo am_cF am_ft Qf n0 s1 (pc + len) L S mm) (hjp : ∀ t L S mm, jp t L S mm → am_S p l e R s m args below meth c s0 ad fm cid slo am_cF am_ft Qf n0 s1 t L S mm) (h : am_istep G ca hs Q nx jp (pc, .ldc idx, len, x, y, z) L S mm) : am_S p l e R s m args below meth c s0 ad fm cid slo am_cF am_ft Qf n0 s1 pc L S mm := by
  subst hl
  subst hz
  exact am_s_ldc hx hb hown hc hv hd (hnx _ _ _ h)
theorem am_e_ldcwI {own : String} {idx : Nat} (hx : p.tables.exec = Jvm.exec) (hb : c.code = cc) (hf : am_fmok fm) (hl : len = 3) (hown : s.vm.findClass own = some m.cls) (hz : z = 0) (hc : (Jvm.Cond.constant own idx (Int32.ofInt y)).before args s = true) (hv : am_vok (.inl y)) (hd : decode cc pc = .ok (.ldc_w idx, len)) (hnx : ∀ L S mm, nx L S mm → am_S p l e R s m args below meth c s0 ad fm cid slo am_cF am_ft Qf n0 s1 (pc + len) L S mm) (hjp : ∀ t L S mm, jp t L S mm → am_S p l e R s m args below meth c s0 ad fm cid slo am_cF am_ft Qf n0 s1 t L S mm) (h : am_istep G ca hs Q nx jp (pc, .ldc_w idx, len, x, y, z) L S mm) : am_S p l e R s m args below meth c s0 ad fm cid slo am_cF am_ft Qf n0 s1 pc L S mm := by
  subst hl
  subst hz
  exact am_s_ldcw hx hb hown hc hv hd (hnx _ _ _ h)
theorem am_e_dup  (hx : p.tables.exec = Jvm.exec) (hb : c.code = cc) (hf : am_fmok fm) (hl : len = 1)  (hd : decode cc pc = .ok (.dup, len)) (hnx : ∀ L S mm, nx L S mm → am_S p l e R s m args below meth c s0 ad fm cid slo am_cF am_ft Qf n0 s1 (pc + len) L S mm) (hjp : ∀ t L S mm, jp t L S mm → am_S p l e R s m args below meth c s0 ad fm cid slo am_cF am_ft Qf n0 s1 t L S mm) (h : am_istep G ca hs Q nx jp (pc, .dup, len, x, y, z) L S mm) : am_S p l e R s m args below meth c s0 ad fm cid slo am_cF am_ft Qf n0 s1 pc L S mm := by
  subst hl
  rcases S with _ | ⟨v0, S⟩
  · exact False.elim h
  · rcases v0 with v0 | v0 | v0 | v0
    · exact am_s_dupi hx hb hd (hnx _ _ _ h)
    · exact False.elim h
    · exact am_s_dupa hx hb hf hd (hnx _ _ _ h)
    · exact False.elim h
theorem am_e_dup2  (hx : p.tables.exec = Jvm.exec) (hb : c.code = cc) (hf : am_fmok fm) (hl : len = 1)  (hd : decode cc pc = .ok (.dup2, len)) (hnx : ∀ L S mm, nx L S mm → am_S p l e R s m args below meth c s0 ad fm cid slo am_cF am_ft Qf n0 s1 (pc + len) L S mm) (hjp : ∀ t L S mm, jp t L S mm → am_S p l e R s m args below meth c s0 ad fm cid slo am_cF am_ft Qf n0 s1 t L S mm) (h : am_istep G ca hs Q nx jp (pc, .dup2, len, x, y, z) L S mm) : am_S p l e R s m args below meth c s0 ad fm cid slo am_cF am_ft Qf n0 s1 pc L S mm := by
  subst hl
  rcases S with _ | ⟨v0, S⟩
  · exact False.elim h
  · rcases v0 with v0 | v0 | v0 | v0
    · rcases S with _ | ⟨v1, S⟩
      · exact False.elim h
      · rcases v1 with v1 | v1 | v1 | v1
        · exact False.elim h
        · exact False.elim h
        · exact am_s_dup2ia hx hb hf hd (hnx _ _ _ h)
        · exact False.elim h
    · exact am_s_dup2l hx hb hd (hnx _ _ _ h)
    · exact False.elim h
    · exact False.elim h
theorem am_e_pop  (hx : p.tables.exec = Jvm.exec) (hb : c.code = cc) (hf : am_fmok fm) (hl : len = 1)  (hd : decode cc pc = .ok (.pop, len)) (hnx : ∀ L S mm, nx L S mm → am_S p l e R s m args below meth c s0 ad fm cid slo am_cF am_ft Qf n0 s1 (pc + len) L S mm) (hjp : ∀ t L S mm, jp t L S mm → am_S p l e R s m args below meth c s0 ad fm cid slo am_cF am_ft Qf n0 s1 t L S mm) (h : am_istep G ca hs Q nx jp (pc, .pop, len, x, y, z) L S mm) : am_S p l e R s m args below meth c s0 ad fm cid slo am_cF am_ft Qf n0 s1 pc L S mm := by
  subst hl
  rcases S with _ | ⟨v0, S⟩
  · exact False.elim h
  · rcases v0 with v0 | v0 | v0 | v0
    · exact am_s_popi hx hb hd (hnx _ _ _ h)
    · exact False.elim h
    · exact am_s_popa hx hb hf hd (hnx _ _ _ h)
    · exact False.elim h
theorem am_e_istore {n : Nat} (hx : p.tables.exec = Jvm.exec) (hb : c.code = cc) (hf : am_fmok fm) (hl : len = 2)  (hd : decode cc pc = .ok (.istore n, len)) (hnx : ∀ L S mm, nx L S mm → am_S p l e R s m args below meth c s0 ad fm cid slo am_cF am_ft Qf n0 s1 (pc + len) L S mm) (hjp : ∀ t L S mm, jp t L S mm → am_S p l e R s m args below meth c s0 ad fm cid slo am_cF am_ft Qf n0 s1 t L S mm) (h : am_istep G ca hs Q nx jp (pc, .istore n, len, x, y, z) L S mm) : am_S p l e R s m args below meth c s0 ad fm cid slo am_cF am_ft Qf n0 s1 pc L S mm := by
  subst hl
  rcases S with _ | ⟨v0, S⟩
  · exact False.elim h
  · rcases v0 with v0 | v0 | v0 | v0
    · simp only [am_istep, am_pst, am_sto] at h
      cases hq : (am_cut (n : Nat) L && Nat.ble ((n : Nat) + 1) L.length) with
      | false =>
        rw [hq] at h
        exact False.elim h
      | true =>
        rw [hq] at h
        simp only [cond_true, am_fL_eq] at h
        simp only [Bool.and_eq_true] at hq
        have hk := Nat.le_of_ble_eq_true hq.2
        exact am_s_istore hx hb hf (by omega) hq.1 hd (hnx _ _ _ h)
    · exact False.elim h
    · exact False.elim h
    · exact False.elim h
theorem am_e_istore_n {n : Fin 4} (hx : p.tables.exec = Jvm.exec) (hb : c.code = cc) (hf : am_fmok fm) (hl : len = 1)  (hd : decode cc pc = .ok (.istore_n n, len)) (hnx : ∀ L S mm, nx L S mm → am_S p l e R s m args below meth c s0 ad fm cid slo am_cF am_ft Qf n0 s1 (pc + len) L S mm) (hjp : ∀ t L S mm, jp t L S mm → am_S p l e R s m args below meth c s0 ad fm cid slo am_cF am_ft Qf n0 s1 t L S mm) (h : am_istep G ca hs Q nx jp (pc, .istore_n n, len, x, y, z) L S mm) : am_S p l e R s m args below meth c s0 ad fm cid slo am_cF am_ft Qf n0 s1 pc L S mm := by
  subst hl
  rcases S with _ | ⟨v0, S⟩
  · exact False.elim h
  · rcases v0 with v0 | v0 | v0 | v0
    · simp only [am_istep, am_pst, am_sto] at h
      cases hq : (am_cut (n : Nat) L && Nat.ble ((n : Nat) + 1) L.length) with
      | false =>
        rw [hq] at h
        exact False.elim h
      | true =>
        rw [hq] at h
        simp only [cond_true, am_fL_eq] at h
        simp only [Bool.and_eq_true] at hq
        have hk := Nat.le_of_ble_eq_true hq.2
        exact am_s_istore_n hx hb hf (by omega) hq.1 hd (hnx _ _ _ h)
    · exact False.elim h
    · exact False.elim h
    · exact False.elim h
theorem am_e_astore {n : Nat} (hx : p.tables.exec = Jvm.exec) (hb : c.code = cc) (hf : am_fmok fm) (hl : len = 2)  (hd : decode cc pc = .ok (.astore n, len)) (hnx : ∀ L S mm, nx L S mm → am_S p l e R s m args below meth c s0 ad fm cid slo am_cF am_ft Qf n0 s1 (pc + len) L S mm) (hjp : ∀ t L S mm, jp t L S mm → am_S p l e R s m args below meth c s0 ad fm cid slo am_cF am_ft Qf n0 s1 t L S mm) (h : am_istep G ca hs Q nx jp (pc, .astore n, len, x, y, z) L S mm) : am_S p l e R s m args below meth c s0 ad fm cid slo am_cF am_ft Qf n0 s1 pc L S mm := by
  subst hl
  rcases S with _ | ⟨v0, S⟩
  · exact False.elim h
  · rcases v0 with v0 | v0 | v0 | v0
    · exact False.elim h
    · exact False.elim h
    · simp only [am_istep, am_pst, am_sto] at h
      cases hq : (am_cut (n : Nat) L && Nat.ble ((n : Nat) + 1) L.length) with
      | false =>
        rw [hq] at h
        exact False.elim h
      | true =>
        rw [hq] at h
        simp only [cond_true, am_fL_eq] at h
        simp only [Bool.and_eq_true] at hq
        have hk := Nat.le_of_ble_eq_true hq.2
        exact am_s_astore hx hb hf (by omega) hq.1 hd (hnx _ _ _ h)
    · exact False.elim h
theorem am_e_astore_n {n : Fin 4} (hx : p.tables.exec = Jvm.exec) (hb : c.code = cc) (hf : am_fmok fm) (hl : len = 1)  (hd : decode cc pc = .ok (.astore_n n, len)) (hnx : ∀ L S mm, nx L S mm → am_S p l e R s m args below meth c s0 ad fm cid slo am_cF am_ft Qf n0 s1 (pc + len) L S mm) (hjp : ∀ t L S mm, jp t L S mm → am_S p l e R s m args below meth c s0 ad fm cid slo am_cF am_ft Qf n0 s1 t L S mm) (h : am_istep G ca hs Q nx jp (pc, .astore_n n, len, x, y, z) L S mm) : am_S p l e R s m args below meth c s0 ad fm cid slo am_cF am_ft Qf n0 s1 pc L S mm := by
  subst hl
  rcases S with _ | ⟨v0, S⟩
  · exact False.elim h
  · rcases v0 with v0 | v0 | v0 | v0
    · exact False.elim h
    · exact False.elim h
    · simp only [am_istep, am_pst, am_sto] at h
      cases hq : (am_cut (n : Nat) L && Nat.ble ((n : Nat) + 1) L.length) with
      | false =>
        rw [hq] at h
        exact False.elim h
      | true =>
        rw [hq] at h
        simp only [cond_true, am_fL_eq] at h
        simp only [Bool.and_eq_true] at hq
        have hk := Nat.le_of_ble_eq_true hq.2
        exact am_s_astore_n hx hb hf (by omega) hq.1 hd (hnx _ _ _ h)
    · exact False.elim h
theorem am_e_lstore {n : Nat} (hx : p.tables.exec = Jvm.exec) (hb : c.code = cc) (hf : am_fmok fm) (hl : len = 2)  (hd : decode cc pc = .ok (.lstore n, len)) (hnx : ∀ L S mm, nx L S mm → am_S p l e R s m args below meth c s0 ad fm cid slo am_cF am_ft Qf n0 s1 (pc + len) L S mm) (hjp : ∀ t L S mm, jp t L S mm → am_S p l e R s m args below meth c s0 ad fm cid slo am_cF am_ft Qf n0 s1 t L S mm) (h : am_istep G ca hs Q nx jp (pc, .lstore n, len, x, y, z) L S mm) : am_S p l e R s m args below meth c s0 ad fm cid slo am_cF am_ft Qf n0 s1 pc L S mm := by
  subst hl
  rcases S with _ | ⟨v0, S⟩
  · exact False.elim h
  · rcases v0 with v0 | v0 | v0 | v0
    · exact False.elim h
    · simp only [am_istep, am_pst, am_sto] at h
      cases hq : (am_cut (n : Nat) L && Nat.ble ((n : Nat) + 2) L.length) with
      | false =>
        rw [hq] at h
        exact False.elim h
      | true =>
        rw [hq] at h
        simp only [cond_true, am_fL_eq] at h
        simp only [Bool.and_eq_true] at hq
        have hk := Nat.le_of_ble_eq_true hq.2
        exact am_s_lstore hx hb hf (by omega) hq.1 hd (hnx _ _ _ h)
    · exact False.elim h
    · exact False.elim h
theorem am_e_lstore_n {n : Fin 4} (hx : p.tables.exec = Jvm.exec) (hb : c.code = cc) (hf : am_fmok fm) (hl : len = 1)  (hd : decode cc pc = .ok (.lstore_n n, len)) (hnx : ∀ L S mm, nx L S mm → am_S p l e R s m args below meth c s0 ad fm cid slo am_cF am_ft Qf n0 s1 (pc + len) L S mm) (hjp : ∀ t L S mm, jp t L S mm → am_S p l e R s m args below meth c s0 ad fm cid slo am_cF am_ft Qf n0 s1 t L S mm) (h : am_istep G ca hs Q nx jp (pc, .lstore_n n, len, x, y, z) L S mm) : am_S p l e R s m args below meth c s0 ad fm cid slo am_cF am_ft Qf n0 s1 pc L S mm := by
  subst hl
  rcases S with _ | ⟨v0, S⟩
  · exact False.elim h
  · rcases v0 with v0 | v0 | v0 | v0
    · exact False.elim h
    · simp only [am_istep, am_pst, am_sto] at h
      cases hq : (am_cut (n : Nat) L && Nat.ble ((n : Nat) + 2) L.length) with
      | false =>
        rw [hq] at h
        exact False.elim h
      | true =>
        rw [hq] at h
        simp only [cond_true, am_fL_eq] at h
        simp only [Bool.and_eq_true] at hq
        have hk := Nat.le_of_ble_eq_true hq.2
        exact am_s_lstore_n hx hb hf (by omega) hq.1 hd (hnx _ _ _ h)
    · exact False.elim h
    · exact False.elim h
theorem am_e_iinc {n : Nat} {k : Int} (hx : p.tables.exec = Jvm.exec) (hb : c.code = cc) (hf : am_fmok fm) (hl : len = 3) (hk : k = y) (hd : decode cc pc = .ok (.iinc n k, len)) (hnx : ∀ L S mm, nx L S mm → am_S p l e R s m args below meth c s0 ad fm cid slo am_cF am_ft Qf n0 s1 (pc + len) L S mm) (hjp : ∀ t L S mm, jp t L S mm → am_S p l e R s m args below meth c s0 ad fm cid slo am_cF am_ft Qf n0 s1 t L S mm) (h : am_istep G ca hs Q nx jp (pc, .iinc n k, len, x, y, z) L S mm) : am_S p l e R s m args below meth c s0 ad fm cid slo am_cF am_ft Qf n0 s1 pc L S mm := by
  subst hl
  subst hk
  simp only [am_istep, am_pst, am_sto] at h
  rcases hv : am_at L n with a | a | a | a
  · rw [hv] at h
    simp only at h
    cases hq : (am_cut n L && Nat.ble (n + 1) L.length) with
    | false =>
      rw [hq] at h
      exact False.elim h
    | true =>
      rw [hq] at h
      simp only [cond_true, am_fL_eq] at h
      simp only [Bool.and_eq_true] at hq
      exact am_s_iinc hx hb hf hv hq.1 h.1 hd (hnx _ _ _ h.2)
  · rw [hv] at h
    exact False.elim h
  · rw [hv] at h
    exact False.elim h
  · rw [hv] at h
    exact False.elim h
theorem am_e_if_eq {o : Int} (hx : p.tables.exec = Jvm.exec) (hb : c.code = cc) (hf : am_fmok fm) (hl : len = 3) (ho : 0 ≤ (pc : Int) + o) (hd : decode cc pc = .ok (.ifCond .eq o, len)) (hnx : ∀ L S mm, nx L S mm → am_S p l e R s m args below meth c s0 ad fm cid slo am_cF am_ft Qf n0 s1 (pc + len) L S mm) (hjp : ∀ t L S mm, jp t L S mm → am_S p l e R s m args below meth c s0 ad fm cid slo am_cF am_ft Qf n0 s1 t L S mm) (h : am_istep G ca hs Q nx jp (pc, .ifCond .eq o, len, x, y, z) L S mm) : am_S p l e R s m args below meth c s0 ad fm cid slo am_cF am_ft Qf n0 s1 pc L S mm := by
  subst hl
  rcases S with _ | ⟨v0, S⟩
  · exact False.elim h
  · rcases v0 with v0 | v0 | v0 | v0
    · exact am_s_if_eq hx hb hd (t := ((pc : Int) + o).toNat) (by omega) (fun q => hjp _ _ _ _ (h.1 q)) (fun q => hnx _ _ _ (h.2 q))
    · exact False.elim h
    · exact False.elim h
    · exact False.elim h
theorem am_e_icmp_eq {o : Int} (hx : p.tables.exec = Jvm.exec) (hb : c.code = cc) (hf : am_fmok fm) (hl : len = 3) (ho : 0 ≤ (pc : Int) + o) (hd : decode cc pc = .ok (.if_icmp .eq o, len)) (hnx : ∀ L S mm, nx L S mm → am_S p l e R s m args below meth c s0 ad fm cid slo am_cF am_ft Qf n0 s1 (pc + len) L S mm) (hjp : ∀ t L S mm, jp t L S mm → am_S p l e R s m args below meth c s0 ad fm cid slo am_cF am_ft Qf n0 s1 t L S mm) (h : am_istep G ca hs Q nx jp (pc, .if_icmp .eq o, len, x, y, z) L S mm) : am_S p l e R s m args below meth c s0 ad fm cid slo am_cF am_ft Qf n0 s1 pc L S mm := by
  subst hl
  rcases S with _ | ⟨v0, S⟩
  · exact False.elim h
  · rcases v0 with v0 | v0 | v0 | v0
    · rcases S with _ | ⟨v1, S⟩
      · exact False.elim h
      · rcases v1 with v1 | v1 | v1 | v1
        · exact am_s_icmp_eq hx hb hd (t := ((pc : Int) + o).toNat) (by omega) (fun q => hjp _ _ _ _ (h.1 q)) (fun q => hnx _ _ _ (h.2 q))
        · exact False.elim h
        · exact False.elim h
        · exact False.elim h
    · exact False.elim h
    · exact False.elim h
    · exact False.elim h
theorem am_e_if_ne {o : Int} (hx : p.tables.exec = Jvm.exec) (hb : c.code = cc) (hf : am_fmok fm) (hl : len = 3) (ho : 0 ≤ (pc : Int) + o) (hd : decode cc pc = .ok (.ifCond .ne o, len)) (hnx : ∀ L S mm, nx L S mm → am_S p l e R s m args below meth c s0 ad fm cid slo am_cF am_ft Qf n0 s1 (pc + len) L S mm) (hjp : ∀ t L S mm, jp t L S mm → am_S p l e R s m args below meth c s0 ad fm cid slo am_cF am_ft Qf n0 s1 t L S mm) (h : am_istep G ca hs Q nx jp (pc, .ifCond .ne o, len, x, y, z) L S mm) : am_S p l e R s m args below meth c s0 ad fm cid slo am_cF am_ft Qf n0 s1 pc L S mm := by
  subst hl
  rcases S with _ | ⟨v0, S⟩
  · exact False.elim h
  · rcases v0 with v0 | v0 | v0 | v0
    · exact am_s_if_ne hx hb hd (t := ((pc : Int) + o).toNat) (by omega) (fun q => hjp _ _ _ _ (h.1 q)) (fun q => hnx _ _ _ (h.2 q))
    · exact False.elim h
    · exact False.elim h
    · exact False.elim h
theorem am_e_icmp_ne {o : Int} (hx : p.tables.exec = Jvm.exec) (hb : c.code = cc) (hf : am_fmok fm) (hl : len = 3) (ho : 0 ≤ (pc : Int) + o) (hd : decode cc pc = .ok (.if_icmp .ne o, len)) (hnx : ∀ L S mm, nx L S mm → am_S p l e R s m args below meth c s0 ad fm cid slo am_cF am_ft Qf n0 s1 (pc + len) L S mm) (hjp : ∀ t L S mm, jp t L S mm → am_S p l e R s m args below meth c s0 ad fm cid slo am_cF am_ft Qf n0 s1 t L S mm) (h : am_istep G ca hs Q nx jp (pc, .if_icmp .ne o, len, x, y, z) L S mm) : am_S p l e R s m args below meth c s0 ad fm cid slo am_cF am_ft Qf n0 s1 pc L S mm := by
  subst hl
  rcases S with _ | ⟨v0, S⟩
  · exact False.elim h
  · rcases v0 with v0 | v0 | v0 | v0
    · rcases S with _ | ⟨v1, S⟩
      · exact False.elim h
      · rcases v1 with v1 | v1 | v1 | v1
        · exact am_s_icmp_ne hx hb hd (t := ((pc : Int) + o).toNat) (by omega) (fun q => hjp _ _ _ _ (h.1 q)) (fun q => hnx _ _ _ (h.2 q))
        · exact False.elim h
        · exact False.elim h
        · exact False.elim h
    · exact False.elim h
    · exact False.elim h
    · exact False.elim h
theorem am_e_if_lt {o : Int} (hx : p.tables.exec = Jvm.exec) (hb : c.code = cc) (hf : am_fmok fm) (hl : len = 3) (ho : 0 ≤ (pc : Int) + o) (hd : decode cc pc = .ok (.ifCond .lt o, len)) (hnx : ∀ L S mm, nx L S mm → am_S p l e R s m args below meth c s0 ad fm cid slo am_cF am_ft Qf n0 s1 (pc + len) L S mm) (hjp : ∀ t L S mm, jp t L S mm → am_S p l e R s m args below meth c s0 ad fm cid slo am_cF am_ft Qf n0 s1 t L S mm) (h : am_istep G ca hs Q nx jp (pc, .ifCond .lt o, len, x, y, z) L S mm) : am_S p l e R s m args below meth c s0 ad fm cid slo am_cF am_ft Qf n0 s1 pc L S mm := by
  subst hl
  rcases S with _ | ⟨v0, S⟩
  · exact False.elim h
  · rcases v0 with v0 | v0 | v0 | v0
    · exact am_s_if_lt hx hb hd (t := ((pc : Int) + o).toNat) (by omega) (fun q => hjp _ _ _ _ (h.1 q)) (fun q => hnx _ _ _ (h.2 q))
    · exact False.elim h
    · exact False.elim h
    · exact False.elim h
theorem am_e_icmp_lt {o : Int} (hx : p.tables.exec = Jvm.exec) (hb : c.code = cc) (hf : am_fmok fm) (hl : len = 3) (ho : 0 ≤ (pc : Int) + o) (hd : decode cc pc = .ok (.if_icmp .lt o, len)) (hnx : ∀ L S mm, nx L S mm → am_S p l e R s m args below meth c s0 ad fm cid slo am_cF am_ft Qf n0 s1 (pc + len) L S mm) (hjp : ∀ t L S mm, jp t L S mm → am_S p l e R s m args below meth c s0 ad fm cid slo am_cF am_ft Qf n0 s1 t L S mm) (h : am_istep G ca hs Q nx jp (pc, .if_icmp .lt o, len, x, y, z) L S mm) : am_S p l e R s m args below meth c s0 ad fm cid slo am_cF am_ft Qf n0 s1 pc L S mm := by
  subst hl
  rcases S with _ | ⟨v0, S⟩
  · exact False.elim h
  · rcases v0 with v0 | v0 | v0 | v0
    · rcases S with _ | ⟨v1, S⟩
      · exact False.elim h
      · rcases v1 with v1 | v1 | v1 | v1
        · exact am_s_icmp_lt hx hb hd (t := ((pc : Int) + o).toNat) (by omega) (fun q => hjp _ _ _ _ (h.1 q)) (fun q => hnx _ _ _ (h.2 q))
        · exact False.elim h
        · exact False.elim h
        · exact False.elim h
    · exact False.elim h
    · exact False.elim h
    · exact False.elim h
theorem am_e_if_ge {o : Int} (hx : p.tables.exec = Jvm.exec) (hb : c.code = cc) (hf : am_fmok fm) (hl : len = 3) (ho : 0 ≤ (pc : Int) + o) (hd : decode cc pc = .ok (.ifCond .ge o, len)) (hnx : ∀ L S mm, nx L S mm → am_S p l e R s m args below meth c s0 ad fm cid slo am_cF am_ft Qf n0 s1 (pc + len) L S mm) (hjp : ∀ t L S mm, jp t L S mm → am_S p l e R s m args below meth c s0 ad fm cid slo am_cF am_ft Qf n0 s1 t L S mm) (h : am_istep G ca hs Q nx jp (pc, .ifCond .ge o, len, x, y, z) L S mm) : am_S p l e R s m args below meth c s0 ad fm cid slo am_cF am_ft Qf n0 s1 pc L S mm := by
  subst hl
  rcases S with _ | ⟨v0, S⟩
  · exact False.elim h
  · rcases v0 with v0 | v0 | v0 | v0
    · exact am_s_if_ge hx hb hd (t := ((pc : Int) + o).toNat) (by omega) (fun q => hjp _ _ _ _ (h.1 q)) (fun q => hnx _ _ _ (h.2 q))
    · exact False.elim h
    · exact False.elim h
    · exact False.elim h
theorem am_e_icmp_ge {o : Int} (hx : p.tables.exec = Jvm.exec) (hb : c.code = cc) (hf : am_fmok fm) (hl : len = 3) (ho : 0 ≤ (pc : Int) + o) (hd : decode cc pc = .ok (.if_icmp .ge o, len)) (hnx : ∀ L S mm, nx L S mm → am_S p l e R s m args below meth c s0 ad fm cid slo am_cF am_ft Qf n0 s1 (pc + len) L S mm) (hjp : ∀ t L S mm, jp t L S mm → am_S p l e R s m args below meth c s0 ad fm cid slo am_cF am_ft Qf n0 s1 t L S mm) (h : am_istep G ca hs Q nx jp (pc, .if_icmp .ge o, len, x, y, z) L S mm) : am_S p l e R s m args below meth c s0 ad fm cid slo am_cF am_ft Qf n0 s1 pc L S mm := by
  subst hl
  rcases S with _ | ⟨v0, S⟩
  · exact False.elim h
  · rcases v0 with v0 | v0 | v0 | v0
    · rcases S with _ | ⟨v1, S⟩
      · exact False.elim h
      · rcases v1 with v1 | v1 | v1 | v1
        · exact am_s_icmp_ge hx hb hd (t := ((pc : Int) + o).toNat) (by omega) (fun q => hjp _ _ _ _ (h.1 q)) (fun q => hnx _ _ _ (h.2 q))
        · exact False.elim h
        · exact False.elim h
        · exact False.elim h
    · exact False.elim h
    · exact False.elim h
    · exact False.elim h
theorem am_e_if_gt {o : Int} (hx : p.tables.exec = Jvm.exec) (hb : c.code = cc) (hf : am_fmok fm) (hl : len = 3) (ho : 0 ≤ (pc : Int) + o) (hd : decode cc pc = .ok (.ifCond .gt o, len)) (hnx : ∀ L S mm, nx L S mm → am_S p l e R s m args below meth c s0 ad fm cid slo am_cF am_ft Qf n0 s1 (pc + len) L S mm) (hjp : ∀ t L S mm, jp t L S mm → am_S p l e R s m args below meth c s0 ad fm cid slo am_cF am_ft Qf n0 s1 t L S mm) (h : am_istep G ca hs Q nx jp (pc, .ifCond .gt o, len, x, y, z) L S mm) : am_S p l e R s m args below meth c s0 ad fm cid slo am_cF am_ft Qf n0 s1 pc L S mm := by
  subst hl
  rcases S with _ | ⟨v0, S⟩
  · exact False.elim h
  · rcases v0 with v0 | v0 | v0 | v0
    · exact am_s_if_gt hx hb hd (t := ((pc : Int) + o).toNat) (by omega) (fun q => hjp _ _ _ _ (h.1 q)) (fun q => hnx _ _ _ (h.2 q))
    · exact False.elim h
    · exact False.elim h
    · exact False.elim h
theorem am_e_icmp_gt {o : Int} (hx : p.tables.exec = Jvm.exec) (hb : c.code = cc) (hf : am_fmok fm) (hl : len = 3) (ho : 0 ≤ (pc : Int) + o) (hd : decode cc pc = .ok (.if_icmp .gt o, len)) (hnx : ∀ L S mm, nx L S mm → am_S p l e R s m args below meth c s0 ad fm cid slo am_cF am_ft Qf n0 s1 (pc + len) L S mm) (hjp : ∀ t L S mm, jp t L S mm → am_S p l e R s m args below meth c s0 ad fm cid slo am_cF am_ft Qf n0 s1 t L S mm) (h : am_istep G ca hs Q nx jp (pc, .if_icmp .gt o, len, x, y, z) L S mm) : am_S p l e R s m args below meth c s0 ad fm cid slo am_cF am_ft Qf n0 s1 pc L S mm := by
  subst hl
  rcases S with _ | ⟨v0, S⟩
  · exact False.elim h
  · rcases v0 with v0 | v0 | v0 | v0
    · rcases S with _ | ⟨v1, S⟩
      · exact False.elim h
      · rcases v1 with v1 | v1 | v1 | v1
        · exact am_s_icmp_gt hx hb hd (t := ((pc : Int) + o).toNat) (by omega) (fun q => hjp _ _ _ _ (h.1 q)) (fun q => hnx _ _ _ (h.2 q))
        · exact False.elim h
        · exact False.elim h
        · exact False.elim h
    · exact False.elim h
    · exact False.elim h
    · exact False.elim h
theorem am_e_if_le {o : Int} (hx : p.tables.exec = Jvm.exec) (hb : c.code = cc) (hf : am_fmok fm) (hl : len = 3) (ho : 0 ≤ (pc : Int) + o) (hd : decode cc pc = .ok (.ifCond .le o, len)) (hnx : ∀ L S mm, nx L S mm → am_S p l e R s m args below meth c s0 ad fm cid slo am_cF am_ft Qf n0 s1 (pc + len) L S mm) (hjp : ∀ t L S mm, jp t L S mm → am_S p l e R s m args below meth c s0 ad fm cid slo am_cF am_ft Qf n0 s1 t L S mm) (h : am_istep G ca hs Q nx jp (pc, .ifCond .le o, len, x, y, z) L S mm) : am_S p l e R s m args below meth c s0 ad fm cid slo am_cF am_ft Qf n0 s1 pc L S mm := by
  subst hl
  rcases S with _ | ⟨v0, S⟩
  · exact False.elim h
  · rcases v0 with v0 | v0 | v0 | v0
    · exact am_s_if_le hx hb hd (t := ((pc : Int) + o).toNat) (by omega) (fun q => hjp _ _ _ _ (h.1 q)) (fun q => hnx _ _ _ (h.2 q))
    · exact False.elim h
    · exact False.elim h
    · exact False.elim h
theorem am_e_icmp_le {o : Int} (hx : p.tables.exec = Jvm.exec) (hb : c.code = cc) (hf : am_fmok fm) (hl : len = 3) (ho : 0 ≤ (pc : Int) + o) (hd : decode cc pc = .ok (.if_icmp .le o, len)) (hnx : ∀ L S mm, nx L S mm → am_S p l e R s m args below meth c s0 ad fm cid slo am_cF am_ft Qf n0 s1 (pc + len) L S mm) (hjp : ∀ t L S mm, jp t L S mm → am_S p l e R s m args below meth c s0 ad fm cid slo am_cF am_ft Qf n0 s1 t L S mm) (h : am_istep G ca hs Q nx jp (pc, .if_icmp .le o, len, x, y, z) L S mm) : am_S p l e R s m args below meth c s0 ad fm cid slo am_cF am_ft Qf n0 s1 pc L S mm := by
  subst hl
  rcases S with _ | ⟨v0, S⟩
  · exact False.elim h
  · rcases v0 with v0 | v0 | v0 | v0
    · rcases S with _ | ⟨v1, S⟩
      · exact False.elim h
      · rcases v1 with v1 | v1 | v1 | v1
        · exact am_s_icmp_le hx hb hd (t := ((pc : Int) + o).toNat) (by omega) (fun q => hjp _ _ _ _ (h.1 q)) (fun q => hnx _ _ _ (h.2 q))
        · exact False.elim h
        · exact False.elim h
        · exact False.elim h
    · exact False.elim h
    · exact False.elim h
    · exact False.elim h
theorem am_e_goto {o : Int} (hx : p.tables.exec = Jvm.exec) (hb : c.code = cc) (hf : am_fmok fm) (hl : len = 3) (ho : 0 ≤ (pc : Int) + o) (hd : decode cc pc = .ok (.goto o, len)) (hnx : ∀ L S mm, nx L S mm → am_S p l e R s m args below meth c s0 ad fm cid slo am_cF am_ft Qf n0 s1 (pc + len) L S mm) (hjp : ∀ t L S mm, jp t L S mm → am_S p l e R s m args below meth c s0 ad fm cid slo am_cF am_ft Qf n0 s1 t L S mm) (h : am_istep G ca hs Q nx jp (pc, .goto o, len, x, y, z) L S mm) : am_S p l e R s m args below meth c s0 ad fm cid slo am_cF am_ft Qf n0 s1 pc L S mm := by
  subst hl
  exact am_s_goto hx hb hd (t := ((pc : Int) + o).toNat) (by omega) (hjp _ _ _ _ h)
theorem am_e_acmp_eq {o : Int} (hx : p.tables.exec = Jvm.exec) (hb : c.code = cc) (hf : am_fmok fm) (hl : len = 3) (had : ∀ r, 0 < r → ad r = s0.heap.size + (r - 1).toNat) (ho : 0 ≤ (pc : Int) + o) (hd : decode cc pc = .ok (.if_acmp .eq o, len)) (hnx : ∀ L S mm, nx L S mm → am_S p l e R s m args below meth c s0 ad fm cid slo am_cF am_ft Qf n0 s1 (pc + len) L S mm) (hjp : ∀ t L S mm, jp t L S mm → am_S p l e R s m args below meth c s0 ad fm cid slo am_cF am_ft Qf n0 s1 t L S mm) (h : am_istep G ca hs Q nx jp (pc, .if_acmp .eq o, len, x, y, z) L S mm) : am_S p l e R s m args below meth c s0 ad fm cid slo am_cF am_ft Qf n0 s1 pc L S mm := by
  subst hl
  rcases S with _ | ⟨v0, S⟩
  · exact False.elim h
  · rcases v0 with v0 | v0 | v0 | v0
    · exact False.elim h
    · exact False.elim h
    · rcases S with _ | ⟨v1, S⟩
      · exact False.elim h
      · rcases v1 with v1 | v1 | v1 | v1
        · exact False.elim h
        · exact False.elim h
        · exact am_s_acmp_eq hx hb had h.1 hd (t := ((pc : Int) + o).toNat) (by omega) (fun q => hjp _ _ _ _ (h.2.1 q)) (fun q => hnx _ _ _ (h.2.2 q))
        · exact False.elim h
    · exact False.elim h
theorem am_e_acmp_ne {o : Int} (hx : p.tables.exec = Jvm.exec) (hb : c.code = cc) (hf : am_fmok fm) (hl : len = 3) (had : ∀ r, 0 < r → ad r = s0.heap.size + (r - 1).toNat) (ho : 0 ≤ (pc : Int) + o) (hd : decode cc pc = .ok (.if_acmp .ne o, len)) (hnx : ∀ L S mm, nx L S mm → am_S p l e R s m args below meth c s0 ad fm cid slo am_cF am_ft Qf n0 s1 (pc + len) L S mm) (hjp : ∀ t L S mm, jp t L S mm → am_S p l e R s m args below meth c s0 ad fm cid slo am_cF am_ft Qf n0 s1 t L S mm) (h : am_istep G ca hs Q nx jp (pc, .if_acmp .ne o, len, x, y, z) L S mm) : am_S p l e R s m args below meth c s0 ad fm cid slo am_cF am_ft Qf n0 s1 pc L S mm := by
  subst hl
  rcases S with _ | ⟨v0, S⟩
  · exact False.elim h
  · rcases v0 with v0 | v0 | v0 | v0
    · exact False.elim h
    · exact False.elim h
    · rcases S with _ | ⟨v1, S⟩
      · exact False.elim h
      · rcases v1 with v1 | v1 | v1 | v1
        · exact False.elim h
        · exact False.elim h
        · exact am_s_acmp_ne hx hb had h.1 hd (t := ((pc : Int) + o).toNat) (by omega) (fun q => hjp _ _ _ _ (h.2.1 q)) (fun q => hnx _ _ _ (h.2.2 q))
        · exact False.elim h
    · exact False.elim h
theorem am_e_ifnull {o : Int} (hx : p.tables.exec = Jvm.exec) (hb : c.code = cc) (hf : am_fmok fm) (hl : len = 3) (ho : 0 ≤ (pc : Int) + o) (hd : decode cc pc = .ok (.ifnull o, len)) (hnx : ∀ L S mm, nx L S mm → am_S p l e R s m args below meth c s0 ad fm cid slo am_cF am_ft Qf n0 s1 (pc + len) L S mm) (hjp : ∀ t L S mm, jp t L S mm → am_S p l e R s m args below meth c s0 ad fm cid slo am_cF am_ft Qf n0 s1 t L S mm) (h : am_istep G ca hs Q nx jp (pc, .ifnull o, len, x, y, z) L S mm) : am_S p l e R s m args below meth c s0 ad fm cid slo am_cF am_ft Qf n0 s1 pc L S mm := by
  subst hl
  rcases S with _ | ⟨v0, S⟩
  · exact False.elim h
  · rcases v0 with v0 | v0 | v0 | v0
    · exact False.elim h
    · exact False.elim h
    · exact am_s_ifnull hx hb h.1 hd (t := ((pc : Int) + o).toNat) (by omega) (fun q => hjp _ _ _ _ (h.2.1 q)) (fun q => hnx _ _ _ (h.2.2 q))
    · exact False.elim h
theorem am_e_ifnonnull {o : Int} (hx : p.tables.exec = Jvm.exec) (hb : c.code = cc) (hf : am_fmok fm) (hl : len = 3) (ho : 0 ≤ (pc : Int) + o) (hd : decode cc pc = .ok (.ifnonnull o, len)) (hnx : ∀ L S mm, nx L S mm → am_S p l e R s m args below meth c s0 ad fm cid slo am_cF am_ft Qf n0 s1 (pc + len) L S mm) (hjp : ∀ t L S mm, jp t L S mm → am_S p l e R s m args below meth c s0 ad fm cid slo am_cF am_ft Qf n0 s1 t L S mm) (h : am_istep G ca hs Q nx jp (pc, .ifnonnull o, len, x, y, z) L S mm) : am_S p l e R s m args below meth c s0 ad fm cid slo am_cF am_ft Qf n0 s1 pc L S mm := by
  subst hl
  rcases S with _ | ⟨v0, S⟩
  · exact False.elim h
  · rcases v0 with v0 | v0 | v0 | v0
    · exact False.elim h
    · exact False.elim h
    · exact am_s_ifnonnull hx hb h.1 hd (t := ((pc : Int) + o).toNat) (by omega) (fun q => hjp _ _ _ _ (h.2.1 q)) (fun q => hnx _ _ _ (h.2.2 q))
    · exact False.elim h
theorem am_e_table {d lo hi : Int} {os : Array Int} (hx : p.tables.exec = Jvm.exec) (hb : c.code = cc) (hf : am_fmok fm) (hl : len = len) (hpos : ∀ o ∈ d :: os.toList, 0 ≤ (pc : Int) + o) (hd : decode cc pc = .ok (.tableswitch d lo hi os, len)) (hnx : ∀ L S mm, nx L S mm → am_S p l e R s m args below meth c s0 ad fm cid slo am_cF am_ft Qf n0 s1 (pc + len) L S mm) (hjp : ∀ t L S mm, jp t L S mm → am_S p l e R s m args below meth c s0 ad fm cid slo am_cF am_ft Qf n0 s1 t L S mm) (h : am_istep G ca hs Q nx jp (pc, .tableswitch d lo hi os, len, x, y, z) L S mm) : am_S p l e R s m args below meth c s0 ad fm cid slo am_cF am_ft Qf n0 s1 pc L S mm := by
  rcases S with _ | ⟨v0, S⟩
  · exact False.elim h
  · rcases v0 with v0 | v0 | v0 | v0
    · exact am_s_table hx hb hd h.1 hpos (am_swt_mono (fun t q => hjp _ _ _ _ q) _ _ h.2.1) (fun q => hjp _ _ _ _ (h.2.2 q))
    · exact False.elim h
    · exact False.elim h
    · exact False.elim h
end Exec2
