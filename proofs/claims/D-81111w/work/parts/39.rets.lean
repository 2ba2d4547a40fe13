/-! FROM AN ABSTRACT STEP TO THE MACHINE's: returns; by tools/genexec6.py -/
theorem am_nrC {a : Int} (h : 0 ≤ a ∧ a ≤ 65535) : (Int32.ofInt a).toUInt32.toUInt16.toUInt32.toInt32 = Int32.ofInt a := by
  obtain ⟨n, rfl⟩ := Int.eq_ofNat_of_zero_le h.1
  apply Int32.toBitVec_inj.mp
  apply BitVec.eq_of_toNat_eq
  simp
  omega
theorem am_nrB {a : Int} (h : -128 ≤ a ∧ a ≤ 127) : (Int32.ofInt a).toInt8.toInt32 = Int32.ofInt a := by
  rw [← Int32.toInt_inj, Int8.toInt_toInt32, Int32.toInt_toInt8, Int32.toInt_ofInt]
  have e : (Int32.size : Int) = 4294967296 := rfl
  rw [show a.bmod Int32.size = a from Int.bmod_eq_of_le (by omega) (by omega)]
  exact Int.bmod_eq_of_le (by omega) (by omega)
theorem am_nrZ {a : Int} (h : a = 0 ∨ a = 1) : (Int32.ofInt a) &&& 1 = Int32.ofInt a := by
  rcases h with rfl | rfl <;> decide
/-- the type that an ireturn of kind z asks for -/
def am_nz (z : Nat) (t : Option FieldType) : Bool := match z, t with
  | 0, some .int => true
  | 1, some .boolean => true
  | 2, some .char => true
  | 3, some .byte => true
  | _, _ => false
theorem am_nz_inv {z : Nat} {t : Option FieldType} (h : am_nz z t = true) : (z = 0 ∧ t = some .int) ∨ (z = 1 ∧ t = some .boolean) ∨ (z = 2 ∧ t = some .char) ∨ (z = 3 ∧ t = some .byte) := by
  unfold am_nz at h
  split at h <;> simp_all
def am_na (t : Option FieldType) : Bool := match t with
  | some (.object _) => true
  | some (.array _) => true
  | _ => false
theorem am_na_inv {t : Option FieldType} (h : am_na t = true) : ∃ rt, t = some rt ∧ ((∃ n, rt = .object n) ∨ ∃ t, rt = .array t) := by
  unfold am_na at h
  split at h
  · exact ⟨_, rfl, Or.inl ⟨_, rfl⟩⟩
  · exact ⟨_, rfl, Or.inr ⟨_, rfl⟩⟩
  · cases h
section Rets
variable {p : Program} {l : Launch} {e : Env} {R : Room} {s : State} {m : MethodId} {args : Array Value} {below : List Frame} {meth : Method} {c : Code} {cc : ByteArray} {s0 : State} {ad : Int → Nat} {fm : Value} {cid : Int → ClassId} {slo : Int → Nat → Nat} {n0 s1 : Int} {pc len : Nat} {x y : Int} {z : Nat} {L S : List aV} {mm : aM} {G : Nat → aM → Prop} {ca : aC} {hs : aH} {Q : aO → aM → Prop} {nx : List aV → List aV → aM → Prop} {jp : Nat → List aV → List aV → aM → Prop} {b2 b3 : Prop}
theorem am_e_ireturn (hx : p.tables.exec = Jvm.exec) (hb : c.code = cc) (hf : am_fmok fm) (hlocks : meth.locks = false) (hl : len = 1) (hr : am_nz z meth.sig.returnType = true) (hg2 : b2 → mm 0 2 = 1) (hg3 : b3 → mm 0 3 = 1) (hd : decode cc pc = .ok (.ireturn, len)) (h : am_istep G ca hs Q nx jp (pc, .ireturn, len, x, y, z) L S mm) : am_S p l e R s m args below meth c s0 ad fm cid slo am_cF am_ft (am_Post s0 ad fm cid slo am_cF am_ft s below Q n0 s1 b2 b3) n0 s1 pc L S mm := by
  subst hl
  rcases S with _ | ⟨v0, S⟩
  · exact False.elim h
  · rcases v0 with v0 | v0 | v0 | v0
    · rcases S with _ | ⟨v1, S⟩
      · rcases am_nz_inv hr with ⟨rfl, ht⟩ | ⟨rfl, ht⟩ | ⟨rfl, ht⟩ | ⟨rfl, ht⟩
        · exact am_s_iret hx hb hlocks ht rfl h hg2 hg3 hd
        · exact am_s_iret hx hb hlocks ht (congrArg Value.int (am_nrZ h.1)) h.2 hg2 hg3 hd
        · exact am_s_iret hx hb hlocks ht (congrArg Value.int (am_nrC h.1)) h.2 hg2 hg3 hd
        · exact am_s_iret hx hb hlocks ht (congrArg Value.int (am_nrB h.1)) h.2 hg2 hg3 hd
      · exact False.elim h
    · exact False.elim h
    · exact False.elim h
    · exact False.elim h
theorem am_e_lreturn (hx : p.tables.exec = Jvm.exec) (hb : c.code = cc) (hf : am_fmok fm) (hlocks : meth.locks = false) (hl : len = 1) (hr : meth.sig.returnType = some .long) (hg2 : b2 → mm 0 2 = 1) (hg3 : b3 → mm 0 3 = 1) (hd : decode cc pc = .ok (.lreturn, len)) (h : am_istep G ca hs Q nx jp (pc, .lreturn, len, x, y, z) L S mm) : am_S p l e R s m args below meth c s0 ad fm cid slo am_cF am_ft (am_Post s0 ad fm cid slo am_cF am_ft s below Q n0 s1 b2 b3) n0 s1 pc L S mm := by
  subst hl
  rcases S with _ | ⟨v0, S⟩
  · exact False.elim h
  · rcases v0 with v0 | v0 | v0 | v0
    · exact False.elim h
    · rcases S with _ | ⟨v1, S⟩
      · exact am_s_lret hx hb hlocks hr h hg2 hg3 hd
      · exact False.elim h
    · exact False.elim h
    · exact False.elim h
theorem am_e_areturn (hx : p.tables.exec = Jvm.exec) (hb : c.code = cc) (hf : am_fmok fm) (hlocks : meth.locks = false) (hl : len = 1) (hr : am_na meth.sig.returnType = true) (hg2 : b2 → mm 0 2 = 1) (hg3 : b3 → mm 0 3 = 1) (hd : decode cc pc = .ok (.areturn, len)) (h : am_istep G ca hs Q nx jp (pc, .areturn, len, x, y, z) L S mm) : am_S p l e R s m args below meth c s0 ad fm cid slo am_cF am_ft (am_Post s0 ad fm cid slo am_cF am_ft s below Q n0 s1 b2 b3) n0 s1 pc L S mm := by
  subst hl
  rcases S with _ | ⟨v0, S⟩
  · exact False.elim h
  · rcases v0 with v0 | v0 | v0 | v0
    · exact False.elim h
    · exact False.elim h
    · rcases S with _ | ⟨v1, S⟩
      · obtain ⟨rt, e1, e2⟩ := am_na_inv hr
        exact am_s_aret hx hb hlocks hf e1 e2 h hg2 hg3 hd
      · exact False.elim h
    · exact False.elim h
theorem am_e_return (hx : p.tables.exec = Jvm.exec) (hb : c.code = cc) (hlocks : meth.locks = false) (hl : len = 1) (hr : meth.sig.returnType = none) (hg2 : b2 → mm 0 2 = 1) (hg3 : b3 → mm 0 3 = 1) (hd : decode cc pc = .ok (.return_, len)) (h : am_istep G ca hs Q nx jp (pc, .return_, len, x, y, z) L S mm) : am_S p l e R s m args below meth c s0 ad fm cid slo am_cF am_ft (am_Post s0 ad fm cid slo am_cF am_ft s below Q n0 s1 b2 b3) n0 s1 pc L S mm := by
  subst hl
  rcases S with _ | ⟨v0, S⟩
  · exact am_s_vret hx hb hlocks hr h hg2 hg3 hd
  · exact False.elim h
end Rets
