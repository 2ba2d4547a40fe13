/-! FROM AN ABSTRACT STEP TO THE MACHINE's: new arrays, static fields, strings, lookupswitch; by tools/genexec5.py -/
theorem am_w0 {ad : Int → Nat} {fm : Value} : am_w ad fm 0 0 = .int 0 := by
  show Value.int (Int32.ofInt 0) = .int 0
  rw [show Int32.ofInt 0 = 0 from by decide]
theorem am_w1 {ad : Int → Nat} {fm : Value} : am_w ad fm 1 0 = .long 0 := by
  show Value.long (Int64.ofInt 0) = .long 0
  rw [show Int64.ofInt 0 = 0 from by decide]
theorem am_w2 {ad : Int → Nat} {fm : Value} : am_w ad fm 2 0 = .null := by
  show am_rv ad fm 0 = .null
  exact am_rv0
section Exec5
variable {p : Program} {l : Launch} {e : Env} {R : Room} {s : State} {m : MethodId} {args : Array Value} {below : List Frame} {meth : Method} {c : Code} {cc : ByteArray} {s0 : State} {ad : Int → Nat} {fm : Value} {cid : Int → ClassId} {slo : Int → Nat → Nat} {Qf : State → Prop} {n0 s1 : Int} {pc len : Nat} {x y : Int} {z : Nat} {L S : List aV} {mm : aM} {G : Nat → aM → Prop} {ca : aC} {hs : aH} {Q : aO → aM → Prop} {nx : List aV → List aV → aM → Prop} {jp : Nat → List aV → List aV → aM → Prop} {md o idx k : Nat} {t0 n : Int}
theorem am_e_newarray_int  (hx : p.tables.exec = Jvm.exec) (hb : c.code = cc) (hf : am_fmok fm) (hl : len = 2) (X : am_Wd s0 ad fm cid slo s) (hRc : (amC - n0).toNat ≤ R.cells) (hRs : (amS - s1).toNat ≤ R.slots) (hxt : x = 40) (hw : Jvm.Cond.arrayClass (newarray.typeOf .int) ∈ lw_all) (hd : decode cc pc = .ok (.newarray .int, len)) (hnx : ∀ L S mm, nx L S mm → am_S p l e R s m args below meth c s0 ad fm cid slo am_cF am_ft Qf n0 s1 (pc + len) L S mm) (hjp : ∀ t L S mm, jp t L S mm → am_S p l e R s m args below meth c s0 ad fm cid slo am_cF am_ft Qf n0 s1 t L S mm) (h : am_istep G ca hs Q nx jp (pc, .newarray .int, len, x, y, z) L S mm) : am_S p l e R s m args below meth c s0 ad fm cid slo am_cF am_ft Qf n0 s1 pc L S mm := by
  subst hl
  subst hxt
  have hra := (X.arr 40 rfl).2 (by decide)
  rw [show am_aty 40 = FieldType.int from rfl] at hra
  have hdv : defaultValue (newarray.typeOf .int) = am_w ad fm (am_aw 40) 0 := by
    rw [show am_aw 40 = 0 from rfl, am_w0]
    rfl
  rcases S with _ | ⟨v0, S⟩
  · exact False.elim h
  · rcases v0 with v0 | v0 | v0 | v0
    · exact am_s_newarray hx hb X.had hRc hRs (aty := .int) (X.words args _ hw) rfl hra (by decide) hdv h.1 hd (hnx _ _ _ h.2)
    · exact False.elim h
    · exact False.elim h
    · exact False.elim h
theorem am_e_newarray_long  (hx : p.tables.exec = Jvm.exec) (hb : c.code = cc) (hf : am_fmok fm) (hl : len = 2) (X : am_Wd s0 ad fm cid slo s) (hRc : (amC - n0).toNat ≤ R.cells) (hRs : (amS - s1).toNat ≤ R.slots) (hxt : x = 41) (hw : Jvm.Cond.arrayClass (newarray.typeOf .long) ∈ lw_all) (hd : decode cc pc = .ok (.newarray .long, len)) (hnx : ∀ L S mm, nx L S mm → am_S p l e R s m args below meth c s0 ad fm cid slo am_cF am_ft Qf n0 s1 (pc + len) L S mm) (hjp : ∀ t L S mm, jp t L S mm → am_S p l e R s m args below meth c s0 ad fm cid slo am_cF am_ft Qf n0 s1 t L S mm) (h : am_istep G ca hs Q nx jp (pc, .newarray .long, len, x, y, z) L S mm) : am_S p l e R s m args below meth c s0 ad fm cid slo am_cF am_ft Qf n0 s1 pc L S mm := by
  subst hl
  subst hxt
  have hra := (X.arr 41 rfl).2 (by decide)
  rw [show am_aty 41 = FieldType.long from rfl] at hra
  have hdv : defaultValue (newarray.typeOf .long) = am_w ad fm (am_aw 41) 0 := by
    rw [show am_aw 41 = 1 from rfl, am_w1]
    rfl
  rcases S with _ | ⟨v0, S⟩
  · exact False.elim h
  · rcases v0 with v0 | v0 | v0 | v0
    · exact am_s_newarray hx hb X.had hRc hRs (aty := .long) (X.words args _ hw) rfl hra (by decide) hdv h.1 hd (hnx _ _ _ h.2)
    · exact False.elim h
    · exact False.elim h
    · exact False.elim h
theorem am_e_newarray_boolean  (hx : p.tables.exec = Jvm.exec) (hb : c.code = cc) (hf : am_fmok fm) (hl : len = 2) (X : am_Wd s0 ad fm cid slo s) (hRc : (amC - n0).toNat ≤ R.cells) (hRs : (amS - s1).toNat ≤ R.slots) (hxt : x = 42) (hw : Jvm.Cond.arrayClass (newarray.typeOf .boolean) ∈ lw_all) (hd : decode cc pc = .ok (.newarray .boolean, len)) (hnx : ∀ L S mm, nx L S mm → am_S p l e R s m args below meth c s0 ad fm cid slo am_cF am_ft Qf n0 s1 (pc + len) L S mm) (hjp : ∀ t L S mm, jp t L S mm → am_S p l e R s m args below meth c s0 ad fm cid slo am_cF am_ft Qf n0 s1 t L S mm) (h : am_istep G ca hs Q nx jp (pc, .newarray .boolean, len, x, y, z) L S mm) : am_S p l e R s m args below meth c s0 ad fm cid slo am_cF am_ft Qf n0 s1 pc L S mm := by
  subst hl
  subst hxt
  have hra := (X.arr 42 rfl).2 (by decide)
  rw [show am_aty 42 = FieldType.boolean from rfl] at hra
  have hdv : defaultValue (newarray.typeOf .boolean) = am_w ad fm (am_aw 42) 0 := by
    rw [show am_aw 42 = 0 from rfl, am_w0]
    rfl
  rcases S with _ | ⟨v0, S⟩
  · exact False.elim h
  · rcases v0 with v0 | v0 | v0 | v0
    · exact am_s_newarray hx hb X.had hRc hRs (aty := .boolean) (X.words args _ hw) rfl hra (by decide) hdv h.1 hd (hnx _ _ _ h.2)
    · exact False.elim h
    · exact False.elim h
    · exact False.elim h
theorem am_e_newarray_byte  (hx : p.tables.exec = Jvm.exec) (hb : c.code = cc) (hf : am_fmok fm) (hl : len = 2) (X : am_Wd s0 ad fm cid slo s) (hRc : (amC - n0).toNat ≤ R.cells) (hRs : (amS - s1).toNat ≤ R.slots) (hxt : x = 43) (hw : Jvm.Cond.arrayClass (newarray.typeOf .byte) ∈ lw_all) (hd : decode cc pc = .ok (.newarray .byte, len)) (hnx : ∀ L S mm, nx L S mm → am_S p l e R s m args below meth c s0 ad fm cid slo am_cF am_ft Qf n0 s1 (pc + len) L S mm) (hjp : ∀ t L S mm, jp t L S mm → am_S p l e R s m args below meth c s0 ad fm cid slo am_cF am_ft Qf n0 s1 t L S mm) (h : am_istep G ca hs Q nx jp (pc, .newarray .byte, len, x, y, z) L S mm) : am_S p l e R s m args below meth c s0 ad fm cid slo am_cF am_ft Qf n0 s1 pc L S mm := by
  subst hl
  subst hxt
  have hra := (X.arr 43 rfl).2 (by decide)
  rw [show am_aty 43 = FieldType.byte from rfl] at hra
  have hdv : defaultValue (newarray.typeOf .byte) = am_w ad fm (am_aw 43) 0 := by
    rw [show am_aw 43 = 0 from rfl, am_w0]
    rfl
  rcases S with _ | ⟨v0, S⟩
  · exact False.elim h
  · rcases v0 with v0 | v0 | v0 | v0
    · exact am_s_newarray hx hb X.had hRc hRs (aty := .byte) (X.words args _ hw) rfl hra (by decide) hdv h.1 hd (hnx _ _ _ h.2)
    · exact False.elim h
    · exact False.elim h
    · exact False.elim h
theorem am_e_lookup {d : Int} {ps : Array (Int × Int)} (hx : p.tables.exec = Jvm.exec) (hb : c.code = cc) (hf : am_fmok fm) (hl : len = len) (hp : (ps.toList.zip (ps.toList.drop 1)).all (fun (a, next) => a.1 < next.1) = true) (hpos : ∀ o ∈ d :: ps.toList.map (·.2), 0 ≤ (pc : Int) + o) (hd : decode cc pc = .ok (.lookupswitch d ps, len)) (hnx : ∀ L S mm, nx L S mm → am_S p l e R s m args below meth c s0 ad fm cid slo am_cF am_ft Qf n0 s1 (pc + len) L S mm) (hjp : ∀ t L S mm, jp t L S mm → am_S p l e R s m args below meth c s0 ad fm cid slo am_cF am_ft Qf n0 s1 t L S mm) (h : am_istep G ca hs Q nx jp (pc, .lookupswitch d ps, len, x, y, z) L S mm) : am_S p l e R s m args below meth c s0 ad fm cid slo am_cF am_ft Qf n0 s1 pc L S mm := by
  rcases S with _ | ⟨v0, S⟩
  · exact False.elim h
  · rcases v0 with v0 | v0 | v0 | v0
    · exact am_s_lookup hx hb hd hp hpos (am_swl_mono (fun t q => hjp _ _ _ _ q) _ h.1) (fun q => hjp _ _ _ _ (h.2 q))
    · exact False.elim h
    · exact False.elim h
    · exact False.elim h
theorem am_e_ldcwS {w : Nat} (hx : p.tables.exec = Jvm.exec) (hb : c.code = cc) (hf : am_fmok fm) (hl : len = 3) (X : am_Wd s0 ad fm cid slo s) (hown : s.vm.findClass (am_on o) = some m.cls) (hz : z = 1) (hg : (o, idx, w) ∈ am_gT) (hy : y = -(100 + (w : Int))) (hd : decode cc pc = .ok (.ldc_w idx, len)) (hnx : ∀ L S mm, nx L S mm → am_S p l e R s m args below meth c s0 ad fm cid slo am_cF am_ft Qf n0 s1 (pc + len) L S mm) (hjp : ∀ t L S mm, jp t L S mm → am_S p l e R s m args below meth c s0 ad fm cid slo am_cF am_ft Qf n0 s1 t L S mm) (h : am_istep G ca hs Q nx jp (pc, .ldc_w idx, len, x, y, z) L S mm) : am_S p l e R s m args below meth c s0 ad fm cid slo am_cF am_ft Qf n0 s1 pc L S mm := by
  subst hl
  subst hz
  subst hy
  have hZ : vk_R (am_on o) idx (am_tx w) (ad (-(100 + (w : Int)))) s := X.strs (o, idx, w) hg
  exact am_s_ldcwS (text := am_tx w) hx hb hown (by omega) hZ hd (hnx _ _ _ h)
theorem am_e_lrem  (hx : p.tables.exec = Jvm.exec) (hb : c.code = cc) (hf : am_fmok fm) (hl : len = 1)  (hd : decode cc pc = .ok (.lrem, len)) (hnx : ∀ L S mm, nx L S mm → am_S p l e R s m args below meth c s0 ad fm cid slo am_cF am_ft Qf n0 s1 (pc + len) L S mm) (hjp : ∀ t L S mm, jp t L S mm → am_S p l e R s m args below meth c s0 ad fm cid slo am_cF am_ft Qf n0 s1 t L S mm) (h : am_istep G ca hs Q nx jp (pc, .lrem, len, x, y, z) L S mm) : am_S p l e R s m args below meth c s0 ad fm cid slo am_cF am_ft Qf n0 s1 pc L S mm := by
  subst hl
  rcases S with _ | ⟨v0, S⟩
  · exact False.elim h
  · rcases v0 with v0 | v0 | v0 | v0
    · exact False.elim h
    · rcases S with _ | ⟨v1, S⟩
      · exact False.elim h
      · rcases v1 with v1 | v1 | v1 | v1
        · exact False.elim h
        · exact am_s_lrem hx hb h.1 hd (hnx _ _ _ h.2)
        · exact False.elim h
        · exact False.elim h
    · exact False.elim h
    · exact False.elim h
end Exec5
