/-! ONE ELEMENT OF A METHOD's TABLE IS AS THE TABLES OF LINKS SAY; THEN ITS ABSTRACT STEP IS THE MACHINE's; by tools/gendisp.py -/
set_option maxRecDepth 100000
theorem am_ac_int : Jvm.Cond.arrayClass (newarray.typeOf .int) ∈ lw_all := by decide +kernel
theorem am_ac_long : Jvm.Cond.arrayClass (newarray.typeOf .long) ∈ lw_all := by decide +kernel
theorem am_ac_boolean : Jvm.Cond.arrayClass (newarray.typeOf .boolean) ∈ lw_all := by decide +kernel
theorem am_ac_byte : Jvm.Cond.arrayClass (newarray.typeOf .byte) ∈ lw_all := by decide +kernel
theorem am_gs_0 : Jvm.Cond.fieldLink (am_on 1) 297 "ArmsHouse" "ROWS" "[I" ∈ lw_all := q1081
theorem am_gs_1 : Jvm.Cond.fieldLink (am_on 1) 230 "ArmsHouse" "WAVES" "[I" ∈ lw_all := q1058
theorem am_gs_3 : Jvm.Cond.fieldLink (am_on 30) 38 "java/lang/String" "COMPACT_STRINGS" "Z" ∈ lw_all := q742
theorem am_gs_4 : Jvm.Cond.fieldLink (am_on 30) 1053 "jdk/internal/util/Preconditions" "SIOOBE_FORMATTER" "Ljava/util/function/BiFunction;" ∈ lw_all := q758
theorem am_nfq {x t k : Int} (h0 : 0 ≤ x) (h : (am_tg x.toNat).all (fun t => !(am_fin t k)) = true) (ht : am_ok x t) : am_fin t k = false := by
  have e : x = ((x.toNat : Nat) : Int) := by omega
  rw [e] at ht
  have q := List.all_eq_true.mp h t (am_tg_ok ht)
  simpa using q
theorem am_hnd_no : ∀ {hs : aH} {pc : Nat}, hs.all (fun q => !(Nat.ble q.1 pc && Nat.ble (pc + 1) q.2.1)) = true → ∀ c, am_hnd hs pc c = none := by
  intro hs pc h c
  induction hs with
  | nil => rfl
  | cons q r ih =>
    obtain ⟨a, b, hp, k⟩ := q
    simp only [List.all_cons, Bool.and_eq_true, Bool.not_eq_true'] at h
    unfold am_hnd
    have e : (Nat.ble a pc && Nat.ble (pc + 1) b) = false := h.1
    rw [e]
    exact ih h.2
def am_ck (o md : Nat) (rt : Option FieldType) (nm : Bool) (hs : aH) (e : aE) : Bool := match e with
  | (pc, i, len, x, y, z) => match i with
    | .iadd => decide (len = 1)
    | .isub => decide (len = 1)
    | .imul => decide (len = 1)
    | .idiv => decide (len = 1)
    | .irem => decide (len = 1)
    | .ineg => decide (len = 1)
    | .iand => decide (len = 1)
    | .ior => decide (len = 1)
    | .ixor => decide (len = 1)
    | .ishl => decide (len = 1)
    | .ishr => decide (len = 1)
    | .ladd => decide (len = 1)
    | .lsub => decide (len = 1)
    | .lmul => decide (len = 1)
    | .land => decide (len = 1)
    | .lor => decide (len = 1)
    | .lneg => decide (len = 1)
    | .lshl => decide (len = 1)
    | .lushr => decide (len = 1)
    | .lcmp => decide (len = 1)
    | .i2l => decide (len = 1)
    | .l2i => decide (len = 1)
    | .i2c => decide (len = 1)
    | .dup => decide (len = 1)
    | .dup2 => decide (len = 1)
    | .pop => decide (len = 1)
    | .lrem => decide (len = 1)
    | .aconst_null => decide (len = 1)
    | .iload _ => decide (len = 2)
    | .iload_n _ => decide (len = 1)
    | .lload _ => decide (len = 2)
    | .lload_n _ => decide (len = 1)
    | .aload _ => decide (len = 2)
    | .aload_n _ => decide (len = 1)
    | .istore _ => decide (len = 2)
    | .istore_n _ => decide (len = 1)
    | .astore _ => decide (len = 2)
    | .astore_n _ => decide (len = 1)
    | .lstore _ => decide (len = 2)
    | .lstore_n _ => decide (len = 1)
    | .iconst n => decide (len = 1) && decide (n = y) && decide (-2147483648 ≤ y ∧ y ≤ 2147483647)
    | .bipush n => decide (len = 2) && decide (n = y) && decide (-128 ≤ y ∧ y ≤ 127)
    | .sipush n => decide (len = 3) && decide (n = y) && decide (-32768 ≤ y ∧ y ≤ 32767)
    | .lconst n => decide (len = 1) && decide (y = ((n : Nat) : Int))
    | .ldc2_w idx => decide (len = 3) && decide ((o, idx, y) ∈ am_lT) && decide (-9223372036854775808 ≤ y ∧ y ≤ 9223372036854775807)
    | .ldc idx => decide (len = 2) && decide (z = 0) && decide ((o, idx, y) ∈ am_jT) && decide (-2147483648 ≤ y ∧ y ≤ 2147483647)
    | .ldc_w idx => decide (len = 3) && ((decide (z = 0) && decide ((o, idx, y) ∈ am_jT) && decide (-2147483648 ≤ y ∧ y ≤ 2147483647)) || (decide (z = 1) && decide ((o, idx, (-y - 100).toNat) ∈ am_gT) && decide (y = -(100 + (((-y - 100).toNat : Nat) : Int)))))
    | .iinc _ k => decide (len = 3) && decide (k = y)
    | .ifCond _ j => decide (len = 3) && decide (0 ≤ (pc : Int) + j)
    | .if_icmp _ j => decide (len = 3) && decide (0 ≤ (pc : Int) + j)
    | .goto j => decide (len = 3) && decide (0 ≤ (pc : Int) + j)
    | .if_acmp _ j => decide (len = 3) && decide (0 ≤ (pc : Int) + j)
    | .ifnull j => decide (len = 3) && decide (0 ≤ (pc : Int) + j)
    | .ifnonnull j => decide (len = 3) && decide (0 ≤ (pc : Int) + j)
    | .tableswitch q _ _ os => (q :: os.toList).all (fun j => decide (0 ≤ (pc : Int) + j))
    | .lookupswitch q ps => (ps.toList.zip (ps.toList.drop 1)).all (fun (a, next) => a.1 < next.1) && (q :: ps.toList.map (·.2)).all (fun j => decide (0 ≤ (pc : Int) + j))
    | .iaload => decide (len = 1) && (decide (z = 0) || (decide (z = 1) && decide (am_l3 x (am_sfs md) = some (40, y))) || (decide (z = 2) && decide (am_l3 x (am_sfs md) = some (40, y))) || decide (z = 3))
    | .laload => decide (len = 1) && (decide (z = 0) || (decide (z = 1) && decide (am_l3 x (am_sfs md) = some (41, y))))
    | .baload => decide (len = 1) && (decide (z = 0) || (decide (z = 1) && decide (am_l3 x (am_sfs md) = some (42, y))) || decide (z = 2) || (decide (z = 3) && decide (am_l3 x (am_sfs md) = some (43, y))))
    | .aaload => decide (len = 1) && ((decide (z = 0) && decide (x = 30 ∨ x = 7 ∨ x = 4 ∨ x = 11 ∨ x = 12)) || (decide (z = 1) && (match am_l3 x (am_sfs md) with | some (t, n) => decide (n = y) && decide (44 ≤ t ∧ t ≤ 48) | none => false)) || (decide (z = 2) && decide (x = 30 ∨ x = 7 ∨ x = 4 ∨ x = 11 ∨ x = 12)) || (decide (z = 3) && (match am_l3 x (am_sfs md) with | some (t, n) => decide (n = y) && decide (44 ≤ t ∧ t ≤ 48) | none => false)))
    | .iastore => decide (len = 1) && (decide (z = 0) || (decide (z = 1) && decide (0 < x) && decide (am_l3 x (am_sfs md) = some (40, y))))
    | .lastore => decide (len = 1) && (decide (z = 0) || (decide (z = 1) && decide (0 < x) && decide (am_l3 x (am_sfs md) = some (41, y))))
    | .bastore => decide (len = 1) && (decide (z = 0) || (decide (z = 1) && decide (0 < x) && decide (am_l3 x (am_sfs md) = some (42, y))))
    | .aastore => decide (len = 1) && ((decide (z = 0) && decide (x = 30 ∨ x = 7 ∨ x = 4 ∨ x = 11 ∨ x = 12)) || (decide (z = (z - 1) + 1) && decide (0 < x) && decide (am_l3 x (am_sfs md) = some (am_over ((z - 1 : Nat) : Int), y)) && decide (((z - 1 : Nat) : Int) = 30 ∨ ((z - 1 : Nat) : Int) = 7 ∨ ((z - 1 : Nat) : Int) = 4 ∨ ((z - 1 : Nat) : Int) = 11 ∨ ((z - 1 : Nat) : Int) = 12)))
    | .arraylength => decide (len = 1) && (decide (z = 0) || (decide (z = 1) && (match am_l3 x (am_sfs md) with | some (t, n) => decide (n = y) && decide (40 ≤ t ∧ t ≤ 48) | none => false)))
    | .getfield idx => (match am_f2 o idx with | some (t0, k) => decide (len = 3) && am_isO t0 && decide (k < am_cF t0) && ((((((((((decide (z = 0) && decide (y = (k : Int)) && decide ((x = t0 ∧ x ≠ 12 ∧ x ≠ 18 ∧ x ≠ 19) ∨ (x = 12 ∧ t0 = 13 ∧ k < 3)) && decide (am_ft t0 k = 0)) || (decide (z = 1) && decide (y = (k : Int)) && decide ((x = t0 ∧ x ≠ 12 ∧ x ≠ 18 ∧ x ≠ 19) ∨ (x = 12 ∧ t0 = 13 ∧ k < 3)) && decide (am_ft t0 k = 1))) || (decide (z = 2) && decide (y = (k : Int)) && decide ((x = t0 ∧ x ≠ 12 ∧ x ≠ 18 ∧ x ≠ 19) ∨ (x = 12 ∧ t0 = 13 ∧ k < 3)) && decide (am_ft t0 k = 2))) || (decide (z = 3) && decide (y = (k : Int)) && (match am_l3 x (am_sfs md) with | some (t, _) => decide (t = t0) | none => false) && decide (am_ft t0 k = 0))) || (decide (z = 4) && decide (y = (k : Int)) && (match am_l3 x (am_sfs md) with | some (t, _) => decide (t = t0) | none => false) && decide (am_ft t0 k = 1))) || (decide (z = 5) && decide (y = (k : Int)) && (match am_l3 x (am_sfs md) with | some (t, _) => decide (t = t0) | none => false) && decide (am_ft t0 k = 2))) || (decide (z = 6) && decide ((x, ((k : Nat) : Int), y) ∈ am_ffs md) && (match am_l3 x (am_sfs md) with | some (t, _) => decide (t = t0) | none => false) && decide (am_ft t0 k = 2))) || (decide (z = 7) && decide (y = (k : Int)) && decide ((x = t0 ∧ x ≠ 12 ∧ x ≠ 18 ∧ x ≠ 19) ∨ (x = 12 ∧ t0 = 13 ∧ k < 3)) && decide (am_ft t0 k = 0) && decide (am_lk o idx am_fT = some (t0, k)))) || (decide (z = 8) && decide (y = (k : Int)) && decide ((x = t0 ∧ x ≠ 12 ∧ x ≠ 18 ∧ x ≠ 19) ∨ (x = 12 ∧ t0 = 13 ∧ k < 3)) && decide (am_ft t0 k = 1) && decide (am_lk o idx am_fT = some (t0, k)))) || (decide (z = 9) && decide (y = (k : Int)) && decide ((x = t0 ∧ x ≠ 12 ∧ x ≠ 18 ∧ x ≠ 19) ∨ (x = 12 ∧ t0 = 13 ∧ k < 3)) && decide (am_ft t0 k = 2) && decide (am_lk o idx am_fT = some (t0, k)))) | none => false)
    | .putfield idx => (match am_f2 o idx with | some (t0, k) => decide (len = 3) && am_isO t0 && decide (k < am_cF t0) && (decide ((am_cT t0 k).2.2.2 = false) || (decide ((am_cT t0 k).2.2.2 = true) && nm && decide ((am_cT t0 k).1 = am_on o) && (am_lk o idx am_fT).isSome)) && ((((((((((decide (z = 0) && decide (y = (k : Int)) && decide ((x = t0 ∧ x ≠ 12 ∧ x ≠ 18 ∧ x ≠ 19) ∨ (x = 12 ∧ t0 = 13 ∧ k < 3)) && decide (am_ft t0 k = 0) && decide (am_yk (am_cY t0 k) = 0) && (decide (0 ≤ x) && (am_tg x.toNat).all (fun t => !(am_fin t ((k : Nat) : Int))))) || (decide (z = 1) && decide (y = (k : Int)) && decide ((x = t0 ∧ x ≠ 12 ∧ x ≠ 18 ∧ x ≠ 19) ∨ (x = 12 ∧ t0 = 13 ∧ k < 3)) && decide (am_ft t0 k = 1) && decide (am_yk (am_cY t0 k) = 1) && (decide (0 ≤ x) && (am_tg x.toNat).all (fun t => !(am_fin t ((k : Nat) : Int)))))) || (decide (z = 2) && decide (y = (k : Int)) && decide ((x = t0 ∧ x ≠ 12 ∧ x ≠ 18 ∧ x ≠ 19) ∨ (x = 12 ∧ t0 = 13 ∧ k < 3)) && decide (am_ft t0 k = 2) && decide (am_yk (am_cY t0 k) = 2) && (decide (0 ≤ x) && (am_tg x.toNat).all (fun t => !(am_fin t ((k : Nat) : Int)))))) || (decide (z = 3) && decide (y = (k : Int)) && decide ((x = t0 ∧ x ≠ 12 ∧ x ≠ 18 ∧ x ≠ 19) ∨ (x = 12 ∧ t0 = 13 ∧ k < 3)) && decide (am_ft t0 k = 0) && decide (am_yk (am_cY t0 k) = 3) && (decide (0 ≤ x) && (am_tg x.toNat).all (fun t => !(am_fin t ((k : Nat) : Int)))))) || (decide (z = 4) && decide (y = (k : Int)) && (match am_l3 x (am_sfs md) with | some (t, _) => decide (t = t0) | none => false) && decide (am_ft t0 k = 0) && decide (am_yk (am_cY t0 k) = 0) && decide (0 < x) && !(am_fin t0 ((k : Nat) : Int)))) || (decide (z = 5) && decide (y = (k : Int)) && (match am_l3 x (am_sfs md) with | some (t, _) => decide (t = t0) | none => false) && decide (am_ft t0 k = 1) && decide (am_yk (am_cY t0 k) = 1) && decide (0 < x) && !(am_fin t0 ((k : Nat) : Int)))) || (decide (z = 6) && decide (y = (k : Int)) && (match am_l3 x (am_sfs md) with | some (t, _) => decide (t = t0) | none => false) && decide (am_ft t0 k = 2) && decide (am_yk (am_cY t0 k) = 2) && decide (0 < x) && !(am_fin t0 ((k : Nat) : Int)))) || (decide (z = 7) && decide (y = (k : Int)) && (match am_l3 x (am_sfs md) with | some (t, _) => decide (t = t0) | none => false) && decide (am_ft t0 k = 0) && decide (am_yk (am_cY t0 k) = 3) && decide (0 < x) && !(am_fin t0 ((k : Nat) : Int)))) || (decide (z = 8) && decide (y = (k : Int)) && decide (x = t0) && decide (t0 = 1 ∨ t0 = 2) && decide (am_ft t0 k = 2) && decide (am_yk (am_cY t0 k) = 2))) || (decide (z = 9) && decide (y = (k : Int)) && decide (x = t0) && decide (t0 = 9) && decide (am_ft t0 k = 2) && decide (am_yk (am_cY t0 k) = 2))) | none => false)
    | .new idx => decide (len = 3) && decide (x = ((x.toNat : Nat) : Int)) && decide (y = ((y.toNat : Nat) : Int)) && decide ((o, idx, x.toNat) ∈ am_cL) && decide ((x.toNat, y.toNat) ∈ am_nT) && ((am_isO ((x.toNat : Nat) : Int) && decide (am_on x.toNat = am_cN ((x.toNat : Nat) : Int))) || decide (x.toNat = 3))
    | .newarray q => decide (len = 2) && (match q with | .int => decide (x = 40) | .long => decide (x = 41) | .boolean => decide (x = 42) | .byte => decide (x = 43) | _ => false)
    | .anewarray idx => decide (len = 3) && am_isA x && decide (am_aw x = 2) && (match am_lk o idx am_cL with | some w => decide (am_aty x = .object (am_on w)) && decide (am_on w ∈ am_ov) | none => false)
    | .getstatic idx => decide (len = 3) && (((((decide (o = 1) && decide (idx = 297) && decide (y = -2) && decide (z = 2)) || (decide (o = 1) && decide (idx = 230) && decide (y = -3) && decide (z = 2))) || (decide (o = 13) && decide (idx = 96) && decide (y = -4) && decide (z = 2))) || (decide (o = 30) && decide (idx = 38) && decide (y = 1) && decide (z = 0))) || (decide (o = 30) && decide (idx = 1053) && decide (y = -9) && decide (z = 2)))
    | .checkcast idx => decide (len = 3) && decide (x = ((x.toNat : Nat) : Int)) && decide ((o, idx, x.toNat) ∈ am_cL) && decide (x.toNat ∈ ([5, 6, 7, 10, 18] : List Nat))
    | .instanceof idx => decide (len = 3) && decide (x = ((x.toNat : Nat) : Int)) && decide ((o, idx, x.toNat) ∈ am_cL) && decide (x.toNat ∈ ([5, 6, 7, 10, 18] : List Nat))
    | .ldiv => decide (len = 1)
    | .athrow => decide (len = 1) && hs.all (fun q => !(Nat.ble q.1 pc && Nat.ble (pc + 1) q.2.1))
    | .ireturn => decide (len = 1) && am_nz z rt
    | .lreturn => decide (len = 1) && decide (rt = some .long)
    | .areturn => decide (len = 1) && am_na rt
    | .return_ => decide (len = 1) && decide (rt = none)
    | .invokestatic idx => decide (len = 3) && ((decide (x = ((x.toNat : Nat) : Int)) && decide (x.toNat ∈ am_ys) && decide (x.toNat ∈ am_zT) && (decide ((o, idx, x.toNat) ∈ am_mT) || decide ((o, idx, x.toNat) ∈ am_mN)) && decide (am_np x.toNat = z % 10) && am_mg md (z / 10) x.toNat) || (decide (x = -1) && decide (Jvm.Cond.methodLink (am_on o) idx arraycopyName ∈ lw_all)) || (decide (x = -2) && decide (Jvm.Cond.methodLink (am_on o) idx arraycopyName ∈ lw_all)) || decide (x = -3))
    | .invokespecial idx => decide (len = 3) && ((decide (x = ((x.toNat : Nat) : Int)) && decide (x.toNat ∈ am_ys) && decide (x.toNat ∈ am_iT) && decide (x.toNat ∈ am_kT) && decide (am_rt x.toNat = none) && decide ((am_mn x.toNat).name = "<init>") && (decide ((o, idx, x.toNat) ∈ am_mT) || decide ((o, idx, x.toNat) ∈ am_mN)) && decide (am_np x.toNat = z) && am_mg md 0 x.toNat) || (decide (x = -1) && decide (Jvm.Cond.methodLink (am_on o) idx Lib.objectInit ∈ lw_all)) || (decide (x = -2) && decide (o = 1) && decide (idx = 486)))
    | .invokevirtual idx => decide (len = 3) && am_tgk (am_m2 md (z / 10)) y && (am_tgs (am_m2 md (z / 10)) y).all (fun t => am_vo o idx t (am_dsp x.toNat t) && decide (am_np (am_dsp x.toNat t) = z % 10) && am_mg md (z / 10) (am_dsp x.toNat t))
    | .invokeinterface idx _ => decide (len = 5) && am_tgk md y && (am_tgs md y).all (fun t => am_fo o idx t (am_dsp x.toNat t) && decide (am_np (am_dsp x.toNat t) = 0) && am_mg md 0 (am_dsp x.toNat t)) && (decide (z = 0) || (decide (z = 1) && decide (Jvm.Cond.methodLink (am_on o) idx am_tin ∈ lw_all)))
    | _ => false
section Disp
variable {p : Program} {l : Launch} {e : Env} {R : Room} {s : State} {m : MethodId} {args : Array Value} {below : List Frame} {meth : Method} {c : Code} {cc : ByteArray} {s0 : State} {ad : Int → Nat} {fm : Value} {cid : Int → ClassId} {slo : Int → Nat → Nat} {n0 s1 : Int} {pc len : Nat} {x y : Int} {z : Nat} {L S : List aV} {mm : aM} {hs : aH} {Q : aO → aM → Prop} {nx : List aV → List aV → aM → Prop} {jp : Nat → List aV → List aV → aM → Prop} {md o d : Nat} {b2 b3 : Prop} {rt : Option FieldType} {nm : Bool}
set_option maxHeartbeats 4000000 in
theorem am_disp {i : Instr} (hx : p.tables.exec = Jvm.exec) (hb : c.code = cc) (hf : am_fmok fm) (IH : am_IH p l e s0 ad fm cid slo d) (X : am_Wd s0 ad fm cid slo s) (hlocks : meth.locks = false) (hown : s.vm.findClass (am_on o) = some m.cls) (hHR : am_HR s args (am_on o) am_xn cid hs c.exceptionTable.toList) (htr : e.platform.stackTraces = false) (hRf : d + 10 ≤ R.frames) (hRl : 10375 + 75 * d ≤ R.locals) (hRc : (amC - n0).toNat ≤ R.cells) (hRs : (amS - s1).toNat ≤ R.slots) (hml : c.maxLocals = L.length) (hSl : S.length ≤ 24) (hg2 : b2 → mm 0 2 = 1) (hg3 : b3 → mm 0 3 = 1) (hgd : am_gd md mm) (hroom : mm 0 0 ≤ amC ∧ mm 0 1 ≤ amS) (hrt : meth.sig.returnType = rt) (hnm : nm = true → meth.name = "<init>") (hck : am_ck o md rt nm hs (pc, i, len, x, y, z) = true) (hd : decode cc pc = .ok (i, len)) (hnx : ∀ L S mm, nx L S mm → am_S p l e R s m args below meth c s0 ad fm cid slo am_cF am_ft (am_Post s0 ad fm cid slo am_cF am_ft s below Q n0 s1 b2 b3) n0 s1 (pc + len) L S mm) (hjp : ∀ t L S mm, jp t L S mm → am_S p l e R s m args below meth c s0 ad fm cid slo am_cF am_ft (am_Post s0 ad fm cid slo am_cF am_ft s below Q n0 s1 b2 b3) n0 s1 t L S mm) (h : am_istep am_G (am_wpc am_G am_T d) hs Q nx jp (pc, i, len, x, y, z) L S mm) : am_S p l e R s m args below meth c s0 ad fm cid slo am_cF am_ft (am_Post s0 ad fm cid slo am_cF am_ft s below Q n0 s1 b2 b3) n0 s1 pc L S mm := by
  cases i with
  | iadd =>
    exact am_e_iadd hx hb hf (of_decide_eq_true hck) hd hnx hjp h
  | isub =>
    exact am_e_isub hx hb hf (of_decide_eq_true hck) hd hnx hjp h
  | imul =>
    exact am_e_imul hx hb hf (of_decide_eq_true hck) hd hnx hjp h
  | idiv =>
    exact am_e_idiv hx hb hf (of_decide_eq_true hck) hd hnx hjp h
  | irem =>
    exact am_e_irem hx hb hf (of_decide_eq_true hck) hd hnx hjp h
  | ineg =>
    exact am_e_ineg hx hb hf (of_decide_eq_true hck) hd hnx hjp h
  | iand =>
    exact am_e_iand hx hb hf (of_decide_eq_true hck) hd hnx hjp h
  | ior =>
    exact am_e_ior hx hb hf (of_decide_eq_true hck) hd hnx hjp h
  | ixor =>
    exact am_e_ixor hx hb hf (of_decide_eq_true hck) hd hnx hjp h
  | ishl =>
    exact am_e_ishl hx hb hf (of_decide_eq_true hck) hd hnx hjp h
  | ishr =>
    exact am_e_ishr hx hb hf (of_decide_eq_true hck) hd hnx hjp h
  | ladd =>
    exact am_e_ladd hx hb hf (of_decide_eq_true hck) hd hnx hjp h
  | lsub =>
    exact am_e_lsub hx hb hf (of_decide_eq_true hck) hd hnx hjp h
  | lmul =>
    exact am_e_lmul hx hb hf (of_decide_eq_true hck) hd hnx hjp h
  | land =>
    exact am_e_land hx hb hf (of_decide_eq_true hck) hd hnx hjp h
  | lor =>
    exact am_e_lor hx hb hf (of_decide_eq_true hck) hd hnx hjp h
  | lneg =>
    exact am_e_lneg hx hb hf (of_decide_eq_true hck) hd hnx hjp h
  | lshl =>
    exact am_e_lshl hx hb hf (of_decide_eq_true hck) hd hnx hjp h
  | lushr =>
    exact am_e_lushr hx hb hf (of_decide_eq_true hck) hd hnx hjp h
  | lcmp =>
    exact am_e_lcmp hx hb hf (of_decide_eq_true hck) hd hnx hjp h
  | i2l =>
    exact am_e_i2l hx hb hf (of_decide_eq_true hck) hd hnx hjp h
  | l2i =>
    exact am_e_l2i hx hb hf (of_decide_eq_true hck) hd hnx hjp h
  | i2c =>
    exact am_e_i2c hx hb hf (of_decide_eq_true hck) hd hnx hjp h
  | dup =>
    exact am_e_dup hx hb hf (of_decide_eq_true hck) hd hnx hjp h
  | dup2 =>
    exact am_e_dup2 hx hb hf (of_decide_eq_true hck) hd hnx hjp h
  | pop =>
    exact am_e_pop hx hb hf (of_decide_eq_true hck) hd hnx hjp h
  | lrem =>
    exact am_e_lrem hx hb hf (of_decide_eq_true hck) hd hnx hjp h
  | aconst_null =>
    exact am_e_null hx hb hf (of_decide_eq_true hck) hd hnx hjp h
  | iload n =>
    exact am_e_iload hx hb hf (of_decide_eq_true hck) hd hnx hjp h
  | iload_n n =>
    exact am_e_iload_n hx hb hf (of_decide_eq_true hck) hd hnx hjp h
  | lload n =>
    exact am_e_lload hx hb hf (of_decide_eq_true hck) hd hnx hjp h
  | lload_n n =>
    exact am_e_lload_n hx hb hf (of_decide_eq_true hck) hd hnx hjp h
  | aload n =>
    exact am_e_aload hx hb hf (of_decide_eq_true hck) hd hnx hjp h
  | aload_n n =>
    exact am_e_aload_n hx hb hf (of_decide_eq_true hck) hd hnx hjp h
  | istore n =>
    exact am_e_istore hx hb hf (of_decide_eq_true hck) hd hnx hjp h
  | istore_n n =>
    exact am_e_istore_n hx hb hf (of_decide_eq_true hck) hd hnx hjp h
  | astore n =>
    exact am_e_astore hx hb hf (of_decide_eq_true hck) hd hnx hjp h
  | astore_n n =>
    exact am_e_astore_n hx hb hf (of_decide_eq_true hck) hd hnx hjp h
  | lstore n =>
    exact am_e_lstore hx hb hf (of_decide_eq_true hck) hd hnx hjp h
  | lstore_n n =>
    exact am_e_lstore_n hx hb hf (of_decide_eq_true hck) hd hnx hjp h
  | iconst n =>
    simp only [am_ck, Bool.and_eq_true, Bool.or_eq_true, decide_eq_true_eq] at hck
    exact am_e_iconst hx hb hf hck.1.1 hck.1.2 hck.2 hd hnx hjp h
  | bipush n =>
    simp only [am_ck, Bool.and_eq_true, Bool.or_eq_true, decide_eq_true_eq] at hck
    exact am_e_bipush hx hb hf hck.1.1 hck.1.2 hck.2 hd hnx hjp h
  | sipush n =>
    simp only [am_ck, Bool.and_eq_true, Bool.or_eq_true, decide_eq_true_eq] at hck
    exact am_e_sipush hx hb hf hck.1.1 hck.1.2 hck.2 hd hnx hjp h
  | lconst n =>
    simp only [am_ck, Bool.and_eq_true, Bool.or_eq_true, decide_eq_true_eq] at hck
    exact am_e_lconst hx hb hf hck.1 hck.2 hd hnx hjp h
  | ldc2_w idx =>
    simp only [am_ck, Bool.and_eq_true, Bool.or_eq_true, decide_eq_true_eq] at hck
    exact am_e_ldc2 hx hb hf hck.1.1 hown (X.words args _ (am_lT_ok _ hck.1.2)) hck.2 hd hnx hjp h
  | ldc idx =>
    simp only [am_ck, Bool.and_eq_true, Bool.or_eq_true, decide_eq_true_eq] at hck
    exact am_e_ldcI hx hb hf hck.1.1.1 hown hck.1.1.2 (X.words args _ (am_jT_ok _ hck.1.2)) hck.2 hd hnx hjp h
  | ldc_w idx =>
    simp only [am_ck, Bool.and_eq_true, Bool.or_eq_true, decide_eq_true_eq] at hck
    rcases hck with ⟨hl, ⟨⟨hz, hm⟩, hv⟩ | ⟨⟨hz, hm⟩, hv⟩⟩
    · exact am_e_ldcwI hx hb hf hl hown hz (X.words args _ (am_jT_ok _ hm)) hv hd hnx hjp h
    · exact am_e_ldcwS hx hb hf hl X hown hz hm hv hd hnx hjp h
  | iinc n k =>
    simp only [am_ck, Bool.and_eq_true, Bool.or_eq_true, decide_eq_true_eq] at hck
    exact am_e_iinc hx hb hf hck.1 hck.2 hd hnx hjp h
  | ifCond q j =>
    simp only [am_ck, Bool.and_eq_true, Bool.or_eq_true, decide_eq_true_eq] at hck
    cases q
    · exact am_e_if_eq hx hb hf hck.1 hck.2 hd hnx hjp h
    · exact am_e_if_ne hx hb hf hck.1 hck.2 hd hnx hjp h
    · exact am_e_if_lt hx hb hf hck.1 hck.2 hd hnx hjp h
    · exact am_e_if_ge hx hb hf hck.1 hck.2 hd hnx hjp h
    · exact am_e_if_gt hx hb hf hck.1 hck.2 hd hnx hjp h
    · exact am_e_if_le hx hb hf hck.1 hck.2 hd hnx hjp h
  | if_icmp q j =>
    simp only [am_ck, Bool.and_eq_true, Bool.or_eq_true, decide_eq_true_eq] at hck
    cases q
    · exact am_e_icmp_eq hx hb hf hck.1 hck.2 hd hnx hjp h
    · exact am_e_icmp_ne hx hb hf hck.1 hck.2 hd hnx hjp h
    · exact am_e_icmp_lt hx hb hf hck.1 hck.2 hd hnx hjp h
    · exact am_e_icmp_ge hx hb hf hck.1 hck.2 hd hnx hjp h
    · exact am_e_icmp_gt hx hb hf hck.1 hck.2 hd hnx hjp h
    · exact am_e_icmp_le hx hb hf hck.1 hck.2 hd hnx hjp h
  | goto j =>
    simp only [am_ck, Bool.and_eq_true, Bool.or_eq_true, decide_eq_true_eq] at hck
    exact am_e_goto hx hb hf hck.1 hck.2 hd hnx hjp h
  | if_acmp q j =>
    simp only [am_ck, Bool.and_eq_true, Bool.or_eq_true, decide_eq_true_eq] at hck
    cases q
    · exact am_e_acmp_eq hx hb hf hck.1 X.had hck.2 hd hnx hjp h
    · exact am_e_acmp_ne hx hb hf hck.1 X.had hck.2 hd hnx hjp h
  | ifnull j =>
    simp only [am_ck, Bool.and_eq_true, Bool.or_eq_true, decide_eq_true_eq] at hck
    exact am_e_ifnull hx hb hf hck.1 hck.2 hd hnx hjp h
  | ifnonnull j =>
    simp only [am_ck, Bool.and_eq_true, Bool.or_eq_true, decide_eq_true_eq] at hck
    exact am_e_ifnonnull hx hb hf hck.1 hck.2 hd hnx hjp h
  | tableswitch q lo hi os =>
    exact am_e_table hx hb hf rfl (fun j hj => of_decide_eq_true (List.all_eq_true.mp hck j hj)) hd hnx hjp h
  | lookupswitch q ps =>
    have hck2 : ((ps.toList.zip (ps.toList.drop 1)).all (fun (a, next) => a.1 < next.1) && (q :: ps.toList.map (·.2)).all (fun j => decide (0 ≤ (pc : Int) + j))) = true := hck
    rw [Bool.and_eq_true] at hck2
    exact am_e_lookup hx hb hf rfl hck2.1 (fun j hj => of_decide_eq_true (List.all_eq_true.mp hck2.2 j hj)) hd hnx hjp h
  | iaload =>
    simp only [am_ck, Bool.and_eq_true, Bool.or_eq_true, decide_eq_true_eq] at hck
    rcases hck with ⟨hl, ((hz | ⟨hz, hm⟩) | ⟨hz, hm⟩) | hz⟩
    · exact am_e_iaload0 hx hb hf hl X hz hd hnx hjp h
    · exact am_e_iaload1 hx hb hf hl X hgd hz hm hd hnx hjp h
    · exact am_e_iaload2 hx hb hf hl X hlocks hown hHR htr (by omega) (by omega) hRc hRs hml hSl hg2 hg3 hgd hz hm hd hnx hjp h
    · exact am_e_iaload3 hx hb hf hl X hz hd hnx hjp h
  | laload =>
    simp only [am_ck, Bool.and_eq_true, Bool.or_eq_true, decide_eq_true_eq] at hck
    rcases hck with ⟨hl, hz | ⟨hz, hm⟩⟩
    · exact am_e_laload0 hx hb hf hl X hz hd hnx hjp h
    · exact am_e_laload1 hx hb hf hl X hgd hz hm hd hnx hjp h
  | baload =>
    simp only [am_ck, Bool.and_eq_true, Bool.or_eq_true, decide_eq_true_eq] at hck
    rcases hck with ⟨hl, ((hz | ⟨hz, hm⟩) | hz) | ⟨hz, hm⟩⟩
    · exact am_e_baload0 hx hb hf hl X hz hd hnx hjp h
    · exact am_e_baload1 hx hb hf hl X hgd hz hm hd hnx hjp h
    · exact am_e_baload1k hx hb hf hl X hz hd hnx hjp h
    · exact am_e_baload3 hx hb hf hl X hgd hz hm hd hnx hjp h
  | aaload =>
    simp only [am_ck, Bool.and_eq_true, Bool.or_eq_true, decide_eq_true_eq] at hck
    rcases hck with ⟨hl, ((⟨hz, hm⟩ | ⟨hz, hm⟩) | ⟨hz, hm⟩) | ⟨hz, hm⟩⟩
    · exact am_e_aaload0 hx hb hf hl X hz hm hd hnx hjp h
    · cases hq : am_l3 x (am_sfs md) with
      | none => rw [hq] at hm; cases hm
      | some w =>
        obtain ⟨t, n⟩ := w
        rw [hq] at hm
        simp only [Bool.and_eq_true, decide_eq_true_eq] at hm
        obtain ⟨rfl, ht⟩ := hm
        have hA : am_isA t = true := by unfold am_isA; simp only [Bool.or_eq_true, Bool.and_eq_true, decide_eq_true_eq]; omega
        exact am_e_aaload1 hx hb hf hl X hgd hz ht hA hq hd hnx hjp h
    · have hC : ∃ C, am_aty (am_over x) = .object C := by rcases hm with rfl | rfl | rfl | rfl | rfl <;> exact ⟨_, rfl⟩
      obtain ⟨C, hC⟩ := hC
      exact am_e_aaload2 hx hb hf hl X hlocks hown hHR htr (by omega) (by omega) hRc hRs hml hSl hg2 hg3 hz hm hC hd hnx hjp h
    · cases hq : am_l3 x (am_sfs md) with
      | none => rw [hq] at hm; cases hm
      | some w =>
        obtain ⟨t, n⟩ := w
        rw [hq] at hm
        simp only [Bool.and_eq_true, decide_eq_true_eq] at hm
        obtain ⟨rfl, ht⟩ := hm
        have hA : am_isA t = true := by unfold am_isA; simp only [Bool.or_eq_true, Bool.and_eq_true, decide_eq_true_eq]; omega
        exact am_e_aaload3 hx hb hf hl X hlocks hown hHR htr (by omega) (by omega) hRc hRs hml hSl hg2 hg3 hgd hz ht hA hq hd hnx hjp h
  | iastore =>
    simp only [am_ck, Bool.and_eq_true, Bool.or_eq_true, decide_eq_true_eq] at hck
    rcases hck with ⟨hl, hz | ⟨⟨hz, h0⟩, hm⟩⟩
    · exact am_e_iastore0 hx hb hf hl X hz hd hnx hjp h
    · exact am_e_iastore1 hx hb hf hl X hgd hz h0 hm hd hnx hjp h
  | lastore =>
    simp only [am_ck, Bool.and_eq_true, Bool.or_eq_true, decide_eq_true_eq] at hck
    rcases hck with ⟨hl, hz | ⟨⟨hz, h0⟩, hm⟩⟩
    · exact am_e_lastore0 hx hb hf hl X hz hd hnx hjp h
    · exact am_e_lastore1 hx hb hf hl X hgd hz h0 hm hd hnx hjp h
  | bastore =>
    simp only [am_ck, Bool.and_eq_true, Bool.or_eq_true, decide_eq_true_eq] at hck
    rcases hck with ⟨hl, hz | ⟨⟨hz, h0⟩, hm⟩⟩
    · exact am_e_bastore0 hx hb hf hl X hz hd hnx hjp h
    · exact am_e_bastore1 hx hb hf hl X hgd hz h0 hm hd hnx hjp h
  | aastore =>
    simp only [am_ck, Bool.and_eq_true, Bool.or_eq_true, decide_eq_true_eq] at hck
    rcases hck with ⟨hl, ⟨hz, hm⟩ | ⟨⟨⟨hz, h0⟩, hm⟩, h5⟩⟩
    · exact am_e_aastore0 hx hb hf hl X hz rfl hm hd hnx hjp h
    · exact am_e_aastore1 (k := z - 1) hx hb hf hl X hgd hz rfl h0 hm h5 hd hnx hjp h
  | arraylength =>
    simp only [am_ck, Bool.and_eq_true, Bool.or_eq_true, decide_eq_true_eq] at hck
    rcases hck with ⟨hl, hz | ⟨hz, hm⟩⟩
    · exact am_e_alen0 hx hb hf hl X hz hd hnx hjp h
    · cases hq : am_l3 x (am_sfs md) with
      | none => rw [hq] at hm; cases hm
      | some w =>
        obtain ⟨t, n⟩ := w
        rw [hq] at hm
        simp only [Bool.and_eq_true, decide_eq_true_eq] at hm
        obtain ⟨rfl, ht⟩ := hm
        have hA : am_isA t = true := by unfold am_isA; simp only [Bool.or_eq_true, Bool.and_eq_true, decide_eq_true_eq]; omega
        exact am_e_alen1 hx hb hf hl X hgd hz hA ht.1 hq hd hnx hjp h
  | getfield idx =>
    simp only [am_ck] at hck
    cases hf2 : am_f2 o idx with
    | none => rw [hf2] at hck; cases hck
    | some w =>
    obtain ⟨t0, k⟩ := w
    rw [hf2] at hck
    simp only [Bool.and_eq_true, Bool.or_eq_true, decide_eq_true_eq] at hck
    rcases hck with ⟨⟨⟨hl, ho⟩, hk⟩, (((((((((⟨⟨⟨hz, hy⟩, hxt⟩, hw⟩ | ⟨⟨⟨hz, hy⟩, hxt⟩, hw⟩) | ⟨⟨⟨hz, hy⟩, hxt⟩, hw⟩) | ⟨⟨⟨hz, hy⟩, hxt⟩, hw⟩) | ⟨⟨⟨hz, hy⟩, hxt⟩, hw⟩) | ⟨⟨⟨hz, hy⟩, hxt⟩, hw⟩) | ⟨⟨⟨hz, hy⟩, hxt⟩, hw⟩) | ⟨⟨⟨⟨hz, hy⟩, hxt⟩, hw⟩, hlk⟩) | ⟨⟨⟨⟨hz, hy⟩, hxt⟩, hw⟩, hlk⟩) | ⟨⟨⟨⟨hz, hy⟩, hxt⟩, hw⟩, hlk⟩)⟩
    · exact am_e_getf0 hx hb hf hl X hown hf2 ho hk hz hy hxt hw hd hnx hjp h
    · exact am_e_getf1 hx hb hf hl X hown hf2 ho hk hz hy hxt hw hd hnx hjp h
    · exact am_e_getf2 hx hb hf hl X hown hf2 ho hk hz hy hxt hw hd hnx hjp h
    · cases hq : am_l3 x (am_sfs md) with
      | none => rw [hq] at hxt; cases hxt
      | some w =>
        obtain ⟨t, n⟩ := w
        rw [hq] at hxt
        have e := of_decide_eq_true hxt
        subst e
        exact am_e_getf3 hx hb hf hl X hown hf2 ho hk hgd hq hz hy hw hd hnx hjp h
    · cases hq : am_l3 x (am_sfs md) with
      | none => rw [hq] at hxt; cases hxt
      | some w =>
        obtain ⟨t, n⟩ := w
        rw [hq] at hxt
        have e := of_decide_eq_true hxt
        subst e
        exact am_e_getf4 hx hb hf hl X hown hf2 ho hk hgd hq hz hy hw hd hnx hjp h
    · cases hq : am_l3 x (am_sfs md) with
      | none => rw [hq] at hxt; cases hxt
      | some w =>
        obtain ⟨t, n⟩ := w
        rw [hq] at hxt
        have e := of_decide_eq_true hxt
        subst e
        exact am_e_getf5 hx hb hf hl X hown hf2 ho hk hgd hq hz hy hw hd hnx hjp h
    · cases hq : am_l3 x (am_sfs md) with
      | none => rw [hq] at hxt; cases hxt
      | some w =>
        obtain ⟨t, n⟩ := w
        rw [hq] at hxt
        have e := of_decide_eq_true hxt
        subst e
        exact am_e_getf6 hx hb hf hl X hown hf2 ho hk hgd hq hz hy hw hd hnx hjp h
    · exact am_e_getf7 hx hb hf hl X hlocks hown hHR htr (by omega) (by omega) hRc hRs hml hSl hg2 hg3 hz hlk hxt ho hk hw hy hd hnx hjp h
    · exact am_e_getf8 hx hb hf hl X hlocks hown hHR htr (by omega) (by omega) hRc hRs hml hSl hg2 hg3 hz hlk hxt ho hk hw hy hd hnx hjp h
    · exact am_e_getf9 hx hb hf hl X hlocks hown hHR htr (by omega) (by omega) hRc hRs hml hSl hg2 hg3 hz hlk hxt ho hk hw hy hd hnx hjp h
  | putfield idx =>
    simp only [am_ck] at hck
    cases hf2 : am_f2 o idx with
    | none => rw [hf2] at hck; cases hck
    | some w =>
    obtain ⟨t0, k⟩ := w
    rw [hf2] at hck
    simp only [Bool.and_eq_true, Bool.or_eq_true, decide_eq_true_eq, Bool.not_eq_true'] at hck
    obtain ⟨⟨⟨⟨hl, ho⟩, hk⟩, hfn⟩, hck⟩ := hck
    have hfin : (am_cT t0 k).2.2.2 = false ∨ ((am_cT t0 k).2.2.2 = true ∧ meth.name = "<init>" ∧ (am_cT t0 k).1 = am_on o ∧ (am_lk o idx am_fT).isSome = true) := by
      rcases hfn with w | ⟨⟨⟨w1, w2⟩, w3⟩, w4⟩
      · exact Or.inl w
      · exact Or.inr ⟨w1, hnm w2, w3, w4⟩
    rcases hck with (((((((((⟨⟨⟨⟨⟨hz, hy⟩, hxt⟩, hw⟩, hq⟩, hx0, hnf⟩ | ⟨⟨⟨⟨⟨hz, hy⟩, hxt⟩, hw⟩, hq⟩, hx0, hnf⟩) | ⟨⟨⟨⟨⟨hz, hy⟩, hxt⟩, hw⟩, hq⟩, hx0, hnf⟩) | ⟨⟨⟨⟨⟨hz, hy⟩, hxt⟩, hw⟩, hq⟩, hx0, hnf⟩) | ⟨⟨⟨⟨⟨⟨hz, hy⟩, hxt⟩, hw⟩, hq⟩, hx0⟩, hnf⟩) | ⟨⟨⟨⟨⟨⟨hz, hy⟩, hxt⟩, hw⟩, hq⟩, hx0⟩, hnf⟩) | ⟨⟨⟨⟨⟨⟨hz, hy⟩, hxt⟩, hw⟩, hq⟩, hx0⟩, hnf⟩) | ⟨⟨⟨⟨⟨⟨hz, hy⟩, hxt⟩, hw⟩, hq⟩, hx0⟩, hnf⟩) | ⟨⟨⟨⟨⟨hz, hy⟩, hxt⟩, h12⟩, hw⟩, hq⟩) | ⟨⟨⟨⟨⟨hz, hy⟩, hxt⟩, h12⟩, hw⟩, hq⟩)
    · exact am_e_putf0 hx hb hf hl X hown hf2 ho hk hfin hz hy hxt hw hq (fun t ht => am_nfq hx0 hnf ht) hd hnx hjp h
    · exact am_e_putf1 hx hb hf hl X hown hf2 ho hk hfin hz hy hxt hw hq (fun t ht => am_nfq hx0 hnf ht) hd hnx hjp h
    · exact am_e_putf2 hx hb hf hl X hown hf2 ho hk hfin hz hy hxt hw hq (fun t ht => am_nfq hx0 hnf ht) hd hnx hjp h
    · exact am_e_putf3 hx hb hf hl X hown hf2 ho hk hfin hz hy hxt hw hq (fun t ht => am_nfq hx0 hnf ht) hd hnx hjp h
    · cases hqq : am_l3 x (am_sfs md) with
      | none => rw [hqq] at hxt; cases hxt
      | some w =>
        obtain ⟨t, n⟩ := w
        rw [hqq] at hxt
        have e := of_decide_eq_true hxt
        subst e
        exact am_e_putf4 hx hb hf hl X hown hf2 ho hk hfin hgd hqq hx0 hz hy hw hq hnf hd hnx hjp h
    · cases hqq : am_l3 x (am_sfs md) with
      | none => rw [hqq] at hxt; cases hxt
      | some w =>
        obtain ⟨t, n⟩ := w
        rw [hqq] at hxt
        have e := of_decide_eq_true hxt
        subst e
        exact am_e_putf5 hx hb hf hl X hown hf2 ho hk hfin hgd hqq hx0 hz hy hw hq hnf hd hnx hjp h
    · cases hqq : am_l3 x (am_sfs md) with
      | none => rw [hqq] at hxt; cases hxt
      | some w =>
        obtain ⟨t, n⟩ := w
        rw [hqq] at hxt
        have e := of_decide_eq_true hxt
        subst e
        exact am_e_putf6 hx hb hf hl X hown hf2 ho hk hfin hgd hqq hx0 hz hy hw hq hnf hd hnx hjp h
    · cases hqq : am_l3 x (am_sfs md) with
      | none => rw [hqq] at hxt; cases hxt
      | some w =>
        obtain ⟨t, n⟩ := w
        rw [hqq] at hxt
        have e := of_decide_eq_true hxt
        subst e
        exact am_e_putf7 hx hb hf hl X hown hf2 ho hk hfin hgd hqq hx0 hz hy hw hq hnf hd hnx hjp h
    · exact am_e_putf8 hx hb hf hl X hown hf2 ho hk hfin hz hy hxt h12 hw hq hd hnx hjp h
    · exact am_e_putf9 hx hb hf hl X hown hf2 ho hk hfin hz hy hxt h12 hw hq hd hnx hjp h
  | new idx =>
    simp only [am_ck, Bool.and_eq_true, Bool.or_eq_true, decide_eq_true_eq] at hck
    obtain ⟨⟨⟨⟨⟨hl, e1⟩, e2⟩, e3⟩, e4⟩, e5⟩ := hck
    exact am_e_new (w := x.toNat) (n := y.toNat) hx hb hf hl X hown hRc hRs e1 e2 e3 e4 e5 hd hnx hjp h
  | newarray q =>
    cases q with
    | int => simp only [am_ck, Bool.and_eq_true, decide_eq_true_eq] at hck; exact am_e_newarray_int hx hb hf hck.1 X hRc hRs hck.2 am_ac_int hd hnx hjp h
    | long => simp only [am_ck, Bool.and_eq_true, decide_eq_true_eq] at hck; exact am_e_newarray_long hx hb hf hck.1 X hRc hRs hck.2 am_ac_long hd hnx hjp h
    | boolean => simp only [am_ck, Bool.and_eq_true, decide_eq_true_eq] at hck; exact am_e_newarray_boolean hx hb hf hck.1 X hRc hRs hck.2 am_ac_boolean hd hnx hjp h
    | byte => simp only [am_ck, Bool.and_eq_true, decide_eq_true_eq] at hck; exact am_e_newarray_byte hx hb hf hck.1 X hRc hRs hck.2 am_ac_byte hd hnx hjp h
    | _ => simp [am_ck] at hck
  | anewarray idx =>
    simp only [am_ck, Bool.and_eq_true, decide_eq_true_eq] at hck
    obtain ⟨⟨⟨hl, hA⟩, haw⟩, hm⟩ := hck
    cases hq : am_lk o idx am_cL with
    | none => rw [hq] at hm; cases hm
    | some w =>
    rw [hq] at hm
    simp only [Bool.and_eq_true, decide_eq_true_eq] at hm
    exact am_e_anewarray (w := w) hx hb hf hl X hown hRc hRs hA haw hm.1 (am_lk_mem hq) hm.2 hd hnx hjp h
  | getstatic idx =>
    simp only [am_ck, Bool.and_eq_true, Bool.or_eq_true, decide_eq_true_eq] at hck
    rcases hck with ⟨hl, ((((⟨⟨⟨rfl, rfl⟩, rfl⟩, rfl⟩ | ⟨⟨⟨rfl, rfl⟩, rfl⟩, rfl⟩) | ⟨⟨⟨rfl, rfl⟩, rfl⟩, rfl⟩) | ⟨⟨⟨rfl, rfl⟩, rfl⟩, rfl⟩) | ⟨⟨⟨rfl, rfl⟩, rfl⟩, rfl⟩)⟩
    · exact am_e_gets (q := ("ArmsHouse", "ROWS", "[I", .ref (ad (-2)))) hx hb hf hl X hown (by unfold am_zz; simp) rfl (show am_vok (am_mk 2 (-2)) from trivial) (Or.inl am_gs_0) hd hnx hjp h
    · exact am_e_gets (q := ("ArmsHouse", "WAVES", "[I", .ref (ad (-3)))) hx hb hf hl X hown (by unfold am_zz; simp) rfl (show am_vok (am_mk 2 (-3)) from trivial) (Or.inl am_gs_1) hd hnx hjp h
    · exact am_e_gets (q := ("ArmsHouse", "KINDS", "[I", .ref (ad (-4)))) hx hb hf hl X hown (by unfold am_zz; simp) rfl (show am_vok (am_mk 2 (-4)) from trivial) (Or.inr X.nK) hd hnx hjp h
    · exact am_e_gets (q := ("java/lang/String", "COMPACT_STRINGS", "Z", .int 1)) hx hb hf hl X hown (by unfold am_zz; simp) (by show Value.int 1 = Value.int (Int32.ofInt 1); rw [show Int32.ofInt 1 = 1 from by decide]) (show am_vok (am_mk 0 1) from ⟨by decide, by decide⟩) (Or.inl am_gs_3) hd hnx hjp h
    · exact am_e_gets (q := ("jdk/internal/util/Preconditions", "SIOOBE_FORMATTER", "Ljava/util/function/BiFunction;", fm)) hx hb hf hl X hown (by unfold am_zz; simp) rfl (show am_vok (am_mk 2 (-9)) from trivial) (Or.inl am_gs_4) hd hnx hjp h
  | checkcast idx =>
    simp only [am_ck, Bool.and_eq_true, Bool.or_eq_true, decide_eq_true_eq] at hck
    exact am_e_checkcast (w := x.toNat) hx hb hf hck.1.1.1 X hlocks hown hHR htr (by omega) (by omega) hRc hRs hml hSl hg2 hg3 hck.1.1.2 hck.1.2 hck.2 hd hnx hjp h
  | instanceof idx =>
    simp only [am_ck, Bool.and_eq_true, Bool.or_eq_true, decide_eq_true_eq] at hck
    exact am_e_instanceof (w := x.toNat) hx hb hf hck.1.1.1 X hown hck.1.1.2 hck.1.2 hck.2 hd hnx hjp h
  | ldiv =>
    exact am_e_ldiv hx hb hf (of_decide_eq_true hck) X hlocks hown hHR htr (by omega) (by omega) hRc hRs hml hSl hg2 hg3 hd hnx hjp h
  | athrow =>
    simp only [am_ck, Bool.and_eq_true, decide_eq_true_eq] at hck
    exact am_e_athrow hx hb hf hck.1 X hlocks hown hHR htr (by omega) (by omega) hRc hRs hml hSl hg2 hg3 (am_hnd_no hck.2) hd hnx hjp h
  | ireturn =>
    simp only [am_ck, Bool.and_eq_true, decide_eq_true_eq] at hck
    exact am_e_ireturn hx hb hf hlocks hck.1 (by rw [hrt]; exact hck.2) hg2 hg3 hd h
  | lreturn =>
    simp only [am_ck, Bool.and_eq_true, Bool.or_eq_true, decide_eq_true_eq] at hck
    exact am_e_lreturn hx hb hf hlocks hck.1 (by rw [hrt]; exact hck.2) hg2 hg3 hd h
  | areturn =>
    simp only [am_ck, Bool.and_eq_true, decide_eq_true_eq] at hck
    exact am_e_areturn hx hb hf hlocks hck.1 (by rw [hrt]; exact hck.2) hg2 hg3 hd h
  | return_ =>
    simp only [am_ck, Bool.and_eq_true, Bool.or_eq_true, decide_eq_true_eq] at hck
    exact am_e_return hx hb hlocks hck.1 (by rw [hrt]; exact hck.2) hg2 hg3 hd h
  | invokestatic idx =>
    simp only [am_ck, Bool.and_eq_true, Bool.or_eq_true, decide_eq_true_eq] at hck
    rcases hck with ⟨hl, ((⟨⟨⟨⟨⟨e1, e2⟩, e3⟩, e4⟩, e5⟩, e6⟩ | ⟨e1, e2⟩) | ⟨e1, e2⟩) | e1⟩
    · exact am_e_invokestatic (w := x.toNat) hx hb hf hl IH X hlocks hown hHR htr hRf hRl hRc hRs hml hSl hg2 hg3 hgd hroom e1 e2 e3 e4 e5 e6 hd hnx hjp h
    · exact am_e_copy40 hx hb hl X hown (by omega) (by omega) hml hSl e1 e2 hd hnx h
    · exact am_e_copy45 hx hb hl X hown (by omega) (by omega) hml hSl e1 e2 hd hnx h
    · subst e1
      exact False.elim h
  | invokespecial idx =>
    simp only [am_ck, Bool.and_eq_true, Bool.or_eq_true, decide_eq_true_eq] at hck
    rcases hck with ⟨hl, (⟨⟨⟨⟨⟨⟨⟨⟨e1, e2⟩, e3⟩, e4⟩, e5⟩, e6⟩, e7⟩, e8⟩, e9⟩ | ⟨e1, e2⟩) | ⟨⟨e1, e2⟩, e3⟩⟩
    · exact am_e_invokespecial (w := x.toNat) hx hb hf hl IH X hlocks hown hHR htr hRf hRl hRc hRs hml hSl hg2 hg3 hgd hroom e1 e2 e3 e4 e5 e6 e7 e8 e9 hd hnx hjp h
    · exact am_e_objinit hx hb hf hl IH X hlocks hown hHR htr hRf hRl hRc hRs hml hSl hg2 hg3 hgd hroom e1 e2 hd hnx hjp h
    · exact am_e_failinit hx hb hl X hown (by omega) (by omega) hml hSl htr e1 e2 e3 hd hnx h
  | invokevirtual idx =>
    simp only [am_ck, Bool.and_eq_true, decide_eq_true_eq] at hck
    have hall : ∀ t ∈ am_tgs (am_m2 md (z / 10)) y, am_vo o idx t (am_dsp x.toNat t) = true ∧ am_np (am_dsp x.toNat t) = z % 10 ∧ am_mg md (z / 10) (am_dsp x.toNat t) = true := by
      intro t ht
      have q := List.all_eq_true.mp hck.2 t ht
      simp only [Bool.and_eq_true, decide_eq_true_eq] at q
      exact ⟨q.1.1, q.1.2, q.2⟩
    exact am_e_invokevirtual hx hb hf hck.1.1 IH X hlocks hown hHR htr hRf hRl hRc hRs hml hSl hg2 hg3 hgd hroom hck.1.2 hall hd hnx hjp h
  | invokeinterface idx cnt =>
    simp only [am_ck, Bool.and_eq_true, Bool.or_eq_true, decide_eq_true_eq] at hck
    obtain ⟨⟨⟨hl, hk⟩, ha⟩, hz⟩ := hck
    have hall : ∀ t ∈ am_tgs md y, am_fo o idx t (am_dsp x.toNat t) = true ∧ am_np (am_dsp x.toNat t) = 0 ∧ am_mg md 0 (am_dsp x.toNat t) = true := by
      intro t ht
      have q := List.all_eq_true.mp ha t ht
      simp only [Bool.and_eq_true, decide_eq_true_eq] at q
      exact ⟨q.1.1, q.1.2, q.2⟩
    rcases hz with hz | ⟨hz, hw⟩
    · exact am_e_face0 hx hb hf hl IH X hlocks hown hHR htr hRf hRl hRc hRs hml hSl hg2 hg3 hgd hroom hz hk hall hd hnx hjp h
    · exact am_e_face1 hx hb hf hl IH X hlocks hown hHR htr hRf hRl hRc hRs hml hSl hg2 hg3 hgd hroom hz hk hall hw hd hnx hjp h
  | _ => exact absurd (show false = true from hck) (by decide)
end Disp
/-- constructors -/
def am_nmb (y : Nat) : Bool := decide ((am_mn y).name = "<init>")
theorem am_dc0 {code : ByteArray} {es : List aE} (h : am_walk (code.data.toList.drop 0) 0 es = true) (ho : es.all (fun e => !(am_odd e.2.1)) = true) : ∀ e ∈ es, decode code e.1 = .ok (e.2.1, e.2.2.1) := by
  intro e he
  rcases am_walk_ok es 0 h e he with q | q
  · have := List.all_eq_true.mp ho e he
    rw [q] at this
    cases this
  · exact q
theorem am_dc1 {code : ByteArray} {es os : List aE} (h : am_walk (code.data.toList.drop 0) 0 es = true) (ho : es.filter (fun e => am_odd e.2.1) = os) (hd : ∀ e ∈ os, decode code e.1 = .ok (e.2.1, e.2.2.1)) : ∀ e ∈ es, decode code e.1 = .ok (e.2.1, e.2.2.1) := by
  intro e he
  rcases am_walk_ok es 0 h e he with q | q
  · exact hd e (ho ▸ List.mem_filter.mpr ⟨he, q⟩)
  · exact q
