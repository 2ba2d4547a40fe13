section Misc
variable {p : Program} {l : Launch} {e : Env} {R : Room} {s : State} {m : MethodId} {args : Array Value} {below : List Frame} {meth : Method} {c : Code} {cc : ByteArray} {s0 : State} {ad : Int → Nat} {fm : Value} {cid : Int → ClassId} {slo : Int → Nat → Nat} {N : Int → Nat} {ft : Int → Nat → Nat} {Qf : State → Prop} {n0 s1 : Int} {pc : Nat} {L r : List aV} {mm : aM} {H : Heap}
theorem am_rv0 : am_rv ad fm 0 = .null := by unfold am_rv; rw [if_pos rfl]
theorem am_s_ifnull (hx : p.tables.exec = Jvm.exec) (hb : c.code = cc) {o : Int} {t : Nat} {a : Int} (h9 : a ≠ -9) (hd : decode cc pc = .ok (.ifnull o, 3)) (ht : (pc : Int) + o = (t : Int)) (K1 : a = 0 → am_S p l e R s m args below meth c s0 ad fm cid slo N ft Qf n0 s1 t L r mm) (K2 : a ≠ 0 → am_S p l e R s m args below meth c s0 ad fm cid slo N ft Qf n0 s1 (pc + 3) L r mm) : am_S p l e R s m args below meth c s0 ad fm cid slo N ft Qf n0 s1 pc L (.inr (.inr (.inl a)) :: r) mm := by
  intro H locs ls hR hlo hL hS h0 h1
  rw [List.map_cons, show am_c ad fm (.inr (.inr (.inl a))) = am_rv ad fm a from rfl]
  by_cases e0 : a = 0
  · rw [e0, am_rv0]
    exact lv_ifnullN hx hb hd ht (K1 e0 H locs ls hR hlo hL (am_vt hS) h0 h1)
  · have er : am_rv ad fm a = .ref (ad a) := by unfold am_rv; rw [if_neg e0, if_neg h9]
    rw [er]
    exact lv_ifnull hx hb hd (K2 e0 H locs ls hR hlo hL (am_vt hS) h0 h1)
theorem am_s_ifnonnull (hx : p.tables.exec = Jvm.exec) (hb : c.code = cc) {o : Int} {t : Nat} {a : Int} (h9 : a ≠ -9) (hd : decode cc pc = .ok (.ifnonnull o, 3)) (ht : (pc : Int) + o = (t : Int)) (K1 : a ≠ 0 → am_S p l e R s m args below meth c s0 ad fm cid slo N ft Qf n0 s1 t L r mm) (K2 : a = 0 → am_S p l e R s m args below meth c s0 ad fm cid slo N ft Qf n0 s1 (pc + 3) L r mm) : am_S p l e R s m args below meth c s0 ad fm cid slo N ft Qf n0 s1 pc L (.inr (.inr (.inl a)) :: r) mm := by
  intro H locs ls hR hlo hL hS h0 h1
  rw [List.map_cons, show am_c ad fm (.inr (.inr (.inl a))) = am_rv ad fm a from rfl]
  by_cases e0 : a = 0
  · rw [e0, am_rv0]
    exact lv_ifnonnullN hx hb hd (K2 e0 H locs ls hR hlo hL (am_vt hS) h0 h1)
  · have er : am_rv ad fm a = .ref (ad a) := by unfold am_rv; rw [if_neg e0, if_neg h9]
    rw [er]
    exact lv_ifnonnull hx hb hd ht (K1 e0 H locs ls hR hlo hL (am_vt hS) h0 h1)
/-- references that are not below 0, as the kit's rows take them -/
def am_or1 (ad : Int → Nat) (a : Int) : Option Nat := if a = 0 then none else some (ad a)
theorem am_or1_rf {a : Int} (h : 0 ≤ a) : va_rf (am_or1 ad a) = am_rv ad fm a := by
  unfold am_or1 am_rv
  by_cases e : a = 0
  · rw [if_pos e, if_pos e]; rfl
  · rw [if_neg e, if_neg e, if_neg (by omega)]; rfl
theorem am_or1_eq (had : ∀ r, 0 < r → ad r = s0.heap.size + (r - 1).toNat) {a b : Int} (ha : 0 ≤ a) (hb : 0 ≤ b) : am_or1 ad a = am_or1 ad b ↔ a = b := by
  unfold am_or1
  by_cases e : a = 0
  · by_cases f : b = 0
    · rw [e, f]
      exact ⟨fun _ => rfl, fun _ => rfl⟩
    · rw [if_pos e, if_neg f]
      exact ⟨fun z => (by cases z), fun z => absurd (Eq.trans (Eq.symm z) e) f⟩
  · by_cases f : b = 0
    · rw [if_neg e, if_pos f]
      exact ⟨fun z => (by cases z), fun z => absurd (Eq.trans z f) e⟩
    · rw [if_neg e, if_neg f]
      refine ⟨fun z => ?_, fun z => by rw [z]⟩
      have z1 := Option.some.inj z
      rw [had a (by omega), had b (by omega)] at z1
      omega
theorem am_s_acmp_eq (hx : p.tables.exec = Jvm.exec) (hb : c.code = cc) (had : ∀ r, 0 < r → ad r = s0.heap.size + (r - 1).toNat) {o : Int} {t : Nat} {a b : Int} (hab : 0 ≤ a ∧ 0 ≤ b) (hd : decode cc pc = .ok (.if_acmp .eq o, 3)) (ht : (pc : Int) + o = (t : Int)) (K1 : a = b → am_S p l e R s m args below meth c s0 ad fm cid slo N ft Qf n0 s1 t L r mm) (K2 : a ≠ b → am_S p l e R s m args below meth c s0 ad fm cid slo N ft Qf n0 s1 (pc + 3) L r mm) : am_S p l e R s m args below meth c s0 ad fm cid slo N ft Qf n0 s1 pc L (.inr (.inr (.inl b)) :: .inr (.inr (.inl a)) :: r) mm := by
  intro H locs ls hR hlo hL hS h0 h1
  rw [List.map_cons, List.map_cons, show am_c ad fm (.inr (.inr (.inl a))) = am_rv ad fm a from rfl, show am_c ad fm (.inr (.inr (.inl b))) = am_rv ad fm b from rfl, ← am_or1_rf hab.1, ← am_or1_rf hab.2]
  refine lv_acmp_eq hx hb hd ht (fun z => K1 ?_ H locs ls hR hlo hL (am_vt (am_vt hS)) h0 h1) (fun z => K2 ?_ H locs ls hR hlo hL (am_vt (am_vt hS)) h0 h1)
  · exact (am_or1_eq had hab.1 hab.2).mp z
  · exact fun e => z ((am_or1_eq had hab.1 hab.2).mpr e)
theorem am_s_acmp_ne (hx : p.tables.exec = Jvm.exec) (hb : c.code = cc) (had : ∀ r, 0 < r → ad r = s0.heap.size + (r - 1).toNat) {o : Int} {t : Nat} {a b : Int} (hab : 0 ≤ a ∧ 0 ≤ b) (hd : decode cc pc = .ok (.if_acmp .ne o, 3)) (ht : (pc : Int) + o = (t : Int)) (K1 : a ≠ b → am_S p l e R s m args below meth c s0 ad fm cid slo N ft Qf n0 s1 t L r mm) (K2 : a = b → am_S p l e R s m args below meth c s0 ad fm cid slo N ft Qf n0 s1 (pc + 3) L r mm) : am_S p l e R s m args below meth c s0 ad fm cid slo N ft Qf n0 s1 pc L (.inr (.inr (.inl b)) :: .inr (.inr (.inl a)) :: r) mm := by
  intro H locs ls hR hlo hL hS h0 h1
  rw [List.map_cons, List.map_cons, show am_c ad fm (.inr (.inr (.inl a))) = am_rv ad fm a from rfl, show am_c ad fm (.inr (.inr (.inl b))) = am_rv ad fm b from rfl, ← am_or1_rf hab.1, ← am_or1_rf hab.2]
  refine lv_acmp_ne hx hb hd ht (fun z => K1 ?_ H locs ls hR hlo hL (am_vt (am_vt hS)) h0 h1) (fun z => K2 ?_ H locs ls hR hlo hL (am_vt (am_vt hS)) h0 h1)
  · exact fun e => z ((am_or1_eq had hab.1 hab.2).mpr e)
  · exact (am_or1_eq had hab.1 hab.2).mp z
theorem am_s_goto (hx : p.tables.exec = Jvm.exec) (hb : c.code = cc) {o : Int} {t : Nat} (hd : decode cc pc = .ok (.goto o, 3)) (ht : (pc : Int) + o = (t : Int)) (K : am_S p l e R s m args below meth c s0 ad fm cid slo N ft Qf n0 s1 t L r mm) : am_S p l e R s m args below meth c s0 ad fm cid slo N ft Qf n0 s1 pc L r mm := by
  intro H locs ls hR hlo hL hS h0 h1
  exact lv_goto hx hb hd ht (K H locs ls hR hlo hL hS h0 h1)
theorem am_swt_at {a : Int} {J : Nat → Prop} : ∀ (os : List Int) (k : Int), am_swt pc a J k os → ∀ (j : Nat) (o : Int), os[j]? = some o → a = k + j → J ((pc : Int) + o).toNat := by
  intro os
  induction os with
  | nil => intro k _ j o h; simp at h
  | cons x r ih =>
    intro k h j o hj ha
    match j, hj, ha with
    | 0, hj, ha =>
      cases hj
      exact h.1 (by omega)
    | j + 1, hj, ha => exact ih (k + 1) h.2 j o hj (by omega)
theorem am_s_table (hx : p.tables.exec = Jvm.exec) (hb : c.code = cc) {d lo hi a : Int} {os : Array Int} {len : Nat} (hd : decode cc pc = .ok (.tableswitch d lo hi os, len)) (hsz : lo + os.size = hi + 1) (hpos : ∀ o ∈ d :: os.toList, 0 ≤ (pc : Int) + o) (K1 : am_swt pc a (fun t => am_S p l e R s m args below meth c s0 ad fm cid slo N ft Qf n0 s1 t L r mm) lo os.toList) (K2 : (a < lo ∨ hi < a) → am_S p l e R s m args below meth c s0 ad fm cid slo N ft Qf n0 s1 ((pc : Int) + d).toNat L r mm) : am_S p l e R s m args below meth c s0 ad fm cid slo N ft Qf n0 s1 pc L (.inl a :: r) mm := by
  intro H locs ls hR hlo hL hS h0 h1
  have ha := am_i32 (am_vh hS)
  rw [List.map_cons, show am_c ad fm (.inl a) = .int (Int32.ofInt a) from rfl]
  by_cases h : a < lo ∨ hi < a
  · refine lv_tableOut hx hb hd (by rw [ha]; exact h) (tgt := ((pc : Int) + d).toNat) ?_ (K2 h H locs ls hR hlo hL (am_vt hS) h0 h1)
    have := hpos d List.mem_cons_self
    omega
  · have hj : (a - lo).toNat < os.size := by omega
    obtain ⟨o, ho⟩ : ∃ o, os[(a - lo).toNat]? = some o := ⟨_, Array.getElem?_eq_getElem hj⟩
    have ho' : os.toList[(a - lo).toNat]? = some o := by rw [Array.getElem?_toList]; exact ho
    have k := am_swt_at _ _ K1 (a - lo).toNat o ho' (by omega)
    refine lv_tableIn hx hb hd (by rw [ha]; omega) (by rw [ha]; omega) (off := o) (by rw [ha]; exact ho) (tgt := ((pc : Int) + o).toNat) ?_ (k H locs ls hR hlo hL (am_vt hS) h0 h1)
    have := hpos o (List.mem_cons_of_mem _ (List.mem_of_getElem? ho'))
    omega
theorem am_s_ldc (hx : p.tables.exec = Jvm.exec) (hb : c.code = cc) {own : String} {idx : Nat} {y : Int} (hown : s.vm.findClass own = some m.cls) (hc : (Jvm.Cond.constant own idx (Int32.ofInt y)).before args s = true) (hv : am_vok (.inl y)) (hd : decode cc pc = .ok (.ldc idx, 2)) (K : am_S p l e R s m args below meth c s0 ad fm cid slo N ft Qf n0 s1 (pc + 2) L (.inl y :: r) mm) : am_S p l e R s m args below meth c s0 ad fm cid slo N ft Qf n0 s1 pc L r mm := by
  intro H locs ls hR hlo hL hS h0 h1
  exact lv_ldc hx hb hown hc hd (K H locs ls hR hlo hL (am_vc hv hS) h0 h1)
theorem am_s_ldcw (hx : p.tables.exec = Jvm.exec) (hb : c.code = cc) {own : String} {idx : Nat} {y : Int} (hown : s.vm.findClass own = some m.cls) (hc : (Jvm.Cond.constant own idx (Int32.ofInt y)).before args s = true) (hv : am_vok (.inl y)) (hd : decode cc pc = .ok (.ldc_w idx, 3)) (K : am_S p l e R s m args below meth c s0 ad fm cid slo N ft Qf n0 s1 (pc + 3) L (.inl y :: r) mm) : am_S p l e R s m args below meth c s0 ad fm cid slo N ft Qf n0 s1 pc L r mm := by
  intro H locs ls hR hlo hL hS h0 h1
  exact lv_ldcw hx hb hown hc hd (K H locs ls hR hlo hL (am_vc hv hS) h0 h1)
theorem am_s_ldc2 (hx : p.tables.exec = Jvm.exec) (hb : c.code = cc) {own : String} {idx : Nat} {y : Int} (hown : s.vm.findClass own = some m.cls) (hc : (Jvm.Cond.constantLong own idx (Int64.ofInt y)).before args s = true) (hv : am_vok (.inr (.inl y))) (hd : decode cc pc = .ok (.ldc2_w idx, 3)) (K : am_S p l e R s m args below meth c s0 ad fm cid slo N ft Qf n0 s1 (pc + 3) L (.inr (.inl y) :: r) mm) : am_S p l e R s m args below meth c s0 ad fm cid slo N ft Qf n0 s1 pc L r mm := by
  intro H locs ls hR hlo hL hS h0 h1
  exact lv_ldc2 hx hb hown hc hd (K H locs ls hR hlo hL (am_vc hv hS) h0 h1)
/-- an object of a class -/
theorem am_Rep.of (hR : am_Rep s0 ad fm cid slo N ft mm H) {a : Int} (h : mm a (-1) ≠ 0) : ∃ cell : Cell, H[ad a]? = some cell ∧ cell.vm.isStatics = false ∧ cell.cls = cid (mm a (-1)) := by
  obtain ⟨_, _, _, _, _, hc, _⟩ := hR
  obtain ⟨cell, c1, c2, c3, c4, _⟩ := hc a h
  exact ⟨cell, c1, c4, c2⟩
theorem am_s_cast (hx : p.tables.exec = Jvm.exec) (hb : c.code = cc) {own C nm : String} {idx : Nat} {a : Int} (hown : s.vm.findClass own = some m.cls) (hlink : (Jvm.Cond.classLink own idx nm).before args s = true) (hC : s.vm.findClass C = some (cid (mm a (-1)))) (hcast : va_Nw (.castable C nm) s) (h : mm a (-1) ≠ 0) (hd : decode cc pc = .ok (.checkcast idx, 3)) (K : am_S p l e R s m args below meth c s0 ad fm cid slo N ft Qf n0 s1 (pc + 3) L (.inr (.inr (.inl a)) :: r) mm) : am_S p l e R s m args below meth c s0 ad fm cid slo N ft Qf n0 s1 pc L (.inr (.inr (.inl a)) :: r) mm := by
  intro H locs ls hR hlo hL hS h0 h1
  obtain ⟨cell, c1, c2, c3⟩ := hR.of h
  have K1 := K H locs ls hR hlo hL hS h0 h1
  rw [List.map_cons, show am_c ad fm (.inr (.inr (.inl a))) = am_rv ad fm a from rfl, (hR.rv h).1] at K1 ⊢
  exact va_castY hx hb hown hlink hcast ⟨cell, c1, c2, by rw [c3]; exact hC⟩ hd K1
theorem am_s_inst (hx : p.tables.exec = Jvm.exec) (hb : c.code = cc) {own C nm : String} {idx : Nat} {a : Int} (hown : s.vm.findClass own = some m.cls) (hlink : (Jvm.Cond.classLink own idx nm).before args s = true) (hC : s.vm.findClass C = some (cid (mm a (-1)))) (hcast : va_Nw (.castable C nm) s) (h : mm a (-1) ≠ 0) (hd : decode cc pc = .ok (.instanceof idx, 3)) (K : am_S p l e R s m args below meth c s0 ad fm cid slo N ft Qf n0 s1 (pc + 3) L (.inl 1 :: r) mm) : am_S p l e R s m args below meth c s0 ad fm cid slo N ft Qf n0 s1 pc L (.inr (.inr (.inl a)) :: r) mm := by
  intro H locs ls hR hlo hL hS h0 h1
  obtain ⟨cell, c1, c2, c3⟩ := hR.of h
  have K1 := K H locs ls hR hlo hL (am_vc ⟨by decide, by decide⟩ (am_vt hS)) h0 h1
  rw [List.map_cons, show am_c ad fm (.inr (.inr (.inl a))) = am_rv ad fm a from rfl, (hR.rv h).1]
  exact va_instY hx hb hown hlink hcast ⟨cell, c1, c2, by rw [c3]; exact hC⟩ hd K1
theorem am_s_instN (hx : p.tables.exec = Jvm.exec) (hb : c.code = cc) {own C nm : String} {idx : Nat} {a : Int} (hown : s.vm.findClass own = some m.cls) (hlink : (Jvm.Cond.classLink own idx nm).before args s = true) (hC : s.vm.findClass C = some (cid (mm a (-1)))) (hcast : va_Nc C nm s) (h : mm a (-1) ≠ 0) (hd : decode cc pc = .ok (.instanceof idx, 3)) (K : am_S p l e R s m args below meth c s0 ad fm cid slo N ft Qf n0 s1 (pc + 3) L (.inl 0 :: r) mm) : am_S p l e R s m args below meth c s0 ad fm cid slo N ft Qf n0 s1 pc L (.inr (.inr (.inl a)) :: r) mm := by
  intro H locs ls hR hlo hL hS h0 h1
  obtain ⟨cell, c1, c2, c3⟩ := hR.of h
  have K1 := K H locs ls hR hlo hL (am_vc ⟨by decide, by decide⟩ (am_vt hS)) h0 h1
  rw [List.map_cons, show am_c ad fm (.inr (.inr (.inl a))) = am_rv ad fm a from rfl, (hR.rv h).1]
  exact va_instNo hx hb hown hlink hcast ⟨cell, c1, c2, by rw [c3]; exact hC⟩ hd K1
theorem am_s_objInit (hx : p.tables.exec = Jvm.exec) (hb : c.code = cc) {own : String} {idx : Nat} {a : Int} (hown : s.vm.findClass own = some m.cls) (hml : c.maxLocals = L.length) (hlink : (Jvm.Cond.methodLink own idx Lib.objectInit).before args s = true) (hinst : (Jvm.Cond.instanceMethod Lib.objectInit).before args s = true) (hcode : (Jvm.Cond.code Lib.objectInit ⟨#[0xb1]⟩ 1 none).before args s = true) (hRf : 1 ≤ R.frames) (hRl : ((r.map (am_c ad fm)).map fun v => v.category).sum + 12 ≤ R.locals) (ha : 0 < a) (hd : decode cc pc = .ok (.invokespecial idx, 3)) (K : am_S p l e R s m args below meth c s0 ad fm cid slo N ft Qf n0 s1 (pc + 3) L r mm) : am_S p l e R s m args below meth c s0 ad fm cid slo N ft Qf n0 s1 pc L (.inr (.inr (.inl a)) :: r) mm := by
  intro H locs ls hR hlo hL hS h0 h1
  have K1 := K H locs ls hR hlo hL (am_vt hS) h0 h1
  have er : am_rv ad fm a = .ref (ad a) := by unfold am_rv; rw [if_neg (by omega), if_neg (by omega)]
  rw [List.map_cons, show am_c ad fm (.inr (.inr (.inl a))) = am_rv ad fm a from rfl, er]
  exact W.objInit hx hb hown hlink hinst hcode rfl (hL.1.trans hml.symm) rfl hd hRf (by simpa using hRl) K1
end Misc
