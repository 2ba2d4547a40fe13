/-! FROM AN ABSTRACT STEP TO THE MACHINE's: new objects, static fields; by tools/genexec7.py -/
def am_fz (y : FieldType) : Bool := match y with
  | .float => false
  | .double => false
  | _ => true
theorem am_dfl {ad : Int → Nat} {fm : Value} {y : FieldType} (h : am_fz y = true) : defaultValue y = am_w ad fm (am_tc y) 0 := by
  cases y with
  | float => cases h
  | double => cases h
  | long => rw [show am_tc FieldType.long = 1 from rfl, am_w1]; rfl
  | object n => rw [show am_tc (FieldType.object n) = 2 from rfl, am_w2]; rfl
  | array n => rw [show am_tc (FieldType.array n) = 2 from rfl, am_w2]; rfl
  | int => rw [show am_tc FieldType.int = 0 from rfl, am_w0]; rfl
  | boolean => rw [show am_tc FieldType.boolean = 0 from rfl, am_w0]; rfl
  | byte => rw [show am_tc FieldType.byte = 0 from rfl, am_w0]; rfl
  | char => rw [show am_tc FieldType.char = 0 from rfl, am_w0]; rfl
  | short => rw [show am_tc FieldType.short = 0 from rfl, am_w0]; rfl
theorem am_fz_1 : ∀ k, k < am_cF 1 → am_fz (am_cY 1 k) = true := by decide +kernel
theorem am_fz_2 : ∀ k, k < am_cF 2 → am_fz (am_cY 2 k) = true := by decide +kernel
theorem am_fz_4 : ∀ k, k < am_cF 4 → am_fz (am_cY 4 k) = true := by decide +kernel
theorem am_fz_5 : ∀ k, k < am_cF 5 → am_fz (am_cY 5 k) = true := by decide +kernel
theorem am_fz_6 : ∀ k, k < am_cF 6 → am_fz (am_cY 6 k) = true := by decide +kernel
theorem am_fz_7 : ∀ k, k < am_cF 7 → am_fz (am_cY 7 k) = true := by decide +kernel
theorem am_fz_8 : ∀ k, k < am_cF 8 → am_fz (am_cY 8 k) = true := by decide +kernel
theorem am_fz_9 : ∀ k, k < am_cF 9 → am_fz (am_cY 9 k) = true := by decide +kernel
theorem am_fz_10 : ∀ k, k < am_cF 10 → am_fz (am_cY 10 k) = true := by decide +kernel
theorem am_fz_11 : ∀ k, k < am_cF 11 → am_fz (am_cY 11 k) = true := by decide +kernel
theorem am_fz_13 : ∀ k, k < am_cF 13 → am_fz (am_cY 13 k) = true := by decide +kernel
theorem am_fz_14 : ∀ k, k < am_cF 14 → am_fz (am_cY 14 k) = true := by decide +kernel
theorem am_fz_15 : ∀ k, k < am_cF 15 → am_fz (am_cY 15 k) = true := by decide +kernel
theorem am_fz_16 : ∀ k, k < am_cF 16 → am_fz (am_cY 16 k) = true := by decide +kernel
theorem am_fz_17 : ∀ k, k < am_cF 17 → am_fz (am_cY 17 k) = true := by decide +kernel
theorem am_fz_30 : ∀ k, k < am_cF 30 → am_fz (am_cY 30 k) = true := by decide +kernel
theorem am_fzl : ∀ t, am_isO t = true → ∀ k, k < am_cF t → am_fz (am_cY t k) = true := am_O am_fz_1 am_fz_2 am_fz_4 am_fz_5 am_fz_6 am_fz_7 am_fz_8 am_fz_9 am_fz_10 am_fz_11 am_fz_13 am_fz_14 am_fz_15 am_fz_16 am_fz_17 am_fz_30
theorem am_alkT {s0 s : State} {c : ClassId} {kC : Class} (h : s0.vm.Alike s.vm) (hk : s.vm.classes[c]? = some kC) : ∃ k0, s0.vm.classes[c]? = some k0 ∧ kC.instanceTypes = k0.instanceTypes := by
  obtain ⟨k', hk', he⟩ := h.symm.2.2 _ _ hk
  exact ⟨k', hk', by rw [he]⟩
section Exec7
variable {p : Program} {l : Launch} {e : Env} {R : Room} {s : State} {m : MethodId} {args : Array Value} {below : List Frame} {meth : Method} {c : Code} {cc : ByteArray} {s0 : State} {ad : Int → Nat} {fm : Value} {cid : Int → ClassId} {slo : Int → Nat → Nat} {Qf : State → Prop} {n0 s1 : Int} {pc len : Nat} {x y : Int} {z : Nat} {L S : List aV} {mm : aM} {G : Nat → aM → Prop} {ca : aC} {hs : aH} {Q : aO → aM → Prop} {nx : List aV → List aV → aM → Prop} {jp : Nat → List aV → List aV → aM → Prop} {md o idx k : Nat} {t0 n : Int}
theorem am_e_new {w n : Nat} (hx : p.tables.exec = Jvm.exec) (hb : c.code = cc) (hf : am_fmok fm) (hl : len = 3) (X : am_Wd s0 ad fm cid slo s) (hown : s.vm.findClass (am_on o) = some m.cls) (hRc : (amC - n0).toNat ≤ R.cells) (hRs : (amS - s1).toNat ≤ R.slots) (hxt : x = (w : Int)) (hy : y = (n : Int)) (hcl : (o, idx, w) ∈ am_cL) (hn : (w, n) ∈ am_nT) (hk : (am_isO (w : Int) = true ∧ am_on w = am_cN (w : Int)) ∨ w = 3) (hd : decode cc pc = .ok (.new idx, len)) (hnx : ∀ L S mm, nx L S mm → am_S p l e R s m args below meth c s0 ad fm cid slo am_cF am_ft Qf n0 s1 (pc + len) L S mm) (hjp : ∀ t L S mm, jp t L S mm → am_S p l e R s m args below meth c s0 ad fm cid slo am_cF am_ft Qf n0 s1 t L S mm) (h : am_istep G ca hs Q nx jp (pc, .new idx, len, x, y, z) L S mm) : am_S p l e R s m args below meth c s0 ad fm cid slo am_cF am_ft Qf n0 s1 pc L S mm := by
  subst hl
  subst hxt
  subst hy
  have h1 := X.words args _ (am_cL_ok _ hcl)
  have h2 := am_nT_ok _ hn
  rcases hk with ⟨ho, en⟩ | rfl
  · have hkn := X.kn _ ho
    have hfc := hkn.2.1
    exact am_s_new hx hb hown X.had hRc hRs (am_cY (w : Int)) (X.words args) rfl (by rw [← en]; exact h1) (by rw [← en]; exact X.words args _ h2.1) (by rw [← en]; exact X.words args _ h2.2) hfc (Or.inl ⟨ho, hkn, am_inW _ ho, am_tyok _ ho, fun k hk => am_dfl (am_fzl _ ho k hk)⟩) h.1 hd (hnx _ _ _ h.2)
  · exact am_s_new (C := am_on 3) (T := TX0) hx hb hown X.had hRc hRs (fun _ => FieldType.int) (Ts := []) (fun _ h => absurd h List.not_mem_nil) rfl h1 (X.words args _ h2.1) (X.words args _ h2.2) (X.exc 3 rfl).1 (Or.inr ⟨rfl, fun _ kC hk => am_alkT X.alk hk⟩) h.1 hd (hnx _ _ _ h.2)
theorem am_e_anewarray {w : Nat} (hx : p.tables.exec = Jvm.exec) (hb : c.code = cc) (hf : am_fmok fm) (hl : len = 3) (X : am_Wd s0 ad fm cid slo s) (hown : s.vm.findClass (am_on o) = some m.cls) (hRc : (amC - n0).toNat ≤ R.cells) (hRs : (amS - s1).toNat ≤ R.slots) (hA : am_isA x = true) (hw2 : am_aw x = 2) (hC : am_aty x = .object (am_on w)) (hcl : (o, idx, w) ∈ am_cL) (hov : am_on w ∈ am_ov) (hd : decode cc pc = .ok (.anewarray idx, len)) (hnx : ∀ L S mm, nx L S mm → am_S p l e R s m args below meth c s0 ad fm cid slo am_cF am_ft Qf n0 s1 (pc + len) L S mm) (hjp : ∀ t L S mm, jp t L S mm → am_S p l e R s m args below meth c s0 ad fm cid slo am_cF am_ft Qf n0 s1 t L S mm) (h : am_istep G ca hs Q nx jp (pc, .anewarray idx, len, x, y, z) L S mm) : am_S p l e R s m args below meth c s0 ad fm cid slo am_cF am_ft Qf n0 s1 pc L S mm := by
  subst hl
  have h1 := X.words args _ (am_cL_ok _ hcl)
  have hra := (X.arr x hA).2 (am_aw2 hA hw2)
  rw [hC] at hra
  obtain ⟨kA, comp, -, -, -, hfc⟩ := hra
  rcases S with _ | ⟨v0, S⟩
  · exact False.elim h
  · rcases v0 with v0 | v0 | v0 | v0
    · exact am_s_anewarray hx hb hown X.had hRc hRs (C := am_on w) h1 ((X.overs _ hov).use) hA hfc (by rw [hw2, am_w2]) h.1 hd (hnx _ _ _ h.2)
    · exact False.elim h
    · exact False.elim h
    · exact False.elim h
theorem am_e_gets {q : String × String × String × Value} (hx : p.tables.exec = Jvm.exec) (hb : c.code = cc) (hf : am_fmok fm) (hl : len = 3) (X : am_Wd s0 ad fm cid slo s) (hown : s.vm.findClass (am_on o) = some m.cls) (hq : q ∈ am_zz ad fm) (hv : q.2.2.2 = am_c ad fm (am_mk z y)) (hok : am_vok (am_mk z y)) (hl2 : Jvm.Cond.fieldLink (am_on o) idx q.1 q.2.1 q.2.2.1 ∈ lw_all ∨ va_Nw (.fieldLinkNest (am_on o) idx q.1 q.2.1 q.2.2.1 "ArmsHouse") s) (hd : decode cc pc = .ok (.getstatic idx, len)) (hnx : ∀ L S mm, nx L S mm → am_S p l e R s m args below meth c s0 ad fm cid slo am_cF am_ft Qf n0 s1 (pc + len) L S mm) (hjp : ∀ t L S mm, jp t L S mm → am_S p l e R s m args below meth c s0 ad fm cid slo am_cF am_ft Qf n0 s1 t L S mm) (h : am_istep G ca hs Q nx jp (pc, .getstatic idx, len, x, y, z) L S mm) : am_S p l e R s m args below meth c s0 ad fm cid slo am_cF am_ft Qf n0 s1 pc L S mm := by
  subst hl
  have hZ := X.stat q hq
  rw [hv] at hZ
  refine am_s_gets hx hb hown ?_ hZ hok hd (hnx _ _ _ h)
  rcases hl2 with h1 | h1
  · exact Or.inl (X.words args _ h1)
  · exact Or.inr ⟨_, va_Nw.use rfl h1⟩
theorem am_s_castS {r : List aV} (hx : p.tables.exec = Jvm.exec) (hb : c.code = cc) {own nm : String} {a : Int} (hown : s.vm.findClass own = some m.cls) (hlink : (Jvm.Cond.classLink own idx nm).before args s = true) (hC : ClassAt s nm (cid (mm a (-1)))) (h : mm a (-1) ≠ 0) (hd : decode cc pc = .ok (.checkcast idx, 3)) (K : am_S p l e R s m args below meth c s0 ad fm cid slo am_cF am_ft Qf n0 s1 (pc + 3) L (.inr (.inr (.inl a)) :: r) mm) : am_S p l e R s m args below meth c s0 ad fm cid slo am_cF am_ft Qf n0 s1 pc L (.inr (.inr (.inl a)) :: r) mm := by
  intro H locs ls hR hlo hL hS h0 h1
  obtain ⟨cell, c1, c2, c3⟩ := hR.of h
  have K1 := K H locs ls hR hlo hL hS h0 h1
  rw [List.map_cons, show am_c ad fm (.inr (.inr (.inl a))) = am_rv ad fm a from rfl, (hR.rv h).1] at K1 ⊢
  exact va_castS hx hb hown hlink hC ⟨cell, c1, c2, by rw [c3]; exact hC.1⟩ hd K1
theorem am_s_instS {r : List aV} (hx : p.tables.exec = Jvm.exec) (hb : c.code = cc) {own nm : String} {a : Int} (hown : s.vm.findClass own = some m.cls) (hlink : (Jvm.Cond.classLink own idx nm).before args s = true) (hC : ClassAt s nm (cid (mm a (-1)))) (h : mm a (-1) ≠ 0) (hd : decode cc pc = .ok (.instanceof idx, 3)) (K : am_S p l e R s m args below meth c s0 ad fm cid slo am_cF am_ft Qf n0 s1 (pc + 3) L (.inl 1 :: r) mm) : am_S p l e R s m args below meth c s0 ad fm cid slo am_cF am_ft Qf n0 s1 pc L (.inr (.inr (.inl a)) :: r) mm := by
  intro H locs ls hR hlo hL hS h0 h1
  obtain ⟨cell, c1, c2, c3⟩ := hR.of h
  have K1 := K H locs ls hR hlo hL (am_vc ⟨by decide, by decide⟩ (am_vt hS)) h0 h1
  rw [List.map_cons, show am_c ad fm (.inr (.inr (.inl a))) = am_rv ad fm a from rfl, (hR.rv h).1]
  exact va_instS hx hb hown hlink hC ⟨cell, c1, c2, by rw [c3]; exact hC.1⟩ hd K1
/-- what a cast to x meets: castable or not -/
theorem am_cst : ∀ x ∈ ([5, 6, 7, 10, 18] : List Nat), ∀ t ∈ ([5, 6, 7, 10] : List Nat), (¬ am_ok (x : Int) (t : Int)) → (t, x) ∈ am_nc ∧ am_on t = am_cN (t : Int) ∧ am_isO (t : Int) = true := by
  intro x hx t ht h
  simp only [List.mem_cons, List.not_mem_nil, or_false] at hx ht
  rcases hx with rfl | rfl | rfl | rfl | rfl <;> rcases ht with rfl | rfl | rfl | rfl <;> first
    | exact absurd rfl h
    | exact absurd (Or.inl rfl) h
    | exact absurd (Or.inr (Or.inl rfl)) h
    | exact absurd (Or.inr (Or.inr (Or.inr rfl))) h
    | exact ⟨by decide +kernel, by decide +kernel, rfl⟩
/-- the class of an object by its tag -/
theorem am_cT_at (X : am_Wd s0 ad fm cid slo s) {t : Int} (ho : am_isO t = true) : ClassAt s (am_cN t) (cid t) := (X.kn t ho).2
theorem am_cy : ∀ x ∈ ([5, 6, 7, 10] : List Nat), am_on x = am_cN (x : Int) ∧ am_isO (x : Int) = true := by decide +kernel
theorem am_c18 : ∀ t ∈ ([5, 7, 8, 10] : List Nat), (t, 18) ∈ am_cs ∧ am_on t = am_cN (t : Int) ∧ am_isO (t : Int) = true := by decide +kernel
/-- a cast that goes well -/
theorem am_yes_cast {r : List aV} (hx : p.tables.exec = Jvm.exec) (hb : c.code = cc) (X : am_Wd s0 ad fm cid slo s) (hown : s.vm.findClass (am_on o) = some m.cls) {w : Nat} {a : Int} (hcl : (o, idx, w) ∈ am_cL) (hw : w ∈ ([5, 6, 7, 10, 18] : List Nat)) (hok : am_ok (w : Int) (mm a (-1))) (hd : decode cc pc = .ok (.checkcast idx, 3)) (K : am_S p l e R s m args below meth c s0 ad fm cid slo am_cF am_ft Qf n0 s1 (pc + 3) L (.inr (.inr (.inl a)) :: r) mm) : am_S p l e R s m args below meth c s0 ad fm cid slo am_cF am_ft Qf n0 s1 pc L (.inr (.inr (.inl a)) :: r) mm := by
  have h1 := X.words args _ (am_cL_ok _ hcl)
  by_cases e : w = 18
  · subst e
    have hm : ∃ t ∈ ([5, 7, 8, 10] : List Nat), mm a (-1) = (t : Int) := by
      rcases hok with q | q | q | q
      · exact ⟨5, by decide, q⟩
      · exact ⟨7, by decide, q⟩
      · exact ⟨8, by decide, q⟩
      · exact ⟨10, by decide, q⟩
    obtain ⟨t, ht, et⟩ := hm
    obtain ⟨q1, q2, q3⟩ := am_c18 t ht
    have h0 : mm a (-1) ≠ 0 := by
      rw [et]
      simp only [List.mem_cons, List.not_mem_nil, or_false] at ht
      omega
    have hC := (am_cT_at X q3).1
    rw [← q2, ← et] at hC
    exact am_s_cast hx hb hown h1 hC (X.casts _ q1) h0 hd K
  · have hw2 : w ∈ ([5, 6, 7, 10] : List Nat) := by
      simp only [List.mem_cons, List.not_mem_nil, or_false] at hw ⊢
      omega
    obtain ⟨q2, q3⟩ := am_cy w hw2
    have et : mm a (-1) = (w : Int) := am_ok_eq (by
      simp only [List.mem_cons, List.not_mem_nil, or_false] at hw2
      omega) hok
    have h0 : mm a (-1) ≠ 0 := by
      rw [et]
      simp only [List.mem_cons, List.not_mem_nil, or_false] at hw2
      omega
    have hC := am_cT_at X q3
    rw [← q2, ← et] at hC
    exact am_s_castS hx hb hown h1 hC h0 hd K
/-- a cast that goes well -/
theorem am_yes_inst {r : List aV} (hx : p.tables.exec = Jvm.exec) (hb : c.code = cc) (X : am_Wd s0 ad fm cid slo s) (hown : s.vm.findClass (am_on o) = some m.cls) {w : Nat} {a : Int} (hcl : (o, idx, w) ∈ am_cL) (hw : w ∈ ([5, 6, 7, 10, 18] : List Nat)) (hok : am_ok (w : Int) (mm a (-1))) (hd : decode cc pc = .ok (.instanceof idx, 3)) (K : am_S p l e R s m args below meth c s0 ad fm cid slo am_cF am_ft Qf n0 s1 (pc + 3) L (.inl 1 :: r) mm) : am_S p l e R s m args below meth c s0 ad fm cid slo am_cF am_ft Qf n0 s1 pc L (.inr (.inr (.inl a)) :: r) mm := by
  have h1 := X.words args _ (am_cL_ok _ hcl)
  by_cases e : w = 18
  · subst e
    have hm : ∃ t ∈ ([5, 7, 8, 10] : List Nat), mm a (-1) = (t : Int) := by
      rcases hok with q | q | q | q
      · exact ⟨5, by decide, q⟩
      · exact ⟨7, by decide, q⟩
      · exact ⟨8, by decide, q⟩
      · exact ⟨10, by decide, q⟩
    obtain ⟨t, ht, et⟩ := hm
    obtain ⟨q1, q2, q3⟩ := am_c18 t ht
    have h0 : mm a (-1) ≠ 0 := by
      rw [et]
      simp only [List.mem_cons, List.not_mem_nil, or_false] at ht
      omega
    have hC := (am_cT_at X q3).1
    rw [← q2, ← et] at hC
    exact am_s_inst hx hb hown h1 hC (X.casts _ q1) h0 hd K
  · have hw2 : w ∈ ([5, 6, 7, 10] : List Nat) := by
      simp only [List.mem_cons, List.not_mem_nil, or_false] at hw ⊢
      omega
    obtain ⟨q2, q3⟩ := am_cy w hw2
    have et : mm a (-1) = (w : Int) := am_ok_eq (by
      simp only [List.mem_cons, List.not_mem_nil, or_false] at hw2
      omega) hok
    have h0 : mm a (-1) ≠ 0 := by
      rw [et]
      simp only [List.mem_cons, List.not_mem_nil, or_false] at hw2
      omega
    have hC := am_cT_at X q3
    rw [← q2, ← et] at hC
    exact am_s_instS hx hb hown h1 hC h0 hd K
theorem am_e_instanceof {w : Nat} (hx : p.tables.exec = Jvm.exec) (hb : c.code = cc) (hf : am_fmok fm) (hl : len = 3) (X : am_Wd s0 ad fm cid slo s) (hown : s.vm.findClass (am_on o) = some m.cls) (hxt : x = (w : Int)) (hcl : (o, idx, w) ∈ am_cL) (hw : w ∈ ([5, 6, 7, 10, 18] : List Nat)) (hd : decode cc pc = .ok (.instanceof idx, len)) (hnx : ∀ L S mm, nx L S mm → am_S p l e R s m args below meth c s0 ad fm cid slo am_cF am_ft Qf n0 s1 (pc + len) L S mm) (hjp : ∀ t L S mm, jp t L S mm → am_S p l e R s m args below meth c s0 ad fm cid slo am_cF am_ft Qf n0 s1 t L S mm) (h : am_istep G ca hs Q nx jp (pc, .instanceof idx, len, x, y, z) L S mm) : am_S p l e R s m args below meth c s0 ad fm cid slo am_cF am_ft Qf n0 s1 pc L S mm := by
  subst hl
  subst hxt
  rcases S with _ | ⟨v0, S⟩
  · exact False.elim h
  · rcases v0 with v0 | v0 | v0 | v0
    · exact False.elim h
    · exact False.elim h
    · by_cases hok : am_ok (w : Int) (mm v0 (-1))
      · exact am_yes_inst hx hb X hown hcl hw hok hd (hnx _ _ _ (h.2.1 hok))
      · obtain ⟨h5, hn⟩ := h.2.2 hok
        have hm : ∃ t ∈ ([5, 6, 7, 10] : List Nat), mm v0 (-1) = (t : Int) := by
          rcases h5 with q | q | q | q
          · exact ⟨5, by decide, q⟩
          · exact ⟨6, by decide, q⟩
          · exact ⟨7, by decide, q⟩
          · exact ⟨10, by decide, q⟩
        obtain ⟨t, ht, et⟩ := hm
        obtain ⟨q1, q2, q3⟩ := am_cst w hw t ht (by rw [← et]; exact hok)
        have hC := (am_cT_at X q3).1
        rw [← q2, ← et] at hC
        exact am_s_instN hx hb hown (X.words args _ (am_cL_ok _ hcl)) hC (X.ncs _ q1) (by rw [et]; simp only [List.mem_cons, List.not_mem_nil, or_false] at ht; omega) hd (hnx _ _ _ hn)
    · exact False.elim h
end Exec7
