/-! FROM AN ABSTRACT STEP TO THE MACHINE's: fields; by tools/genexec4.py -/
/-- kinds of types: int 0, long 1, references 2, boolean 3 -/
def am_yk (y : FieldType) : Nat := match y with
  | .int => 0
  | .long => 1
  | .object _ => 2
  | .array _ => 2
  | .boolean => 3
  | _ => 9
theorem am_nar {ad : Int → Nat} {fm : Value} (hf : am_fmok fm) {ty : FieldType} {q w : Nat} {v : Int} (hq : am_yk ty = q) (hw : am_tc ty = w) (hv : q = 3 → v = 0 ∨ v = 1) (h9 : q ≠ 9) : narrow ty (am_w ad fm w v) = am_w ad fm w v ∧ fits ty (am_w ad fm w v) = true := by
  subst hw
  subst hq
  cases ty with
  | int => exact ⟨rfl, rfl⟩
  | long => exact ⟨rfl, rfl⟩
  | boolean => rcases hv rfl with rfl | rfl <;> exact ⟨rfl, rfl⟩
  | object n =>
    have e : am_w ad fm (am_tc (.object n)) v = am_rv ad fm v := rfl
    rw [e]
    rcases am_refv (ad := ad) hf v with h | ⟨a, h⟩ <;> rw [h] <;> exact ⟨rfl, rfl⟩
  | array t =>
    have e : am_w ad fm (am_tc (.array t)) v = am_rv ad fm v := rfl
    rw [e]
    rcases am_refv (ad := ad) hf v with h | ⟨a, h⟩ <;> rw [h] <;> exact ⟨rfl, rfl⟩
  | _ => exact absurd rfl h9
theorem am_nd2 : ∀ t ∈ ([13, 14, 15, 16, 17] : List Int), ∀ k, k < 3 → am_yk (am_cY t k) = am_yk (am_cY 13 k) := by decide +kernel
theorem am_sh_yk {t t0 : Int} {k : Nat} (h : am_sh t t0 k) : am_yk (am_cY t k) = am_yk (am_cY t0 k) := by
  rcases h with rfl | ⟨rfl, h1, h2, h3⟩
  · rfl
  · exact am_nd2 t (by simp; omega) k h3
/-- the class x of an instruction against the class t0 of its link -/
def am_xt (x t0 : Int) (k : Nat) : Prop := (x = t0 ∧ x ≠ 12 ∧ x ≠ 18 ∧ x ≠ 19) ∨ (x = 12 ∧ t0 = 13 ∧ k < 3)
theorem am_xt_sh {x t0 t : Int} {k : Nat} (h : am_xt x t0 k) (hok : am_ok x t) : am_sh t t0 k := by
  rcases h with ⟨rfl, h1⟩ | ⟨rfl, rfl, h3⟩
  · exact Or.inl (am_ok_eq h1 hok)
  · have hok' : 13 ≤ t ∧ t ≤ 17 := hok
    exact Or.inr ⟨rfl, hok'.1, hok'.2, h3⟩
section Field2
variable {p : Program} {l : Launch} {e : Env} {R : Room} {s : State} {m : MethodId} {args : Array Value} {below : List Frame} {meth : Method} {c : Code} {cc : ByteArray} {s0 : State} {ad : Int → Nat} {fm : Value} {cid : Int → ClassId} {slo : Int → Nat → Nat} {Qf : State → Prop} {n0 s1 : Int} {pc : Nat} {L r : List aV} {mm : aM} {o idx k w q : Nat} {t t0 a v : Int}
theorem am_pf (hx : p.tables.exec = Jvm.exec) (hb : c.code = cc) (X : am_Wd s0 ad fm cid slo s) (hown : s.vm.findClass (am_on o) = some m.cls) (hf2 : am_f2 o idx = some (t0, k)) (ht : mm a (-1) = t) (hsh : am_sh t t0 k) (ho : am_isO t0 = true) (hk : k < am_cF t0) (hw : am_ft t0 k = w) (hq : am_yk (am_cY t0 k) = q) (h9 : q ≠ 9) (hv : q = 3 → v = 0 ∨ v = 1) (hfin : (am_cT t0 k).2.2.2 = false ∨ ((am_cT t0 k).2.2.2 = true ∧ meth.name = "<init>" ∧ (am_cT t0 k).1 = am_on o ∧ (am_lk o idx am_fT).isSome = true)) (hmay : am_may mm a k) (hd : decode cc pc = .ok (.putfield idx, 3))
    (K : am_S p l e R s m args below meth c s0 ad fm cid slo am_cF am_ft Qf n0 s1 (pc + 3) L r (mS mm a k v)) : am_S p l e R s m args below meth c s0 ad fm cid slo am_cF am_ft Qf n0 s1 pc L (am_mk w v :: .inr (.inr (.inl a)) :: r) mm := by
  obtain ⟨e1, e2, e3, e4⟩ := am_sh_eq hsh ho hk
  have hl := am_f2_ok (args := args) X hf2
  rw [← e1] at hl hfin
  have hy := am_sh_yk hsh
  rw [hq] at hy
  have hlay := X.words args _ (am_inW t e4 _ (u_in_lay e2))
  unfold u_lay at hlay
  have hn := am_nar (ad := ad) X.fmok (ty := am_cY t k) (v := v) hy (show am_tc (am_cY t k) = w by rw [← hw, ← e3]; rfl) hv h9
  rcases hfin with h1 | ⟨h1, h2, h3, h4⟩
  · rw [h1] at hlay
    exact am_s_putf hx hb hown X.had (T := am_cT t) hl (X.kn t e4) hlay (am_tyok t e4 k e2) hn (am_slots (X.words args) e4 (X.kn t e4)) ht e4 e2 (by rw [e3]; exact hw) hmay hd K
  · rw [if_pos h1] at hlay
    have hl2 : (Jvm.Cond.fieldLink (am_on o) idx (am_cT t k).1 (am_cT t k).2.1 (am_cT t k).2.2.1).before args s = true := by
      unfold am_f2 at hf2
      cases h5 : am_lk o idx am_fT with
      | none => rw [h5] at h4; cases h4
      | some u =>
        rw [h5] at hf2
        cases hf2
        rw [e1]
        exact X.words args _ (am_fT_ok _ (am_lk_mem h5))
    exact am_s_putF hx hb hown h2 X.had (T := am_cT t) hl2 (X.kn t e4) h3 hlay (am_tyok t e4 k e2) hn (am_slots (X.words args) e4 (X.kn t e4)) ht e4 e2 (by rw [e3]; exact hw) hmay hd K
end Field2
section Exec4
variable {p : Program} {l : Launch} {e : Env} {R : Room} {s : State} {m : MethodId} {args : Array Value} {below : List Frame} {meth : Method} {c : Code} {cc : ByteArray} {s0 : State} {ad : Int → Nat} {fm : Value} {cid : Int → ClassId} {slo : Int → Nat → Nat} {Qf : State → Prop} {n0 s1 : Int} {pc len : Nat} {x y : Int} {z : Nat} {L S : List aV} {mm : aM} {G : Nat → aM → Prop} {ca : aC} {hs : aH} {Q : aO → aM → Prop} {nx : List aV → List aV → aM → Prop} {jp : Nat → List aV → List aV → aM → Prop} {md o idx k : Nat} {t0 n : Int}
theorem am_e_getf0  (hx : p.tables.exec = Jvm.exec) (hb : c.code = cc) (hf : am_fmok fm) (hl : len = 3) (X : am_Wd s0 ad fm cid slo s) (hown : s.vm.findClass (am_on o) = some m.cls) (hf2 : am_f2 o idx = some (t0, k)) (ho : am_isO t0 = true) (hk : k < am_cF t0) (hz : z = 0) (hy : y = ((k : Nat) : Int)) (hxt : am_xt x t0 k) (hw : am_ft t0 k = 0) (hd : decode cc pc = .ok (.getfield idx, len)) (hnx : ∀ L S mm, nx L S mm → am_S p l e R s m args below meth c s0 ad fm cid slo am_cF am_ft Qf n0 s1 (pc + len) L S mm) (hjp : ∀ t L S mm, jp t L S mm → am_S p l e R s m args below meth c s0 ad fm cid slo am_cF am_ft Qf n0 s1 t L S mm) (h : am_istep G ca hs Q nx jp (pc, .getfield idx, len, x, y, z) L S mm) : am_S p l e R s m args below meth c s0 ad fm cid slo am_cF am_ft Qf n0 s1 pc L S mm := by
  subst hl
  subst hz
  subst hy
  rcases S with _ | ⟨v0, S⟩
  · exact False.elim h
  · rcases v0 with v0 | v0 | v0 | v0
    · exact False.elim h
    · exact False.elim h
    · exact am_gf hx hb X hown hf2 rfl (am_xt_sh hxt h.1) ho hk hw hd (hnx _ _ _ h.2)
    · exact False.elim h
theorem am_e_getf3  (hx : p.tables.exec = Jvm.exec) (hb : c.code = cc) (hf : am_fmok fm) (hl : len = 3) (X : am_Wd s0 ad fm cid slo s) (hown : s.vm.findClass (am_on o) = some m.cls) (hf2 : am_f2 o idx = some (t0, k)) (ho : am_isO t0 = true) (hk : k < am_cF t0) (hg : am_gd md mm) (hst : am_l3 x (am_sfs md) = some (t0, n)) (hz : z = 3) (hy : y = ((k : Nat) : Int)) (hw : am_ft t0 k = 0) (hd : decode cc pc = .ok (.getfield idx, len)) (hnx : ∀ L S mm, nx L S mm → am_S p l e R s m args below meth c s0 ad fm cid slo am_cF am_ft Qf n0 s1 (pc + len) L S mm) (hjp : ∀ t L S mm, jp t L S mm → am_S p l e R s m args below meth c s0 ad fm cid slo am_cF am_ft Qf n0 s1 t L S mm) (h : am_istep G ca hs Q nx jp (pc, .getfield idx, len, x, y, z) L S mm) : am_S p l e R s m args below meth c s0 ad fm cid slo am_cF am_ft Qf n0 s1 pc L S mm := by
  subst hl
  subst hz
  subst hy
  rcases S with _ | ⟨v0, S⟩
  · exact False.elim h
  · rcases v0 with v0 | v0 | v0 | v0
    · exact False.elim h
    · exact False.elim h
    · refine am_S_rep (fun H hR => ?_)
      obtain ⟨e1, e2⟩ := hR.st hg hst
      obtain ⟨h0, h3⟩ := h
      subst h0
      exact am_gf hx hb X hown hf2 e1 (Or.inl rfl) ho hk hw hd (hnx _ _ _ h3)
    · exact False.elim h
theorem am_e_getf1  (hx : p.tables.exec = Jvm.exec) (hb : c.code = cc) (hf : am_fmok fm) (hl : len = 3) (X : am_Wd s0 ad fm cid slo s) (hown : s.vm.findClass (am_on o) = some m.cls) (hf2 : am_f2 o idx = some (t0, k)) (ho : am_isO t0 = true) (hk : k < am_cF t0) (hz : z = 1) (hy : y = ((k : Nat) : Int)) (hxt : am_xt x t0 k) (hw : am_ft t0 k = 1) (hd : decode cc pc = .ok (.getfield idx, len)) (hnx : ∀ L S mm, nx L S mm → am_S p l e R s m args below meth c s0 ad fm cid slo am_cF am_ft Qf n0 s1 (pc + len) L S mm) (hjp : ∀ t L S mm, jp t L S mm → am_S p l e R s m args below meth c s0 ad fm cid slo am_cF am_ft Qf n0 s1 t L S mm) (h : am_istep G ca hs Q nx jp (pc, .getfield idx, len, x, y, z) L S mm) : am_S p l e R s m args below meth c s0 ad fm cid slo am_cF am_ft Qf n0 s1 pc L S mm := by
  subst hl
  subst hz
  subst hy
  rcases S with _ | ⟨v0, S⟩
  · exact False.elim h
  · rcases v0 with v0 | v0 | v0 | v0
    · exact False.elim h
    · exact False.elim h
    · exact am_gf hx hb X hown hf2 rfl (am_xt_sh hxt h.1) ho hk hw hd (hnx _ _ _ h.2)
    · exact False.elim h
theorem am_e_getf4  (hx : p.tables.exec = Jvm.exec) (hb : c.code = cc) (hf : am_fmok fm) (hl : len = 3) (X : am_Wd s0 ad fm cid slo s) (hown : s.vm.findClass (am_on o) = some m.cls) (hf2 : am_f2 o idx = some (t0, k)) (ho : am_isO t0 = true) (hk : k < am_cF t0) (hg : am_gd md mm) (hst : am_l3 x (am_sfs md) = some (t0, n)) (hz : z = 4) (hy : y = ((k : Nat) : Int)) (hw : am_ft t0 k = 1) (hd : decode cc pc = .ok (.getfield idx, len)) (hnx : ∀ L S mm, nx L S mm → am_S p l e R s m args below meth c s0 ad fm cid slo am_cF am_ft Qf n0 s1 (pc + len) L S mm) (hjp : ∀ t L S mm, jp t L S mm → am_S p l e R s m args below meth c s0 ad fm cid slo am_cF am_ft Qf n0 s1 t L S mm) (h : am_istep G ca hs Q nx jp (pc, .getfield idx, len, x, y, z) L S mm) : am_S p l e R s m args below meth c s0 ad fm cid slo am_cF am_ft Qf n0 s1 pc L S mm := by
  subst hl
  subst hz
  subst hy
  rcases S with _ | ⟨v0, S⟩
  · exact False.elim h
  · rcases v0 with v0 | v0 | v0 | v0
    · exact False.elim h
    · exact False.elim h
    · refine am_S_rep (fun H hR => ?_)
      obtain ⟨e1, e2⟩ := hR.st hg hst
      obtain ⟨h0, h3⟩ := h
      subst h0
      exact am_gf hx hb X hown hf2 e1 (Or.inl rfl) ho hk hw hd (hnx _ _ _ h3)
    · exact False.elim h
theorem am_e_getf2  (hx : p.tables.exec = Jvm.exec) (hb : c.code = cc) (hf : am_fmok fm) (hl : len = 3) (X : am_Wd s0 ad fm cid slo s) (hown : s.vm.findClass (am_on o) = some m.cls) (hf2 : am_f2 o idx = some (t0, k)) (ho : am_isO t0 = true) (hk : k < am_cF t0) (hz : z = 2) (hy : y = ((k : Nat) : Int)) (hxt : am_xt x t0 k) (hw : am_ft t0 k = 2) (hd : decode cc pc = .ok (.getfield idx, len)) (hnx : ∀ L S mm, nx L S mm → am_S p l e R s m args below meth c s0 ad fm cid slo am_cF am_ft Qf n0 s1 (pc + len) L S mm) (hjp : ∀ t L S mm, jp t L S mm → am_S p l e R s m args below meth c s0 ad fm cid slo am_cF am_ft Qf n0 s1 t L S mm) (h : am_istep G ca hs Q nx jp (pc, .getfield idx, len, x, y, z) L S mm) : am_S p l e R s m args below meth c s0 ad fm cid slo am_cF am_ft Qf n0 s1 pc L S mm := by
  subst hl
  subst hz
  subst hy
  rcases S with _ | ⟨v0, S⟩
  · exact False.elim h
  · rcases v0 with v0 | v0 | v0 | v0
    · exact False.elim h
    · exact False.elim h
    · exact am_gf hx hb X hown hf2 rfl (am_xt_sh hxt h.1) ho hk hw hd (hnx _ _ _ h.2)
    · exact False.elim h
theorem am_e_getf5  (hx : p.tables.exec = Jvm.exec) (hb : c.code = cc) (hf : am_fmok fm) (hl : len = 3) (X : am_Wd s0 ad fm cid slo s) (hown : s.vm.findClass (am_on o) = some m.cls) (hf2 : am_f2 o idx = some (t0, k)) (ho : am_isO t0 = true) (hk : k < am_cF t0) (hg : am_gd md mm) (hst : am_l3 x (am_sfs md) = some (t0, n)) (hz : z = 5) (hy : y = ((k : Nat) : Int)) (hw : am_ft t0 k = 2) (hd : decode cc pc = .ok (.getfield idx, len)) (hnx : ∀ L S mm, nx L S mm → am_S p l e R s m args below meth c s0 ad fm cid slo am_cF am_ft Qf n0 s1 (pc + len) L S mm) (hjp : ∀ t L S mm, jp t L S mm → am_S p l e R s m args below meth c s0 ad fm cid slo am_cF am_ft Qf n0 s1 t L S mm) (h : am_istep G ca hs Q nx jp (pc, .getfield idx, len, x, y, z) L S mm) : am_S p l e R s m args below meth c s0 ad fm cid slo am_cF am_ft Qf n0 s1 pc L S mm := by
  subst hl
  subst hz
  subst hy
  rcases S with _ | ⟨v0, S⟩
  · exact False.elim h
  · rcases v0 with v0 | v0 | v0 | v0
    · exact False.elim h
    · exact False.elim h
    · refine am_S_rep (fun H hR => ?_)
      obtain ⟨e1, e2⟩ := hR.st hg hst
      obtain ⟨h0, h3⟩ := h
      subst h0
      exact am_gf hx hb X hown hf2 e1 (Or.inl rfl) ho hk hw hd (hnx _ _ _ h3)
    · exact False.elim h
theorem am_e_getf6  (hx : p.tables.exec = Jvm.exec) (hb : c.code = cc) (hf : am_fmok fm) (hl : len = 3) (X : am_Wd s0 ad fm cid slo s) (hown : s.vm.findClass (am_on o) = some m.cls) (hf2 : am_f2 o idx = some (t0, k)) (ho : am_isO t0 = true) (hk : k < am_cF t0) (hg : am_gd md mm) (hst : am_l3 x (am_sfs md) = some (t0, n)) (hz : z = 6) (hff : (x, ((k : Nat) : Int), y) ∈ am_ffs md) (hw : am_ft t0 k = 2) (hd : decode cc pc = .ok (.getfield idx, len)) (hnx : ∀ L S mm, nx L S mm → am_S p l e R s m args below meth c s0 ad fm cid slo am_cF am_ft Qf n0 s1 (pc + len) L S mm) (hjp : ∀ t L S mm, jp t L S mm → am_S p l e R s m args below meth c s0 ad fm cid slo am_cF am_ft Qf n0 s1 t L S mm) (h : am_istep G ca hs Q nx jp (pc, .getfield idx, len, x, y, z) L S mm) : am_S p l e R s m args below meth c s0 ad fm cid slo am_cF am_ft Qf n0 s1 pc L S mm := by
  subst hl
  subst hz
  rcases S with _ | ⟨v0, S⟩
  · exact False.elim h
  · rcases v0 with v0 | v0 | v0 | v0
    · exact False.elim h
    · exact False.elim h
    · refine am_S_rep (fun H hR => ?_)
      obtain ⟨e1, e2⟩ := hR.st hg hst
      have e3 : mm x ((k : Nat) : Int) = y := hR.ffs hg _ hff
      obtain ⟨h0, h3⟩ := h
      subst h0
      exact am_gf hx hb X hown hf2 e1 (Or.inl rfl) ho hk hw hd (by rw [e3]; exact hnx _ _ _ h3)
    · exact False.elim h
theorem am_e_putf0  (hx : p.tables.exec = Jvm.exec) (hb : c.code = cc) (hf : am_fmok fm) (hl : len = 3) (X : am_Wd s0 ad fm cid slo s) (hown : s.vm.findClass (am_on o) = some m.cls) (hf2 : am_f2 o idx = some (t0, k)) (ho : am_isO t0 = true) (hk : k < am_cF t0) (hfin : (am_cT t0 k).2.2.2 = false ∨ ((am_cT t0 k).2.2.2 = true ∧ meth.name = "<init>" ∧ (am_cT t0 k).1 = am_on o ∧ (am_lk o idx am_fT).isSome = true)) (hz : z = 0) (hy : y = ((k : Nat) : Int)) (hxt : am_xt x t0 k) (hw : am_ft t0 k = 0) (hq : am_yk (am_cY t0 k) = 0) (hnf : ∀ t, am_ok x t → am_fin t ((k : Nat) : Int) = false) (hd : decode cc pc = .ok (.putfield idx, len)) (hnx : ∀ L S mm, nx L S mm → am_S p l e R s m args below meth c s0 ad fm cid slo am_cF am_ft Qf n0 s1 (pc + len) L S mm) (hjp : ∀ t L S mm, jp t L S mm → am_S p l e R s m args below meth c s0 ad fm cid slo am_cF am_ft Qf n0 s1 t L S mm) (h : am_istep G ca hs Q nx jp (pc, .putfield idx, len, x, y, z) L S mm) : am_S p l e R s m args below meth c s0 ad fm cid slo am_cF am_ft Qf n0 s1 pc L S mm := by
  subst hl
  subst hz
  subst hy
  rcases S with _ | ⟨v0, S⟩
  · exact False.elim h
  · rcases v0 with v0 | v0 | v0 | v0
    · rcases S with _ | ⟨v1, S⟩
      · exact False.elim h
      · rcases v1 with v1 | v1 | v1 | v1
        · exact False.elim h
        · exact False.elim h
        · exact am_S_rep (fun H hR => am_pf hx hb X hown hf2 rfl (am_xt_sh hxt h.1.2) ho hk hw hq (by decide) (fun hq => absurd hq (by decide)) hfin (hR.may h.1.1 (by omega) (hnf _ h.1.2)) hd (hnx _ _ _ h.2))
        · exact False.elim h
    · rcases S with _ | ⟨v1, S⟩
      · exact False.elim h
      · rcases v1 with v1 | v1 | v1 | v1
        · exact False.elim h
        · exact False.elim h
        · exact False.elim h
        · exact False.elim h
    · rcases S with _ | ⟨v1, S⟩
      · exact False.elim h
      · rcases v1 with v1 | v1 | v1 | v1
        · exact False.elim h
        · exact False.elim h
        · exact False.elim h
        · exact False.elim h
    · exact False.elim h
theorem am_e_putf4  (hx : p.tables.exec = Jvm.exec) (hb : c.code = cc) (hf : am_fmok fm) (hl : len = 3) (X : am_Wd s0 ad fm cid slo s) (hown : s.vm.findClass (am_on o) = some m.cls) (hf2 : am_f2 o idx = some (t0, k)) (ho : am_isO t0 = true) (hk : k < am_cF t0) (hfin : (am_cT t0 k).2.2.2 = false ∨ ((am_cT t0 k).2.2.2 = true ∧ meth.name = "<init>" ∧ (am_cT t0 k).1 = am_on o ∧ (am_lk o idx am_fT).isSome = true)) (hg : am_gd md mm) (hst : am_l3 x (am_sfs md) = some (t0, n)) (hx0 : 0 < x) (hz : z = 4) (hy : y = ((k : Nat) : Int)) (hw : am_ft t0 k = 0) (hq : am_yk (am_cY t0 k) = 0) (hnf : am_fin t0 ((k : Nat) : Int) = false) (hd : decode cc pc = .ok (.putfield idx, len)) (hnx : ∀ L S mm, nx L S mm → am_S p l e R s m args below meth c s0 ad fm cid slo am_cF am_ft Qf n0 s1 (pc + len) L S mm) (hjp : ∀ t L S mm, jp t L S mm → am_S p l e R s m args below meth c s0 ad fm cid slo am_cF am_ft Qf n0 s1 t L S mm) (h : am_istep G ca hs Q nx jp (pc, .putfield idx, len, x, y, z) L S mm) : am_S p l e R s m args below meth c s0 ad fm cid slo am_cF am_ft Qf n0 s1 pc L S mm := by
  subst hl
  subst hz
  subst hy
  rcases S with _ | ⟨v0, S⟩
  · exact False.elim h
  · rcases v0 with v0 | v0 | v0 | v0
    · rcases S with _ | ⟨v1, S⟩
      · exact False.elim h
      · rcases v1 with v1 | v1 | v1 | v1
        · exact False.elim h
        · exact False.elim h
        · refine am_S_rep (fun H hR => ?_)
          obtain ⟨e1, e2⟩ := hR.st hg hst
          obtain ⟨h0, h3⟩ := h
          subst h0
          exact am_pf hx hb X hown hf2 e1 (Or.inl rfl) ho hk hw hq (by decide) (fun hq => absurd hq (by decide)) hfin (hR.may hx0 (by omega) (by rw [e1]; exact hnf)) hd (hnx _ _ _ h3)
        · exact False.elim h
    · rcases S with _ | ⟨v1, S⟩
      · exact False.elim h
      · rcases v1 with v1 | v1 | v1 | v1
        · exact False.elim h
        · exact False.elim h
        · exact False.elim h
        · exact False.elim h
    · rcases S with _ | ⟨v1, S⟩
      · exact False.elim h
      · rcases v1 with v1 | v1 | v1 | v1
        · exact False.elim h
        · exact False.elim h
        · exact False.elim h
        · exact False.elim h
    · exact False.elim h
theorem am_e_putf1  (hx : p.tables.exec = Jvm.exec) (hb : c.code = cc) (hf : am_fmok fm) (hl : len = 3) (X : am_Wd s0 ad fm cid slo s) (hown : s.vm.findClass (am_on o) = some m.cls) (hf2 : am_f2 o idx = some (t0, k)) (ho : am_isO t0 = true) (hk : k < am_cF t0) (hfin : (am_cT t0 k).2.2.2 = false ∨ ((am_cT t0 k).2.2.2 = true ∧ meth.name = "<init>" ∧ (am_cT t0 k).1 = am_on o ∧ (am_lk o idx am_fT).isSome = true)) (hz : z = 1) (hy : y = ((k : Nat) : Int)) (hxt : am_xt x t0 k) (hw : am_ft t0 k = 1) (hq : am_yk (am_cY t0 k) = 1) (hnf : ∀ t, am_ok x t → am_fin t ((k : Nat) : Int) = false) (hd : decode cc pc = .ok (.putfield idx, len)) (hnx : ∀ L S mm, nx L S mm → am_S p l e R s m args below meth c s0 ad fm cid slo am_cF am_ft Qf n0 s1 (pc + len) L S mm) (hjp : ∀ t L S mm, jp t L S mm → am_S p l e R s m args below meth c s0 ad fm cid slo am_cF am_ft Qf n0 s1 t L S mm) (h : am_istep G ca hs Q nx jp (pc, .putfield idx, len, x, y, z) L S mm) : am_S p l e R s m args below meth c s0 ad fm cid slo am_cF am_ft Qf n0 s1 pc L S mm := by
  subst hl
  subst hz
  subst hy
  rcases S with _ | ⟨v0, S⟩
  · exact False.elim h
  · rcases v0 with v0 | v0 | v0 | v0
    · rcases S with _ | ⟨v1, S⟩
      · exact False.elim h
      · rcases v1 with v1 | v1 | v1 | v1
        · exact False.elim h
        · exact False.elim h
        · exact False.elim h
        · exact False.elim h
    · rcases S with _ | ⟨v1, S⟩
      · exact False.elim h
      · rcases v1 with v1 | v1 | v1 | v1
        · exact False.elim h
        · exact False.elim h
        · exact am_S_rep (fun H hR => am_pf hx hb X hown hf2 rfl (am_xt_sh hxt h.1.2) ho hk hw hq (by decide) (fun hq => absurd hq (by decide)) hfin (hR.may h.1.1 (by omega) (hnf _ h.1.2)) hd (hnx _ _ _ h.2))
        · exact False.elim h
    · rcases S with _ | ⟨v1, S⟩
      · exact False.elim h
      · rcases v1 with v1 | v1 | v1 | v1
        · exact False.elim h
        · exact False.elim h
        · exact False.elim h
        · exact False.elim h
    · exact False.elim h
theorem am_e_putf5  (hx : p.tables.exec = Jvm.exec) (hb : c.code = cc) (hf : am_fmok fm) (hl : len = 3) (X : am_Wd s0 ad fm cid slo s) (hown : s.vm.findClass (am_on o) = some m.cls) (hf2 : am_f2 o idx = some (t0, k)) (ho : am_isO t0 = true) (hk : k < am_cF t0) (hfin : (am_cT t0 k).2.2.2 = false ∨ ((am_cT t0 k).2.2.2 = true ∧ meth.name = "<init>" ∧ (am_cT t0 k).1 = am_on o ∧ (am_lk o idx am_fT).isSome = true)) (hg : am_gd md mm) (hst : am_l3 x (am_sfs md) = some (t0, n)) (hx0 : 0 < x) (hz : z = 5) (hy : y = ((k : Nat) : Int)) (hw : am_ft t0 k = 1) (hq : am_yk (am_cY t0 k) = 1) (hnf : am_fin t0 ((k : Nat) : Int) = false) (hd : decode cc pc = .ok (.putfield idx, len)) (hnx : ∀ L S mm, nx L S mm → am_S p l e R s m args below meth c s0 ad fm cid slo am_cF am_ft Qf n0 s1 (pc + len) L S mm) (hjp : ∀ t L S mm, jp t L S mm → am_S p l e R s m args below meth c s0 ad fm cid slo am_cF am_ft Qf n0 s1 t L S mm) (h : am_istep G ca hs Q nx jp (pc, .putfield idx, len, x, y, z) L S mm) : am_S p l e R s m args below meth c s0 ad fm cid slo am_cF am_ft Qf n0 s1 pc L S mm := by
  subst hl
  subst hz
  subst hy
  rcases S with _ | ⟨v0, S⟩
  · exact False.elim h
  · rcases v0 with v0 | v0 | v0 | v0
    · rcases S with _ | ⟨v1, S⟩
      · exact False.elim h
      · rcases v1 with v1 | v1 | v1 | v1
        · exact False.elim h
        · exact False.elim h
        · exact False.elim h
        · exact False.elim h
    · rcases S with _ | ⟨v1, S⟩
      · exact False.elim h
      · rcases v1 with v1 | v1 | v1 | v1
        · exact False.elim h
        · exact False.elim h
        · refine am_S_rep (fun H hR => ?_)
          obtain ⟨e1, e2⟩ := hR.st hg hst
          obtain ⟨h0, h3⟩ := h
          subst h0
          exact am_pf hx hb X hown hf2 e1 (Or.inl rfl) ho hk hw hq (by decide) (fun hq => absurd hq (by decide)) hfin (hR.may hx0 (by omega) (by rw [e1]; exact hnf)) hd (hnx _ _ _ h3)
        · exact False.elim h
    · rcases S with _ | ⟨v1, S⟩
      · exact False.elim h
      · rcases v1 with v1 | v1 | v1 | v1
        · exact False.elim h
        · exact False.elim h
        · exact False.elim h
        · exact False.elim h
    · exact False.elim h
theorem am_e_putf2  (hx : p.tables.exec = Jvm.exec) (hb : c.code = cc) (hf : am_fmok fm) (hl : len = 3) (X : am_Wd s0 ad fm cid slo s) (hown : s.vm.findClass (am_on o) = some m.cls) (hf2 : am_f2 o idx = some (t0, k)) (ho : am_isO t0 = true) (hk : k < am_cF t0) (hfin : (am_cT t0 k).2.2.2 = false ∨ ((am_cT t0 k).2.2.2 = true ∧ meth.name = "<init>" ∧ (am_cT t0 k).1 = am_on o ∧ (am_lk o idx am_fT).isSome = true)) (hz : z = 2) (hy : y = ((k : Nat) : Int)) (hxt : am_xt x t0 k) (hw : am_ft t0 k = 2) (hq : am_yk (am_cY t0 k) = 2) (hnf : ∀ t, am_ok x t → am_fin t ((k : Nat) : Int) = false) (hd : decode cc pc = .ok (.putfield idx, len)) (hnx : ∀ L S mm, nx L S mm → am_S p l e R s m args below meth c s0 ad fm cid slo am_cF am_ft Qf n0 s1 (pc + len) L S mm) (hjp : ∀ t L S mm, jp t L S mm → am_S p l e R s m args below meth c s0 ad fm cid slo am_cF am_ft Qf n0 s1 t L S mm) (h : am_istep G ca hs Q nx jp (pc, .putfield idx, len, x, y, z) L S mm) : am_S p l e R s m args below meth c s0 ad fm cid slo am_cF am_ft Qf n0 s1 pc L S mm := by
  subst hl
  subst hz
  subst hy
  rcases S with _ | ⟨v0, S⟩
  · exact False.elim h
  · rcases v0 with v0 | v0 | v0 | v0
    · rcases S with _ | ⟨v1, S⟩
      · exact False.elim h
      · rcases v1 with v1 | v1 | v1 | v1
        · exact False.elim h
        · exact False.elim h
        · exact False.elim h
        · exact False.elim h
    · rcases S with _ | ⟨v1, S⟩
      · exact False.elim h
      · rcases v1 with v1 | v1 | v1 | v1
        · exact False.elim h
        · exact False.elim h
        · exact False.elim h
        · exact False.elim h
    · rcases S with _ | ⟨v1, S⟩
      · exact False.elim h
      · rcases v1 with v1 | v1 | v1 | v1
        · exact False.elim h
        · exact False.elim h
        · exact am_S_rep (fun H hR => am_pf hx hb X hown hf2 rfl (am_xt_sh hxt h.1.2) ho hk hw hq (by decide) (fun hq => absurd hq (by decide)) hfin (hR.may h.1.1 (by omega) (hnf _ h.1.2)) hd (hnx _ _ _ h.2))
        · exact False.elim h
    · exact False.elim h
theorem am_e_putf6  (hx : p.tables.exec = Jvm.exec) (hb : c.code = cc) (hf : am_fmok fm) (hl : len = 3) (X : am_Wd s0 ad fm cid slo s) (hown : s.vm.findClass (am_on o) = some m.cls) (hf2 : am_f2 o idx = some (t0, k)) (ho : am_isO t0 = true) (hk : k < am_cF t0) (hfin : (am_cT t0 k).2.2.2 = false ∨ ((am_cT t0 k).2.2.2 = true ∧ meth.name = "<init>" ∧ (am_cT t0 k).1 = am_on o ∧ (am_lk o idx am_fT).isSome = true)) (hg : am_gd md mm) (hst : am_l3 x (am_sfs md) = some (t0, n)) (hx0 : 0 < x) (hz : z = 6) (hy : y = ((k : Nat) : Int)) (hw : am_ft t0 k = 2) (hq : am_yk (am_cY t0 k) = 2) (hnf : am_fin t0 ((k : Nat) : Int) = false) (hd : decode cc pc = .ok (.putfield idx, len)) (hnx : ∀ L S mm, nx L S mm → am_S p l e R s m args below meth c s0 ad fm cid slo am_cF am_ft Qf n0 s1 (pc + len) L S mm) (hjp : ∀ t L S mm, jp t L S mm → am_S p l e R s m args below meth c s0 ad fm cid slo am_cF am_ft Qf n0 s1 t L S mm) (h : am_istep G ca hs Q nx jp (pc, .putfield idx, len, x, y, z) L S mm) : am_S p l e R s m args below meth c s0 ad fm cid slo am_cF am_ft Qf n0 s1 pc L S mm := by
  subst hl
  subst hz
  subst hy
  rcases S with _ | ⟨v0, S⟩
  · exact False.elim h
  · rcases v0 with v0 | v0 | v0 | v0
    · rcases S with _ | ⟨v1, S⟩
      · exact False.elim h
      · rcases v1 with v1 | v1 | v1 | v1
        · exact False.elim h
        · exact False.elim h
        · exact False.elim h
        · exact False.elim h
    · rcases S with _ | ⟨v1, S⟩
      · exact False.elim h
      · rcases v1 with v1 | v1 | v1 | v1
        · exact False.elim h
        · exact False.elim h
        · exact False.elim h
        · exact False.elim h
    · rcases S with _ | ⟨v1, S⟩
      · exact False.elim h
      · rcases v1 with v1 | v1 | v1 | v1
        · exact False.elim h
        · exact False.elim h
        · refine am_S_rep (fun H hR => ?_)
          obtain ⟨e1, e2⟩ := hR.st hg hst
          obtain ⟨h0, h3⟩ := h
          subst h0
          exact am_pf hx hb X hown hf2 e1 (Or.inl rfl) ho hk hw hq (by decide) (fun hq => absurd hq (by decide)) hfin (hR.may hx0 (by omega) (by rw [e1]; exact hnf)) hd (hnx _ _ _ h3)
        · exact False.elim h
    · exact False.elim h
theorem am_e_putf3  (hx : p.tables.exec = Jvm.exec) (hb : c.code = cc) (hf : am_fmok fm) (hl : len = 3) (X : am_Wd s0 ad fm cid slo s) (hown : s.vm.findClass (am_on o) = some m.cls) (hf2 : am_f2 o idx = some (t0, k)) (ho : am_isO t0 = true) (hk : k < am_cF t0) (hfin : (am_cT t0 k).2.2.2 = false ∨ ((am_cT t0 k).2.2.2 = true ∧ meth.name = "<init>" ∧ (am_cT t0 k).1 = am_on o ∧ (am_lk o idx am_fT).isSome = true)) (hz : z = 3) (hy : y = ((k : Nat) : Int)) (hxt : am_xt x t0 k) (hw : am_ft t0 k = 0) (hq : am_yk (am_cY t0 k) = 3) (hnf : ∀ t, am_ok x t → am_fin t ((k : Nat) : Int) = false) (hd : decode cc pc = .ok (.putfield idx, len)) (hnx : ∀ L S mm, nx L S mm → am_S p l e R s m args below meth c s0 ad fm cid slo am_cF am_ft Qf n0 s1 (pc + len) L S mm) (hjp : ∀ t L S mm, jp t L S mm → am_S p l e R s m args below meth c s0 ad fm cid slo am_cF am_ft Qf n0 s1 t L S mm) (h : am_istep G ca hs Q nx jp (pc, .putfield idx, len, x, y, z) L S mm) : am_S p l e R s m args below meth c s0 ad fm cid slo am_cF am_ft Qf n0 s1 pc L S mm := by
  subst hl
  subst hz
  subst hy
  rcases S with _ | ⟨v0, S⟩
  · exact False.elim h
  · rcases v0 with v0 | v0 | v0 | v0
    · rcases S with _ | ⟨v1, S⟩
      · exact False.elim h
      · rcases v1 with v1 | v1 | v1 | v1
        · exact False.elim h
        · exact False.elim h
        · exact am_S_rep (fun H hR => am_pf hx hb X hown hf2 rfl (am_xt_sh hxt h.1.2.1) ho hk hw hq (by decide) (fun _ => h.1.2.2) hfin (hR.may h.1.1 (by omega) (hnf _ h.1.2.1)) hd (hnx _ _ _ h.2))
        · exact False.elim h
    · rcases S with _ | ⟨v1, S⟩
      · exact False.elim h
      · rcases v1 with v1 | v1 | v1 | v1
        · exact False.elim h
        · exact False.elim h
        · exact False.elim h
        · exact False.elim h
    · rcases S with _ | ⟨v1, S⟩
      · exact False.elim h
      · rcases v1 with v1 | v1 | v1 | v1
        · exact False.elim h
        · exact False.elim h
        · exact False.elim h
        · exact False.elim h
    · exact False.elim h
theorem am_e_putf7  (hx : p.tables.exec = Jvm.exec) (hb : c.code = cc) (hf : am_fmok fm) (hl : len = 3) (X : am_Wd s0 ad fm cid slo s) (hown : s.vm.findClass (am_on o) = some m.cls) (hf2 : am_f2 o idx = some (t0, k)) (ho : am_isO t0 = true) (hk : k < am_cF t0) (hfin : (am_cT t0 k).2.2.2 = false ∨ ((am_cT t0 k).2.2.2 = true ∧ meth.name = "<init>" ∧ (am_cT t0 k).1 = am_on o ∧ (am_lk o idx am_fT).isSome = true)) (hg : am_gd md mm) (hst : am_l3 x (am_sfs md) = some (t0, n)) (hx0 : 0 < x) (hz : z = 7) (hy : y = ((k : Nat) : Int)) (hw : am_ft t0 k = 0) (hq : am_yk (am_cY t0 k) = 3) (hnf : am_fin t0 ((k : Nat) : Int) = false) (hd : decode cc pc = .ok (.putfield idx, len)) (hnx : ∀ L S mm, nx L S mm → am_S p l e R s m args below meth c s0 ad fm cid slo am_cF am_ft Qf n0 s1 (pc + len) L S mm) (hjp : ∀ t L S mm, jp t L S mm → am_S p l e R s m args below meth c s0 ad fm cid slo am_cF am_ft Qf n0 s1 t L S mm) (h : am_istep G ca hs Q nx jp (pc, .putfield idx, len, x, y, z) L S mm) : am_S p l e R s m args below meth c s0 ad fm cid slo am_cF am_ft Qf n0 s1 pc L S mm := by
  subst hl
  subst hz
  subst hy
  rcases S with _ | ⟨v0, S⟩
  · exact False.elim h
  · rcases v0 with v0 | v0 | v0 | v0
    · rcases S with _ | ⟨v1, S⟩
      · exact False.elim h
      · rcases v1 with v1 | v1 | v1 | v1
        · exact False.elim h
        · exact False.elim h
        · refine am_S_rep (fun H hR => ?_)
          obtain ⟨e1, e2⟩ := hR.st hg hst
          obtain ⟨⟨h0, hv⟩, h3⟩ := h
          subst h0
          exact am_pf hx hb X hown hf2 e1 (Or.inl rfl) ho hk hw hq (by decide) (fun _ => hv) hfin (hR.may hx0 (by omega) (by rw [e1]; exact hnf)) hd (hnx _ _ _ h3)
        · exact False.elim h
    · rcases S with _ | ⟨v1, S⟩
      · exact False.elim h
      · rcases v1 with v1 | v1 | v1 | v1
        · exact False.elim h
        · exact False.elim h
        · exact False.elim h
        · exact False.elim h
    · rcases S with _ | ⟨v1, S⟩
      · exact False.elim h
      · rcases v1 with v1 | v1 | v1 | v1
        · exact False.elim h
        · exact False.elim h
        · exact False.elim h
        · exact False.elim h
    · exact False.elim h
theorem am_e_putf8  (hx : p.tables.exec = Jvm.exec) (hb : c.code = cc) (hf : am_fmok fm) (hl : len = 3) (X : am_Wd s0 ad fm cid slo s) (hown : s.vm.findClass (am_on o) = some m.cls) (hf2 : am_f2 o idx = some (t0, k)) (ho : am_isO t0 = true) (hk : k < am_cF t0) (hfin : (am_cT t0 k).2.2.2 = false ∨ ((am_cT t0 k).2.2.2 = true ∧ meth.name = "<init>" ∧ (am_cT t0 k).1 = am_on o ∧ (am_lk o idx am_fT).isSome = true)) (hz : z = 8) (hy : y = ((k : Nat) : Int)) (hxt : x = t0) (h12 : t0 = 1 ∨ t0 = 2) (hw : am_ft t0 k = 2) (hq : am_yk (am_cY t0 k) = 2) (hd : decode cc pc = .ok (.putfield idx, len)) (hnx : ∀ L S mm, nx L S mm → am_S p l e R s m args below meth c s0 ad fm cid slo am_cF am_ft Qf n0 s1 (pc + len) L S mm) (hjp : ∀ t L S mm, jp t L S mm → am_S p l e R s m args below meth c s0 ad fm cid slo am_cF am_ft Qf n0 s1 t L S mm) (h : am_istep G ca hs Q nx jp (pc, .putfield idx, len, x, y, z) L S mm) : am_S p l e R s m args below meth c s0 ad fm cid slo am_cF am_ft Qf n0 s1 pc L S mm := by
  subst hl
  subst hz
  subst hy
  subst hxt
  rcases S with _ | ⟨v0, S⟩
  · exact False.elim h
  · rcases v0 with v0 | v0 | v0 | v0
    · rcases S with _ | ⟨v1, S⟩
      · exact False.elim h
      · rcases v1 with v1 | v1 | v1 | v1
        · exact False.elim h
        · exact False.elim h
        · exact False.elim h
        · exact False.elim h
    · rcases S with _ | ⟨v1, S⟩
      · exact False.elim h
      · rcases v1 with v1 | v1 | v1 | v1
        · exact False.elim h
        · exact False.elim h
        · exact False.elim h
        · exact False.elim h
    · rcases S with _ | ⟨v1, S⟩
      · exact False.elim h
      · rcases v1 with v1 | v1 | v1 | v1
        · exact False.elim h
        · exact False.elim h
        · exact am_S_rep (fun H hR => am_pf hx hb X hown hf2 h.1.2.1 (Or.inl rfl) ho hk hw hq (by decide) (fun hq => absurd hq (by decide)) hfin (hR.may8 h.1.1 (by omega) (by rw [h.1.2.1]; exact h12) h.1.2.2) hd (hnx _ _ _ h.2))
        · exact False.elim h
    · exact False.elim h
theorem am_e_putf9  (hx : p.tables.exec = Jvm.exec) (hb : c.code = cc) (hf : am_fmok fm) (hl : len = 3) (X : am_Wd s0 ad fm cid slo s) (hown : s.vm.findClass (am_on o) = some m.cls) (hf2 : am_f2 o idx = some (t0, k)) (ho : am_isO t0 = true) (hk : k < am_cF t0) (hfin : (am_cT t0 k).2.2.2 = false ∨ ((am_cT t0 k).2.2.2 = true ∧ meth.name = "<init>" ∧ (am_cT t0 k).1 = am_on o ∧ (am_lk o idx am_fT).isSome = true)) (hz : z = 9) (hy : y = ((k : Nat) : Int)) (hxt : x = t0) (h12 : t0 = 9) (hw : am_ft t0 k = 2) (hq : am_yk (am_cY t0 k) = 2) (hd : decode cc pc = .ok (.putfield idx, len)) (hnx : ∀ L S mm, nx L S mm → am_S p l e R s m args below meth c s0 ad fm cid slo am_cF am_ft Qf n0 s1 (pc + len) L S mm) (hjp : ∀ t L S mm, jp t L S mm → am_S p l e R s m args below meth c s0 ad fm cid slo am_cF am_ft Qf n0 s1 t L S mm) (h : am_istep G ca hs Q nx jp (pc, .putfield idx, len, x, y, z) L S mm) : am_S p l e R s m args below meth c s0 ad fm cid slo am_cF am_ft Qf n0 s1 pc L S mm := by
  subst hl
  subst hz
  subst hy
  subst hxt
  rcases S with _ | ⟨v0, S⟩
  · exact False.elim h
  · rcases v0 with v0 | v0 | v0 | v0
    · rcases S with _ | ⟨v1, S⟩
      · exact False.elim h
      · rcases v1 with v1 | v1 | v1 | v1
        · exact False.elim h
        · exact False.elim h
        · exact False.elim h
        · exact False.elim h
    · rcases S with _ | ⟨v1, S⟩
      · exact False.elim h
      · rcases v1 with v1 | v1 | v1 | v1
        · exact False.elim h
        · exact False.elim h
        · exact False.elim h
        · exact False.elim h
    · rcases S with _ | ⟨v1, S⟩
      · exact False.elim h
      · rcases v1 with v1 | v1 | v1 | v1
        · exact False.elim h
        · exact False.elim h
        · exact am_S_rep (fun H hR => am_pf hx hb X hown hf2 h.1.2.1 (Or.inl rfl) ho hk hw hq (by decide) (fun hq => absurd hq (by decide)) hfin (hR.may9 h.1.1 (by omega) (by rw [h.1.2.1]; exact h12) h.1.2.2) hd (hnx _ _ _ h.2))
        · exact False.elim h
    · exact False.elim h
end Exec4
