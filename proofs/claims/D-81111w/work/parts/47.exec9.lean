/-! FROM AN ABSTRACT STEP TO THE MACHINE's: the invoking instructions; by tools/geninv3.py -/
set_option maxRecDepth 100000
/-- the tags that a receiver may have -/
def am_tgs (md : Nat) (y : Int) : List Int := match y with
  | .negSucc n => (match am_l3 ((n : Int) + 1) (am_sfs md) with
    | some (t, _) => [t]
    | none => [])
  | .ofNat k => am_tg k
/-- is the table's own word about the receiver there -/
def am_tgk (md : Nat) (y : Int) : Bool := match y with
  | .negSucc n => (am_l3 ((n : Int) + 1) (am_sfs md)).isSome
  | .ofNat _ => true
theorem am_tgs_ok {s0 : State} {ad : Int → Nat} {fm : Value} {cid : Int → ClassId} {slo : Int → Nat → Nat} {mm : aM} {H : Heap} {md : Nat} (hR : am_Rep s0 ad fm cid slo am_cF am_ft mm H) (hg : am_gd md mm) {y a : Int} (hk : am_tgk md y = true) (h : am_rcv y a mm) : mm a (-1) ∈ am_tgs md y := by
  match y, hk, h with
  | .negSucc n, hk, h =>
    have h : a = (n : Int) + 1 := h
    subst h
    cases hl : am_l3 ((n : Int) + 1) (am_sfs md) with
    | none =>
      have hk : (am_l3 ((n : Int) + 1) (am_sfs md)).isSome = true := hk
      rw [hl] at hk
      cases hk
    | some q =>
      obtain ⟨t, k⟩ := q
      show mm _ (-1) ∈ (match am_l3 ((n : Int) + 1) (am_sfs md) with
        | some (t, _) => [t]
        | none => [])
      rw [hl, (hR.st hg hl).1]
      exact List.mem_cons_self
  | .ofNat k, _, h => exact am_tg_ok (k := k) h
theorem am_rcv_gh {y a : Int} {mm m' : aM} (h : am_rcv y a mm) (e : m' a (-1) = mm a (-1)) : am_rcv y a m' := by
  match y, h with
  | .negSucc n, h => exact h
  | .ofNat k, h =>
    show am_ok k (m' a (-1))
    rw [e]
    exact h
theorem am_oi1 : Jvm.Cond.instanceMethod Lib.objectInit ∈ lw_all := by decide +kernel
theorem am_oi2 : Jvm.Cond.code Lib.objectInit ⟨#[0xb1]⟩ 1 none ∈ lw_all := by decide +kernel
section Exec9
variable {p : Program} {l : Launch} {e : Env} {R : Room} {s : State} {m : MethodId} {args : Array Value} {below : List Frame} {meth : Method} {c : Code} {cc : ByteArray} {s0 : State} {ad : Int → Nat} {fm : Value} {cid : Int → ClassId} {slo : Int → Nat → Nat} {n0 s1 : Int} {pc len : Nat} {x y : Int} {z : Nat} {L S : List aV} {mm : aM} {hs : aH} {Q : aO → aM → Prop} {nx : List aV → List aV → aM → Prop} {jp : Nat → List aV → List aV → aM → Prop} {md o idx d : Nat} {b2 b3 : Prop}
theorem am_e_invokestatic {w : Nat} (hx : p.tables.exec = Jvm.exec) (hb : c.code = cc) (hf : am_fmok fm) (hl : len = 3) (IH : am_IH p l e s0 ad fm cid slo d) (X : am_Wd s0 ad fm cid slo s) (hlocks : meth.locks = false) (hown : s.vm.findClass (am_on o) = some m.cls) (hHR : am_HR s args (am_on o) am_xn cid hs c.exceptionTable.toList) (htr : e.platform.stackTraces = false) (hRf : d + 10 ≤ R.frames) (hRl : 10375 + 75 * d ≤ R.locals) (hRc : (amC - n0).toNat ≤ R.cells) (hRs : (amS - s1).toNat ≤ R.slots) (hml : c.maxLocals = L.length) (hSl : S.length ≤ 24) (hg2 : b2 → mm 0 2 = 1) (hg3 : b3 → mm 0 3 = 1) (hgd : am_gd md mm) (hroom : mm 0 0 ≤ amC ∧ mm 0 1 ≤ amS) (hxw : x = (w : Int)) (hy : w ∈ am_ys) (hzt : w ∈ am_zT) (hlk : (o, idx, w) ∈ am_mT ∨ (o, idx, w) ∈ am_mN) (hnp : am_np w = z % 10) (hmg : am_mg md (z / 10) w = true) (hd : decode cc pc = .ok (.invokestatic idx, len)) (hnx : ∀ L S mm, nx L S mm → am_S p l e R s m args below meth c s0 ad fm cid slo am_cF am_ft (am_Post s0 ad fm cid slo am_cF am_ft s below Q n0 s1 b2 b3) n0 s1 (pc + len) L S mm) (hjp : ∀ t L S mm, jp t L S mm → am_S p l e R s m args below meth c s0 ad fm cid slo am_cF am_ft (am_Post s0 ad fm cid slo am_cF am_ft s below Q n0 s1 b2 b3) n0 s1 t L S mm) (h : am_istep am_G (am_wpc am_G am_T d) hs Q nx jp (pc, .invokestatic idx, len, x, y, z) L S mm) : am_S p l e R s m args below meth c s0 ad fm cid slo am_cF am_ft (am_Post s0 ad fm cid slo am_cF am_ft s below Q n0 s1 b2 b3) n0 s1 pc L S mm := by
  subst hl
  subst hxw
  have h2 : (match am_pop (z % 10) [] S with
    | some (as, r) => am_gh am_G (z / 10) mm (fun m => am_wpc am_G am_T d w as m (am_ret hs Q nx jp pc L r))
    | none => False) := h
  cases hp : am_pop (z % 10) [] S with
  | none => rw [hp] at h2; exact h2.elim
  | some q =>
  obtain ⟨as, r⟩ := q
  rw [hp] at h2
  obtain ⟨q, q1, q2, q3⟩ := am_pop_eq _ _ _ _ _ hp
  rw [List.append_nil] at q3
  subst q2
  subst q3
  obtain ⟨m', hG, hk⟩ := am_gh_out h2
  obtain ⟨a1, a2, a3⟩ := hG.at
  have hrl : r.length ≤ 24 := by rw [List.length_append] at hSl; omega
  refine am_Gh_S hG (am_docall IH X hlocks hown hHR hRf hRl hRc hRs hml (fun w => a2 (hg2 w)) (fun w => a3 (hg3 w)) (by rw [a1 _ _ (by decide), a1 _ _ (by decide)]; exact hroom) hy (am_mg_ok hmg hG hgd) hrl (fun mk methk ck hM H ls hR => ?_) (fun hv v hm => hv v (List.mem_append_left _ (List.mem_reverse.mp hm))) (fun hv v hm => hv v (List.mem_append_right _ hm)) (by rw [hb]; exact hd) hnx hjp hk)
  have hst := am_zT_ok _ hzt
  have hML : am_ML s args (am_on o) idx (am_mn w) := by
    rcases hlk with hl | hl
    · exact Or.inl (X.words args _ (am_mT_ok _ hl))
    · exact Or.inr ⟨_, va_Nw.use rfl (X.nM _ hl)⟩
  have k := am_i_static (e := e) (R := R) (meth := meth) (below := below) (l := l) (H := H) (ls := ls) (rest := r.map (am_c ad fm)) hx hb hown hM.1 hML (X.words args _ hst.1) (X.words args _ hst.2) (am_plain w hy).2.2 (am_len (ad := ad) (fm := fm) (as := q.reverse) hy rfl (by rw [hnp, List.length_reverse, q1])) hd
  rw [show (q ++ r).map (am_c ad fm) = (q.reverse.map (am_c ad fm)).reverse ++ r.map (am_c ad fm) from by rw [List.map_append, List.map_reverse, List.reverse_reverse]]
  exact k
theorem am_e_invokevirtual  (hx : p.tables.exec = Jvm.exec) (hb : c.code = cc) (hf : am_fmok fm) (hl : len = 3) (IH : am_IH p l e s0 ad fm cid slo d) (X : am_Wd s0 ad fm cid slo s) (hlocks : meth.locks = false) (hown : s.vm.findClass (am_on o) = some m.cls) (hHR : am_HR s args (am_on o) am_xn cid hs c.exceptionTable.toList) (htr : e.platform.stackTraces = false) (hRf : d + 10 ≤ R.frames) (hRl : 10375 + 75 * d ≤ R.locals) (hRc : (amC - n0).toNat ≤ R.cells) (hRs : (amS - s1).toNat ≤ R.slots) (hml : c.maxLocals = L.length) (hSl : S.length ≤ 24) (hg2 : b2 → mm 0 2 = 1) (hg3 : b3 → mm 0 3 = 1) (hgd : am_gd md mm) (hroom : mm 0 0 ≤ amC ∧ mm 0 1 ≤ amS) (hkt : am_tgk (am_m2 md (z / 10)) y = true) (hck : ∀ t ∈ am_tgs (am_m2 md (z / 10)) y, am_vo o idx t (am_dsp x.toNat t) = true ∧ am_np (am_dsp x.toNat t) = z % 10 ∧ am_mg md (z / 10) (am_dsp x.toNat t) = true) (hd : decode cc pc = .ok (.invokevirtual idx, len)) (hnx : ∀ L S mm, nx L S mm → am_S p l e R s m args below meth c s0 ad fm cid slo am_cF am_ft (am_Post s0 ad fm cid slo am_cF am_ft s below Q n0 s1 b2 b3) n0 s1 (pc + len) L S mm) (hjp : ∀ t L S mm, jp t L S mm → am_S p l e R s m args below meth c s0 ad fm cid slo am_cF am_ft (am_Post s0 ad fm cid slo am_cF am_ft s below Q n0 s1 b2 b3) n0 s1 t L S mm) (h : am_istep am_G (am_wpc am_G am_T d) hs Q nx jp (pc, .invokevirtual idx, len, x, y, z) L S mm) : am_S p l e R s m args below meth c s0 ad fm cid slo am_cF am_ft (am_Post s0 ad fm cid slo am_cF am_ft s below Q n0 s1 b2 b3) n0 s1 pc L S mm := by
  subst hl
  have h2 : (match am_pop (z % 10) [] S with
    | some (as, .inr (.inr (.inl a)) :: r) => am_rcv y a mm ∧ am_gh am_G (z / 10) mm (fun m => am_wpc am_G am_T d (am_dsp x.toNat (m a (-1))) (aR a :: as) m (am_ret hs Q nx jp pc L r))
    | _ => False) := h
  cases hp : am_pop (z % 10) [] S with
  | none => rw [hp] at h2; exact h2.elim
  | some q =>
  obtain ⟨as, r0⟩ := q
  rw [hp] at h2
  rcases r0 with _ | ⟨v, r⟩
  · exact h2.elim
  rcases v with v | v | a | v
  · exact h2.elim
  · exact h2.elim
  rotate_left
  · exact h2.elim
  obtain ⟨hrc, hgh⟩ := h2
  obtain ⟨q, q1, q2, q3⟩ := am_pop_eq _ _ _ _ _ hp
  rw [List.append_nil] at q3
  subst q2
  subst q3
  obtain ⟨m', hG, hk⟩ := am_gh_out hgh
  obtain ⟨a1, a2, a3⟩ := hG.at
  have hrl : r.length ≤ 24 := by simp only [List.length_append, List.length_cons] at hSl; omega
  refine am_Gh_S hG (am_S_rep (fun H0 hR0 => ?_))
  have hmem := am_tgs_ok hR0 (am_m2_ok hG hgd) hkt (am_rcv_gh hrc (a1 _ _ (by decide)))
  obtain ⟨v1, v2, v3⟩ := hck _ hmem
  have hy : am_dsp x.toNat (m' a (-1)) ∈ am_ys := by
    unfold am_vo at v1
    simp only [Bool.and_eq_true, decide_eq_true_eq] at v1
    exact v1.1.1.1
  refine am_docall IH X hlocks hown hHR hRf hRl hRc hRs hml (fun w => a2 (hg2 w)) (fun w => a3 (hg3 w)) (by rw [a1 _ _ (by decide), a1 _ _ (by decide)]; exact hroom) hy (am_mg_ok v3 hG hgd) hrl (fun mk methk ck hM H ls hR => ?_) (fun hv v hm => ?_) (fun hv v hm => hv v (List.mem_append_right _ (List.mem_cons_of_mem _ hm))) (by rw [hb]; exact hd) hnx hjp hk
  · have k := am_vo_inv (e := e) (R := R) (meth := meth) (below := below) (l := l) (ls := ls) (args := args) (as := q.reverse) (r := r) hx hb X hown hM v1 rfl (by rw [v2, List.length_reverse, q1]) hd hR
    rw [List.reverse_reverse] at k
    exact k
  · rcases List.mem_cons.mp hm with rfl | hm
    · exact hv _ (List.mem_append_right _ List.mem_cons_self)
    · exact hv v (List.mem_append_left _ (List.mem_reverse.mp hm))
theorem am_e_invokespecial {w : Nat} (hx : p.tables.exec = Jvm.exec) (hb : c.code = cc) (hf : am_fmok fm) (hl : len = 3) (IH : am_IH p l e s0 ad fm cid slo d) (X : am_Wd s0 ad fm cid slo s) (hlocks : meth.locks = false) (hown : s.vm.findClass (am_on o) = some m.cls) (hHR : am_HR s args (am_on o) am_xn cid hs c.exceptionTable.toList) (htr : e.platform.stackTraces = false) (hRf : d + 10 ≤ R.frames) (hRl : 10375 + 75 * d ≤ R.locals) (hRc : (amC - n0).toNat ≤ R.cells) (hRs : (amS - s1).toNat ≤ R.slots) (hml : c.maxLocals = L.length) (hSl : S.length ≤ 24) (hg2 : b2 → mm 0 2 = 1) (hg3 : b3 → mm 0 3 = 1) (hgd : am_gd md mm) (hroom : mm 0 0 ≤ amC ∧ mm 0 1 ≤ amS) (hxw : x = (w : Int)) (hy : w ∈ am_ys) (hi : w ∈ am_iT) (hkt : w ∈ am_kT) (hrt : am_rt w = none) (hnm : (am_mn w).name = "<init>") (hlk : (o, idx, w) ∈ am_mT ∨ (o, idx, w) ∈ am_mN) (hnp : am_np w = z) (hmg : am_mg md 0 w = true) (hd : decode cc pc = .ok (.invokespecial idx, len)) (hnx : ∀ L S mm, nx L S mm → am_S p l e R s m args below meth c s0 ad fm cid slo am_cF am_ft (am_Post s0 ad fm cid slo am_cF am_ft s below Q n0 s1 b2 b3) n0 s1 (pc + len) L S mm) (hjp : ∀ t L S mm, jp t L S mm → am_S p l e R s m args below meth c s0 ad fm cid slo am_cF am_ft (am_Post s0 ad fm cid slo am_cF am_ft s below Q n0 s1 b2 b3) n0 s1 t L S mm) (h : am_istep am_G (am_wpc am_G am_T d) hs Q nx jp (pc, .invokespecial idx, len, x, y, z) L S mm) : am_S p l e R s m args below meth c s0 ad fm cid slo am_cF am_ft (am_Post s0 ad fm cid slo am_cF am_ft s below Q n0 s1 b2 b3) n0 s1 pc L S mm := by
  subst hl
  subst hxw
  have h2 : (match am_pop z [] S with
    | some (as, .inr (.inr (.inl a)) :: r) => (0 < a) ∧ am_wpc am_G am_T d w (aR a :: as) mm (am_ret hs Q nx jp pc L r)
    | _ => False) := h
  cases hp : am_pop z [] S with
  | none => rw [hp] at h2; exact h2.elim
  | some q =>
  obtain ⟨as, r0⟩ := q
  rw [hp] at h2
  rcases r0 with _ | ⟨v, r⟩
  · exact h2.elim
  rcases v with v | v | a | v
  · exact h2.elim
  · exact h2.elim
  rotate_left
  · exact h2.elim
  obtain ⟨ha, hk⟩ := h2
  obtain ⟨q, q1, q2, q3⟩ := am_pop_eq _ _ _ _ _ hp
  rw [List.append_nil] at q3
  subst q2
  subst q3
  have hG : am_Gh 0 mm mm := Or.inr (Or.inr ⟨rfl, Or.inl rfl⟩)
  have hrl : r.length ≤ 24 := by simp only [List.length_append, List.length_cons] at hSl; omega
  have hrv : am_rv ad fm a = .ref (ad a) := by unfold am_rv; rw [if_neg (by omega), if_neg (by omega)]
  refine am_docall IH X hlocks hown hHR hRf hRl hRc hRs hml hg2 hg3 hroom hy (am_mg_ok hmg hG hgd) hrl (fun mk methk ck hM H ls hR => ?_) (fun hv v hm => ?_) (fun hv v hm => hv v (List.mem_append_right _ (List.mem_cons_of_mem _ hm))) (by rw [hb]; exact hd) hnx hjp hk
  · have hML : am_ML s args (am_on o) idx (am_mn w) := by
      rcases hlk with hl | hl
      · exact Or.inl (X.words args _ (am_mT_ok _ hl))
      · exact Or.inr ⟨_, va_Nw.use rfl (X.nM _ hl)⟩
    have hcw := am_kT_ok w hkt
    have hM1 := hM.1
    rw [hrt] at hcw hM1
    have k := am_i_special (e := e) (R := R) (meth := meth) (below := below) (l := l) (H := H) (ls := ls) (rest := r.map (am_c ad fm)) (b := ad a) hx hb hown hM1 hML hnm (X.words args _ (am_iT_ok _ hi)) (X.words args _ hcw) (am_plain w hy).2.2 (am_len (ad := ad) (fm := fm) (as := q.reverse) hy rfl (by rw [hnp, List.length_reverse, q1])) hd
    have e1 := am_stk (ad := ad) (fm := fm) q.reverse r a hrv
    rw [List.reverse_reverse] at e1
    rw [e1, List.map_cons, show am_c ad fm (aR a) = am_rv ad fm a from rfl, hrv]
    exact k
  · rcases List.mem_cons.mp hm with rfl | hm
    · exact hv _ (List.mem_append_right _ List.mem_cons_self)
    · exact hv v (List.mem_append_left _ (List.mem_reverse.mp hm))
/-- the interface's call on an object -/
theorem am_face_ok {count : Nat} {a : Int} {r : List aV} (hx : p.tables.exec = Jvm.exec) (hb : c.code = cc) (IH : am_IH p l e s0 ad fm cid slo d) (X : am_Wd s0 ad fm cid slo s) (hlocks : meth.locks = false) (hown : s.vm.findClass (am_on o) = some m.cls) (hHR : am_HR s args (am_on o) am_xn cid hs c.exceptionTable.toList) (htr : e.platform.stackTraces = false) (hRf : d + 10 ≤ R.frames) (hRl : 10375 + 75 * d ≤ R.locals) (hRc : (amC - n0).toNat ≤ R.cells) (hRs : (amS - s1).toNat ≤ R.slots) (hml : c.maxLocals = L.length) (hSl : S.length ≤ 24) (hg2 : b2 → mm 0 2 = 1) (hg3 : b3 → mm 0 3 = 1) (hgd : am_gd md mm) (hroom : mm 0 0 ≤ amC ∧ mm 0 1 ≤ amS) (hkt : am_tgk md y = true) (hck : ∀ t ∈ am_tgs md y, am_fo o idx t (am_dsp x.toNat t) = true ∧ am_np (am_dsp x.toNat t) = 0 ∧ am_mg md 0 (am_dsp x.toNat t) = true) (hd : decode cc pc = .ok (.invokeinterface idx count, 5)) (hnx : ∀ L S mm, nx L S mm → am_S p l e R s m args below meth c s0 ad fm cid slo am_cF am_ft (am_Post s0 ad fm cid slo am_cF am_ft s below Q n0 s1 b2 b3) n0 s1 (pc + 5) L S mm) (hjp : ∀ t L S mm, jp t L S mm → am_S p l e R s m args below meth c s0 ad fm cid slo am_cF am_ft (am_Post s0 ad fm cid slo am_cF am_ft s below Q n0 s1 b2 b3) n0 s1 t L S mm) (hS : S = aR a :: r) (hrc : am_rcv y a mm) (hk : am_wpc am_G am_T d (am_dsp x.toNat (mm a (-1))) [aR a] mm (am_ret hs Q nx jp pc L r)) : am_S p l e R s m args below meth c s0 ad fm cid slo am_cF am_ft (am_Post s0 ad fm cid slo am_cF am_ft s below Q n0 s1 b2 b3) n0 s1 pc L S mm := by
  subst hS
  have hG : am_Gh 0 mm mm := Or.inr (Or.inr ⟨rfl, Or.inl rfl⟩)
  have hrl : r.length ≤ 24 := by simp only [List.length_cons] at hSl; omega
  refine am_S_rep (fun H0 hR0 => ?_)
  have hmem := am_tgs_ok hR0 hgd hkt hrc
  obtain ⟨v1, v2, v3⟩ := hck _ hmem
  have hy : am_dsp x.toNat (mm a (-1)) ∈ am_ys := by
    unfold am_fo at v1
    simp only [Bool.and_eq_true, decide_eq_true_eq] at v1
    exact v1.1.1.1
  refine am_docall IH X hlocks hown hHR hRf hRl hRc hRs hml hg2 hg3 hroom hy (am_mg_ok v3 hG hgd) hrl (fun mk methk ck hM H ls hR => ?_) (fun hv v hm => ?_) (fun hv v hm => hv v (List.mem_cons_of_mem _ hm)) (by rw [hb]; exact hd) hnx hjp hk
  · exact am_fo_inv (e := e) (R := R) (meth := meth) (below := below) (l := l) (ls := ls) (args := args) (r := r) hx hb X hown hM v1 rfl v2 hd hR
  · rcases List.mem_cons.mp hm with rfl | hm
    · exact hv _ List.mem_cons_self
    · exact absurd hm List.not_mem_nil
theorem am_e_face0 {count : Nat} (hx : p.tables.exec = Jvm.exec) (hb : c.code = cc) (hf : am_fmok fm) (hl : len = 5) (IH : am_IH p l e s0 ad fm cid slo d) (X : am_Wd s0 ad fm cid slo s) (hlocks : meth.locks = false) (hown : s.vm.findClass (am_on o) = some m.cls) (hHR : am_HR s args (am_on o) am_xn cid hs c.exceptionTable.toList) (htr : e.platform.stackTraces = false) (hRf : d + 10 ≤ R.frames) (hRl : 10375 + 75 * d ≤ R.locals) (hRc : (amC - n0).toNat ≤ R.cells) (hRs : (amS - s1).toNat ≤ R.slots) (hml : c.maxLocals = L.length) (hSl : S.length ≤ 24) (hg2 : b2 → mm 0 2 = 1) (hg3 : b3 → mm 0 3 = 1) (hgd : am_gd md mm) (hroom : mm 0 0 ≤ amC ∧ mm 0 1 ≤ amS) (hz : z = 0) (hkt : am_tgk md y = true) (hck : ∀ t ∈ am_tgs md y, am_fo o idx t (am_dsp x.toNat t) = true ∧ am_np (am_dsp x.toNat t) = 0 ∧ am_mg md 0 (am_dsp x.toNat t) = true) (hd : decode cc pc = .ok (.invokeinterface idx count, len)) (hnx : ∀ L S mm, nx L S mm → am_S p l e R s m args below meth c s0 ad fm cid slo am_cF am_ft (am_Post s0 ad fm cid slo am_cF am_ft s below Q n0 s1 b2 b3) n0 s1 (pc + len) L S mm) (hjp : ∀ t L S mm, jp t L S mm → am_S p l e R s m args below meth c s0 ad fm cid slo am_cF am_ft (am_Post s0 ad fm cid slo am_cF am_ft s below Q n0 s1 b2 b3) n0 s1 t L S mm) (h : am_istep am_G (am_wpc am_G am_T d) hs Q nx jp (pc, .invokeinterface idx count, len, x, y, z) L S mm) : am_S p l e R s m args below meth c s0 ad fm cid slo am_cF am_ft (am_Post s0 ad fm cid slo am_cF am_ft s below Q n0 s1 b2 b3) n0 s1 pc L S mm := by
  subst hl
  subst hz
  rcases S with _ | ⟨v, r⟩
  · exact False.elim h
  rcases v with v | v | a | v
  · exact False.elim h
  · exact False.elim h
  · exact am_face_ok hx hb IH X hlocks hown hHR htr hRf hRl hRc hRs hml hSl hg2 hg3 hgd hroom hkt hck hd hnx hjp rfl h.1 h.2
  · exact False.elim h
theorem am_e_face1 {count : Nat} (hx : p.tables.exec = Jvm.exec) (hb : c.code = cc) (hf : am_fmok fm) (hl : len = 5) (IH : am_IH p l e s0 ad fm cid slo d) (X : am_Wd s0 ad fm cid slo s) (hlocks : meth.locks = false) (hown : s.vm.findClass (am_on o) = some m.cls) (hHR : am_HR s args (am_on o) am_xn cid hs c.exceptionTable.toList) (htr : e.platform.stackTraces = false) (hRf : d + 10 ≤ R.frames) (hRl : 10375 + 75 * d ≤ R.locals) (hRc : (amC - n0).toNat ≤ R.cells) (hRs : (amS - s1).toNat ≤ R.slots) (hml : c.maxLocals = L.length) (hSl : S.length ≤ 24) (hg2 : b2 → mm 0 2 = 1) (hg3 : b3 → mm 0 3 = 1) (hgd : am_gd md mm) (hroom : mm 0 0 ≤ amC ∧ mm 0 1 ≤ amS) (hz : z = 1) (hkt : am_tgk md y = true) (hck : ∀ t ∈ am_tgs md y, am_fo o idx t (am_dsp x.toNat t) = true ∧ am_np (am_dsp x.toNat t) = 0 ∧ am_mg md 0 (am_dsp x.toNat t) = true) (hlw : Jvm.Cond.methodLink (am_on o) idx am_tin ∈ lw_all) (hd : decode cc pc = .ok (.invokeinterface idx count, len)) (hnx : ∀ L S mm, nx L S mm → am_S p l e R s m args below meth c s0 ad fm cid slo am_cF am_ft (am_Post s0 ad fm cid slo am_cF am_ft s below Q n0 s1 b2 b3) n0 s1 (pc + len) L S mm) (hjp : ∀ t L S mm, jp t L S mm → am_S p l e R s m args below meth c s0 ad fm cid slo am_cF am_ft (am_Post s0 ad fm cid slo am_cF am_ft s below Q n0 s1 b2 b3) n0 s1 t L S mm) (h : am_istep am_G (am_wpc am_G am_T d) hs Q nx jp (pc, .invokeinterface idx count, len, x, y, z) L S mm) : am_S p l e R s m args below meth c s0 ad fm cid slo am_cF am_ft (am_Post s0 ad fm cid slo am_cF am_ft s below Q n0 s1 b2 b3) n0 s1 pc L S mm := by
  subst hl
  subst hz
  rcases S with _ | ⟨v, r⟩
  · exact False.elim h
  rcases v with v | v | a | v
  · exact False.elim h
  · exact False.elim h
  · by_cases e0 : a = 0
    · subst e0
      refine am_s_npe (r := r) hx X hlocks hown hHR htr (by omega) (by omega) hRc hRs hml hSl hg2 hg3 hjp (by simp only [List.length_cons] at hSl; omega) (fun H locs ls T hR hT Y => ?_) (h.2 rfl)
      obtain ⟨hdecl, hface, -, -, -⟩ := X.faces (5, am_tin, 6) (by decide +kernel)
      obtain ⟨r0, r1, hn, hrm, hstR, hsigR⟩ := Cond.declares_spec hdecl
      obtain ⟨cL, kL, r2, hcL, hkL, hiL, hfoundL, hn1⟩ := Cond.interfaceMethod_spec hface
      cases hn.symm.trans hn1
      have hr0cls : r0.cls = cL := Option.some.inj ((findClass_of_methodNamed hn).symm.trans hcL)
      have hnp0 : ∀ sig, parseMethodDescriptor am_tin.desc = some sig → sig.parameters.length = 0 := by
        intro sig hs
        have q : (parseMethodDescriptor am_tin.desc).map (fun d => d.parameters.length) = some 0 := by decide +kernel
        rw [hs] at q
        exact Option.some.inj q
      obtain ⟨vm', Y', st⟩ := Y.invokeinterfaceNull hx (count := count) hown (X.words args _ hlw) hn hrm hstR (by rw [hr0cls]; exact hkL) hiL (by decide) (g := F0 m pc ls ((aR 0 :: r).map (am_c ad fm))) rfl (argsL := []) (rest := r.map (am_c ad fm)) (by rw [hnp0 _ hsigR]; rfl) (by rw [List.map_cons, show am_c ad fm (aR 0) = am_rv ad fm 0 from rfl, am_rv0]; rfl) (by rw [hb]; exact hd)
      exact ⟨vm', Y', st⟩
    · obtain ⟨h1, h2⟩ := h.1 e0
      exact am_face_ok hx hb IH X hlocks hown hHR htr hRf hRl hRc hRs hml hSl hg2 hg3 hgd hroom hkt hck hd hnx hjp rfl h1 h2
  · exact False.elim h
theorem am_e_objinit  (hx : p.tables.exec = Jvm.exec) (hb : c.code = cc) (hf : am_fmok fm) (hl : len = 3) (IH : am_IH p l e s0 ad fm cid slo d) (X : am_Wd s0 ad fm cid slo s) (hlocks : meth.locks = false) (hown : s.vm.findClass (am_on o) = some m.cls) (hHR : am_HR s args (am_on o) am_xn cid hs c.exceptionTable.toList) (htr : e.platform.stackTraces = false) (hRf : d + 10 ≤ R.frames) (hRl : 10375 + 75 * d ≤ R.locals) (hRc : (amC - n0).toNat ≤ R.cells) (hRs : (amS - s1).toNat ≤ R.slots) (hml : c.maxLocals = L.length) (hSl : S.length ≤ 24) (hg2 : b2 → mm 0 2 = 1) (hg3 : b3 → mm 0 3 = 1) (hgd : am_gd md mm) (hroom : mm 0 0 ≤ amC ∧ mm 0 1 ≤ amS) (hxw : x = -1) (hlw : Jvm.Cond.methodLink (am_on o) idx Lib.objectInit ∈ lw_all) (hd : decode cc pc = .ok (.invokespecial idx, len)) (hnx : ∀ L S mm, nx L S mm → am_S p l e R s m args below meth c s0 ad fm cid slo am_cF am_ft (am_Post s0 ad fm cid slo am_cF am_ft s below Q n0 s1 b2 b3) n0 s1 (pc + len) L S mm) (hjp : ∀ t L S mm, jp t L S mm → am_S p l e R s m args below meth c s0 ad fm cid slo am_cF am_ft (am_Post s0 ad fm cid slo am_cF am_ft s below Q n0 s1 b2 b3) n0 s1 t L S mm) (h : am_istep am_G (am_wpc am_G am_T d) hs Q nx jp (pc, .invokespecial idx, len, x, y, z) L S mm) : am_S p l e R s m args below meth c s0 ad fm cid slo am_cF am_ft (am_Post s0 ad fm cid slo am_cF am_ft s below Q n0 s1 b2 b3) n0 s1 pc L S mm := by
  subst hl
  subst hxw
  rcases S with _ | ⟨v, r⟩
  · exact False.elim h
  rcases v with v | v | a | v
  · exact False.elim h
  · exact False.elim h
  · have hcat := am_cats (ad := ad) (fm := fm) r
    exact am_s_objInit hx hb hown hml (X.words args _ hlw) (X.words args _ am_oi1) (X.words args _ am_oi2) (by omega) (by simp only [List.length_cons] at hSl; omega) h.1 hd (hnx _ _ _ h.2)
  · exact False.elim h
end Exec9
