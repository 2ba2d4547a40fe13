/-! needs: 51z 50.disp -/
/-! SOUNDNESS: a method that goes well on the abstract machine goes well on the machine -/
section Entry
variable {ad : Int → Nat} {fm : Value}
theorem am_at_rep : ∀ (n i : Nat), am_at (List.replicate n aU) i = aU := by
  intro n
  induction n with
  | zero => intro i; rfl
  | succ n ih =>
    intro i
    match i with
    | 0 => rfl
    | i + 1 => exact ih i
theorem am_ent_len : ∀ (as : List aV) (n : Nat), am_wd as ≤ n → (am_ent n as).length = n := by
  intro as
  induction as with
  | nil => intro n _; simp [am_ent]
  | cons v r ih =>
    intro n h
    rcases v with v | v | v | v
    · obtain ⟨k, rfl⟩ : ∃ k, n = k + 1 := ⟨n - 1, by simp only [am_wd] at h; omega⟩
      simp only [am_wd] at h
      simp only [am_ent, List.length_cons, ih k (by omega)]
    · obtain ⟨k, rfl⟩ : ∃ k, n = k + 2 := ⟨n - 2, by simp only [am_wd] at h; omega⟩
      simp only [am_wd] at h
      simp only [am_ent, List.length_cons, ih k (by omega)]
    · obtain ⟨k, rfl⟩ : ∃ k, n = k + 1 := ⟨n - 1, by simp only [am_wd] at h; omega⟩
      simp only [am_wd] at h
      simp only [am_ent, List.length_cons, ih k (by omega)]
    · obtain ⟨k, rfl⟩ : ∃ k, n = k + 1 := ⟨n - 1, by simp only [am_wd] at h; omega⟩
      simp only [am_wd] at h
      simp only [am_ent, List.length_cons, ih k (by omega)]
theorem am_catI (x : Int) : ¬ (am_c ad fm (.inl x)).category = 2 := by
  show ¬ (1 : Nat) = 2
  decide
theorem am_sl_len (hf : am_fmok fm) : ∀ (as : List aV), (lg_sl (as.map (am_c ad fm))).length = am_wd as := by
  intro as
  induction as with
  | nil => rfl
  | cons v r ih =>
    rcases v with v | v | v | v
    · have e : lg_sl ((Sum.inl v :: r).map (am_c ad fm)) = .val (am_c ad fm (.inl v)) :: lg_sl (r.map (am_c ad fm)) := rfl
      rw [e, List.length_cons, ih]
      rfl
    · have e : lg_sl ((Sum.inr (Sum.inl v) :: r).map (am_c ad fm)) = .val (am_c ad fm (.inr (.inl v))) :: .second :: lg_sl (r.map (am_c ad fm)) := rfl
      rw [e, List.length_cons, List.length_cons, ih]
      rfl
    · have hc : ¬ (am_rv ad fm v).category = 2 := by rw [am_cat1 hf]; decide
      have e : lg_sl ((Sum.inr (Sum.inr (Sum.inl v)) :: r).map (am_c ad fm)) = .val (am_rv ad fm v) :: lg_sl (r.map (am_c ad fm)) := by
        show (if (am_rv ad fm v).category = 2 then [Slot.val (am_rv ad fm v), .second] else [.val (am_rv ad fm v)]) ++ lg_sl (r.map (am_c ad fm)) = _
        rw [if_neg hc]
        rfl
      rw [e, List.length_cons, ih]
      rfl
    · have e : lg_sl ((Sum.inr (Sum.inr (Sum.inr v)) :: r).map (am_c ad fm)) = .val .null :: lg_sl (r.map (am_c ad fm)) := rfl
      rw [e, List.length_cons, ih]
      rfl
theorem am_ent_at (hf : am_fmok fm) : ∀ (as : List aV) (n off : Nat), am_wd as ≤ n → ∀ i, am_at (am_ent n as) i ≠ aU → (off + i, am_c ad fm (am_at (am_ent n as) i)) ∈ lv_args off (as.map (am_c ad fm)) ∧ am_at (am_ent n as) i ∈ as := by
  intro as
  induction as with
  | nil =>
    intro n off _ i h
    simp only [am_ent] at h
    exact absurd (am_at_rep n i) h
  | cons v r ih =>
    intro n off hn i h
    have one : ∀ (v : aV), (am_c ad fm v).category ≠ 2 → (∀ k, am_ent (k + 1) (v :: r) = v :: am_ent k r) → am_wd (v :: r) = am_wd r + 1 → am_wd (v :: r) ≤ n → am_at (am_ent n (v :: r)) i ≠ aU → (off + i, am_c ad fm (am_at (am_ent n (v :: r)) i)) ∈ lv_args off ((v :: r).map (am_c ad fm)) ∧ am_at (am_ent n (v :: r)) i ∈ v :: r := by
      intro v hc he hw hn h
      obtain ⟨k, rfl⟩ : ∃ k, n = k + 1 := ⟨n - 1, by omega⟩
      rw [he k] at h ⊢
      rw [List.map_cons, lv_args, if_neg hc]
      match i, h with
      | 0, _ => exact ⟨List.mem_cons_self, List.mem_cons_self⟩
      | j + 1, h =>
        obtain ⟨q1, q2⟩ := ih k (off + 1) (by omega) j h
        refine ⟨List.mem_cons_of_mem _ ?_, List.mem_cons_of_mem _ q2⟩
        rw [show off + (j + 1) = off + 1 + j by omega]
        exact q1
    rcases v with v | v | v | v
    · exact one (.inl v) (am_catI v) (fun k => rfl) rfl hn h
    · have hw : am_wd (Sum.inr (Sum.inl v) :: r) = am_wd r + 2 := rfl
      obtain ⟨k, rfl⟩ : ∃ k, n = k + 2 := ⟨n - 2, by omega⟩
      have he : am_ent (k + 2) (Sum.inr (Sum.inl v) :: r) = .inr (.inl v) :: aU :: am_ent k r := rfl
      rw [he] at h ⊢
      have hc : (am_c ad fm (.inr (.inl v))).category = 2 := rfl
      rw [List.map_cons, lv_args, if_pos hc]
      match i, h with
      | 0, _ => exact ⟨List.mem_cons_self, List.mem_cons_self⟩
      | 1, h => exact absurd rfl h
      | j + 2, h =>
        obtain ⟨q1, q2⟩ := ih k (off + 2) (by omega) j h
        refine ⟨List.mem_cons_of_mem _ ?_, List.mem_cons_of_mem _ q2⟩
        rw [show off + (j + 2) = off + 2 + j by omega]
        exact q1
    · exact one (.inr (.inr (.inl v))) (by show ¬ (am_rv ad fm v).category = 2; rw [am_cat1 hf]; decide) (fun k => rfl) rfl hn h
    · exact one (.inr (.inr (.inr v))) (by show ¬ (Value.null).category = 2; decide) (fun k => rfl) rfl hn h
theorem am_entry (hf : am_fmok fm) {as : List aV} {n : Nat} (hn : am_wd as ≤ n) (hv : ∀ v ∈ as, am_vok v) (mk : MethodId) : ∃ ls, entryFrame mk (as.map (am_c ad fm)).toArray n = F0 mk 0 ls [] ∧ am_Lok ad fm (am_ent n as) ls := by
  have hl : (lg_sl (as.map (am_c ad fm))).length ≤ n := by rw [am_sl_len hf]; exact hn
  obtain ⟨h1, h2, h3⟩ := lv_entry (as.map (am_c ad fm)) hl
  refine ⟨_, lg_entry_eq mk _ n, h1.trans (am_ent_len as n hn).symm, h2, fun i hi => ?_⟩
  obtain ⟨q1, q2⟩ := am_ent_at (ad := ad) hf as n 0 hn i hi
  rw [Nat.zero_add] at q1
  exact ⟨h3 _ q1, hv _ q2⟩
end Entry
set_option maxRecDepth 100000
theorem am_posL : ∀ y, y < 336 → (am_T y).2.2.all am_pos = true := by decide +kernel
theorem am_Tbig {y : Nat} (h : 335 ≤ y) : am_T y = am_T 335 := by
  have key : ∀ k, k < 335 → Nat.ble y k = false := fun k hk => by
    cases hb : Nat.ble y k with
    | false => rfl
    | true => have := Nat.le_of_ble_eq_true hb; omega
  unfold am_T
  simp (discharger := decide) only [key, cond_false]
  rfl
theorem am_posT (y : Nat) : ∀ e ∈ (am_T y).2.2, am_pos e = true := by
  intro e he
  by_cases h : y < 336
  · exact List.all_eq_true.mp (am_posL y h) e he
  · rw [am_Tbig (by omega)] at he
    exact List.all_eq_true.mp (am_posL 335 (by decide)) e he
theorem am_k0 (d : Nat) : am_ck0 (am_wpc am_G am_T d) := am_wpc_kp am_posT d
section Sound
variable {p : Program} {l : Launch} {e : Env} {s0 : State} {ad : Int → Nat} {fm : Value} {cid : Int → ClassId} {slo : Int → Nat → Nat}
/-- one method at depth d + 1 -/
theorem am_body (hx : p.tables.exec = Jvm.exec) (htr : e.platform.stackTraces = false) {d : Nat} (IH : am_IH p l e s0 ad fm cid slo d) {s : State} {m : MethodId} {args : Array Value} {below : List Frame} {meth : Method} {c : Code} {cc : ByteArray} {R : Room} {n0 s1 : Int} {o md : Nat} {rt : Option FieldType} {nm : Bool} {hs : aH} {code : List aE} {Q : aO → aM → Prop} {b2 b3 : Prop} {nl : Nat}
    (X : am_Wd s0 ad fm cid slo s) (hb : c.code = cc) (hlocks : meth.locks = false) (hown : s.vm.findClass (am_on o) = some m.cls) (hHR : am_HR s args (am_on o) am_xn cid hs c.exceptionTable.toList) (hRf : d + 10 ≤ R.frames) (hRl : 10375 + 75 * d ≤ R.locals) (hRc : (amC - n0).toNat ≤ R.cells) (hRs : (amS - s1).toNat ≤ R.slots) (hml : c.maxLocals = nl) (hrt : meth.sig.returnType = rt) (hnm : nm = true → meth.name = "<init>")
    (hck : code.all (fun e => am_ck o md rt nm hs e) = true) (hdc : ∀ e ∈ code, decode cc e.1 = .ok (e.2.1, e.2.2.1)) (hps : ∀ e ∈ code, am_pos e = true) {pc : Nat} {L S : List aV} {mm : aM}
    (h : am_WP am_G (am_wpc am_G am_T d) hs code Q pc L S mm) :
    0 ≤ mm 0 0 → am_gd md mm → (b2 → mm 0 2 = 1) → (b3 → mm 0 3 = 1) → (mm 0 0 ≤ amC ∧ mm 0 1 ≤ amS) → L.length = nl → am_S p l e R s m args below meth c s0 ad fm cid slo am_cF am_ft (am_Post s0 ad fm cid slo am_cF am_ft s below Q n0 s1 b2 b3) n0 s1 pc L S mm := by
  refine h (fun pc L S mm => 0 ≤ mm 0 0 → am_gd md mm → (b2 → mm 0 2 = 1) → (b3 → mm 0 3 = 1) → (mm 0 0 ≤ amC ∧ mm 0 1 ≤ amS) → L.length = nl → am_S p l e R s m args below meth c s0 ad fm cid slo am_cF am_ft (am_Post s0 ad fm cid slo am_cF am_ft s below Q n0 s1 b2 b3) n0 s1 pc L S mm) ?_
  intro pc L S mm hr h0 hgd hg2 hg3 hroom hlen
  unfold am_run at hr
  cases hsk : am_seek pc code with
  | nil => rw [hsk] at hr; exact hr.elim
  | cons el tl =>
    rw [hsk] at hr
    cases hbl : Nat.ble S.length 24 with
    | false => simp only [hbl, cond_false] at hr
    | true =>
      simp only [hbl, cond_true] at hr
      have hel : el ∈ code := by
        obtain ⟨pre, hpre⟩ := am_seek_is pc code
        rw [hsk] at hpre
        rw [hpre]
        exact List.mem_append_right _ List.mem_cons_self
      have hpc := am_seek_pc hsk
      have h1 := am_istep_len (am_wpc_cm am_G am_T d) (am_istep_mono (am_wpc_cm am_G am_T d) (fun _ _ q => q.1) (fun _ _ _ q => q) (fun _ _ _ _ q => q) (am_istep_kp (am_wpc_cm am_G am_T d) (am_k0 d) (hps el hel) hr))
      have hck1 := List.all_eq_true.mp hck el hel
      have hd := hdc el hel
      obtain ⟨pc', i, len, x, y, z⟩ := el
      simp only at hpc hd h1
      subst hpc
      have kpn : ∀ {L' : List aV} {mm' : aM}, am_kp mm mm' → L'.length = L.length → (0 ≤ mm' 0 0 ∧ am_gd md mm' ∧ (b2 → mm' 0 2 = 1) ∧ (b3 → mm' 0 3 = 1) ∧ (mm' 0 0 ≤ amC ∧ mm' 0 1 ≤ amS) ∧ L'.length = nl) := by
        intro L' mm' kp hl
        obtain ⟨k0, k2, k3, k4⟩ := kp h0
        exact ⟨k0, ⟨fun w => k2 (hgd.1 w), fun w => k3 (hgd.2 w)⟩, fun w => k2 (hg2 w), fun w => k3 (hg3 w), k4 hroom, hl.trans hlen⟩
      exact am_disp hx hb X.fmok IH X hlocks hown hHR htr hRf hRl hRc hRs (hml.trans hlen.symm) (Nat.le_of_ble_eq_true hbl) hg2 hg3 hgd hroom hrt hnm hck1 hd
        (fun L' S' mm' q => by
          obtain ⟨a0, a1, a2, a3, a4, a5⟩ := kpn q.1.2 q.2
          exact q.1.1 a0 a1 a2 a3 a4 a5)
        (fun t L' S' mm' q => by
          obtain ⟨a0, a1, a2, a3, a4, a5⟩ := kpn q.1.2 q.2
          exact q.1.1 a0 a1 a2 a3 a4 a5) h1
/-- EVERY METHOD, AT EVERY DEPTH -/
theorem am_sound (hx : p.tables.exec = Jvm.exec) (htr : e.platform.stackTraces = false) : ∀ d, am_IH p l e s0 ad fm cid slo d := by
  intro d
  induction d with
  | zero => intro y s mk below methk ck as m Qc hy X hM has hR hroom hgd h; exact h.elim
  | succ d ih =>
    intro y s mk below methk ck as m Qc hy X hM has hR hroom hgd h
    unfold am_wpc at h
    cases hw : Nat.ble (am_wd as) (am_T y).1 with
    | false => rw [hw] at h; exact h.elim
    | true =>
      rw [hw] at h
      obtain ⟨⟨m1, m2, m3, m4, m5, m6, m7, m8⟩, m9, m10, m11⟩ := hM
      have hwd := Nat.le_of_ble_eq_true hw
      obtain ⟨ls, e1, e2⟩ := am_entry (ad := ad) X.fmok hwd has mk
      have hR0 := hR
      obtain ⟨r0, -⟩ := hR0
      have hnm : am_nmb y = true → methk.name = "<init>" := fun w => by
        rw [(name_of_methodNamed m1 m2).1]
        exact of_decide_eq_true w
      have k := am_body (R := am_R (d + 1) m) (args := (as.map (am_c ad fm)).toArray) (below := below) (n0 := m 0 0) (s1 := m 0 1) (b2 := m 0 2 = 1) (b3 := m 0 3 = 1) hx htr ih X m4 m7 m11 (m9 _) (by show d + 10 ≤ d + 1 + 9; omega) (by show 10375 + 75 * d ≤ 10300 + 75 * (d + 1); omega) (Nat.le_refl _) (Nat.le_refl _) m5 m6 hnm (am_ckA y hy) (am_dcA y hy) (am_posT y) h r0 hgd id id hroom (am_ent_len as _ hwd)
      have k1 := k s.heap [] ls hR (fun q hq => absurd hq List.not_mem_nil) e2 (fun v hv => absurd hv List.not_mem_nil) (Int.le_refl _) (Int.le_refl _)
      rw [Int.sub_self, Int.sub_self] at k1
      rw [m5, e1]
      exact k1
end Sound
