/-! OBJECTS THAT STAND FOR GOOD; FIELDS BY THEIR LINKS -/
def am_l3 (x : Int) : List (Int × Int × Int) → Option (Int × Int)
  | [] => none
  | (a, b, v) :: r => bif decide (a = x) then some (b, v) else am_l3 x r
theorem am_l3_mem {x b v : Int} : ∀ {l : List (Int × Int × Int)}, am_l3 x l = some (b, v) → (x, b, v) ∈ l := by
  intro l
  induction l with
  | nil => intro h; cases h
  | cons q r ih =>
    intro h
    obtain ⟨a, b', w⟩ := q
    rw [am_l3] at h
    cases hb : decide (a = x) with
    | true =>
      rw [hb] at h
      have e := of_decide_eq_true hb
      cases h
      rw [e]
      exact List.mem_cons_self
    | false =>
      rw [hb] at h
      exact List.mem_cons_of_mem _ (ih h)
def am_sfs (md : Nat) : List (Int × Int × Int) := am_sO ++ (bif Nat.beq md 1 then am_sA else bif Nat.beq md 2 then am_sM else [])
def am_ffs (md : Nat) : List (Int × Int × Int) := bif Nat.beq md 1 then am_fA else bif Nat.beq md 2 then am_fM else []
/-- the ghost that a method of this mode has -/
def am_gd (md : Nat) (mm : aM) : Prop := (md = 1 → mm 0 2 = 1) ∧ (md = 2 → mm 0 3 = 1)
/-- the class of an object with final fields -/
def am_tr (r : Int) : Int := if r = 1 then 1 else if r = 13 then 2 else 9
theorem am_fA_t : ∀ q ∈ am_fA, (q.1, am_tr q.1, 0) ∈ am_sA ∧ (am_tr q.1 = 1 ∨ am_tr q.1 = 2) := by decide +kernel
theorem am_fM_t : ∀ q ∈ am_fM, (q.1, am_tr q.1, 0) ∈ am_sM ∧ am_tr q.1 = 9 := by decide +kernel
/-- the place i of a class t is a final field that stands for good -/
def am_fin (t i : Int) : Bool := (am_fA ++ am_fM).any (fun q => decide (am_tr q.1 = t) && decide (q.2.1 = i))
theorem am_fin_no {t i : Int} (h : t ≠ 1 ∧ t ≠ 2 ∧ t ≠ 9) : am_fin t i = false := by
  unfold am_fin
  rw [List.any_eq_false]
  intro q hq hh
  simp only [Bool.and_eq_true, decide_eq_true_eq] at hh
  rcases List.mem_append.mp hq with h1 | h1
  · rcases (am_fA_t q h1).2 with e | e <;> omega
  · have := (am_fM_t q h1).2
    omega
section Mem
variable {s0 : State} {ad : Int → Nat} {fm : Value} {cid : Int → ClassId} {slo : Int → Nat → Nat} {N : Int → Nat} {ft : Int → Nat → Nat} {mm : aM} {H : Heap} {md : Nat}
theorem am_Rep.sfs (hR : am_Rep s0 ad fm cid slo N ft mm H) (hg : am_gd md mm) : am_sf (am_sfs md) mm := by
  obtain ⟨_, _, _, _, _, _, _, h8, h9, h10⟩ := hR
  intro q hq
  rcases List.mem_append.mp hq with h | h
  · exact h8 q h
  · cases h1 : Nat.beq md 1 with
    | true =>
      rw [h1] at h
      exact (h9 (hg.1 (Nat.eq_of_beq_eq_true h1))).1 q h
    | false =>
      rw [h1] at h
      cases h2 : Nat.beq md 2 with
      | true =>
        rw [h2] at h
        exact (h10 (hg.2 (Nat.eq_of_beq_eq_true h2))).1 q h
      | false =>
        rw [h2] at h
        exact absurd h List.not_mem_nil
theorem am_Rep.ffs (hR : am_Rep s0 ad fm cid slo N ft mm H) (hg : am_gd md mm) : am_ff (am_ffs md) mm := by
  obtain ⟨_, _, _, _, _, _, _, h8, h9, h10⟩ := hR
  intro q h
  unfold am_ffs at h
  cases h1 : Nat.beq md 1 with
  | true =>
    rw [h1] at h
    exact (h9 (hg.1 (Nat.eq_of_beq_eq_true h1))).2.1 q h
  | false =>
    rw [h1] at h
    cases h2 : Nat.beq md 2 with
    | true =>
      rw [h2] at h
      exact (h10 (hg.2 (Nat.eq_of_beq_eq_true h2))).2.1 q h
    | false =>
      rw [h2] at h
      exact absurd h List.not_mem_nil
theorem am_Rep.st (hR : am_Rep s0 ad fm cid slo N ft mm H) (hg : am_gd md mm) {x t n : Int} (h : am_l3 x (am_sfs md) = some (t, n)) : mm x (-1) = t ∧ (40 ≤ t → mm x (-2) = n) := hR.sfs hg _ (am_l3_mem h)
theorem am_Rep.may (hR : am_Rep s0 ad fm cid slo N ft mm H) {a i : Int} (ha : 0 < a) (hi : 0 ≤ i) (h : am_fin (mm a (-1)) i = false) : am_may mm a i := by
  obtain ⟨_, _, _, _, _, _, _, h8, h9, h10⟩ := hR
  unfold am_fin at h
  rw [List.any_eq_false] at h
  refine ⟨ha, hi, fun g q hq e => ?_, fun g q hq e => ?_⟩
  · have k := (h9 g).1 _ (am_fA_t q hq).1
    refine h q (List.mem_append_left _ hq) ?_
    simp only [Bool.and_eq_true, decide_eq_true_eq]
    refine ⟨?_, e.2⟩
    rw [← e.1]
    exact k.1.symm
  · have k := (h10 g).1 _ (am_fM_t q hq).1
    refine h q (List.mem_append_right _ hq) ?_
    simp only [Bool.and_eq_true, decide_eq_true_eq]
    refine ⟨?_, e.2⟩
    rw [← e.1]
    exact k.1.symm
theorem am_Rep.may8 (hR : am_Rep s0 ad fm cid slo N ft mm H) {a i : Int} (ha : 0 < a) (hi : 0 ≤ i) (ht : mm a (-1) = 1 ∨ mm a (-1) = 2) (h2 : mm 0 2 ≠ 1) : am_may mm a i := by
  obtain ⟨_, _, _, _, _, _, _, h8, h9, h10⟩ := hR
  refine ⟨ha, hi, fun g => absurd g h2, fun g q hq e => ?_⟩
  have k := (h10 g).1 _ (am_fM_t q hq).1
  have k2 := (am_fM_t q hq).2
  have k3 : mm q.1 (-1) = am_tr q.1 := k.1
  rw [e.1] at k3
  rw [e.1] at k2
  omega
theorem am_Rep.may9 (hR : am_Rep s0 ad fm cid slo N ft mm H) {a i : Int} (ha : 0 < a) (hi : 0 ≤ i) (ht : mm a (-1) = 9) (h2 : mm 0 3 ≠ 1) : am_may mm a i := by
  obtain ⟨_, _, _, _, _, _, _, h8, h9, h10⟩ := hR
  refine ⟨ha, hi, fun g q hq e => ?_, fun g => absurd g h2⟩
  have k := (h9 g).1 _ (am_fA_t q hq).1
  have k2 := (am_fA_t q hq).2
  have k3 : mm q.1 (-1) = am_tr q.1 := k.1
  rw [e.1] at k3
  rw [e.1] at k2
  omega
end Mem
/-- the field that a link names -/
def am_f2 (o idx : Nat) : Option (Int × Nat) := match am_lk o idx am_fT with
  | some v => some v
  | none => am_lk o idx am_fN
theorem am_nd : ∀ t ∈ ([13, 14, 15, 16, 17] : List Int), ∀ k, k < 3 → (am_cT t k = am_cT 13 k ∧ k < am_cF t ∧ am_ft t k = am_ft 13 k ∧ am_isO t = true) := by decide +kernel
/-- an object of tag t has the field k as the class t0 has it -/
def am_sh (t t0 : Int) (k : Nat) : Prop := t = t0 ∨ (t0 = 13 ∧ 13 ≤ t ∧ t ≤ 17 ∧ k < 3)
theorem am_sh_eq {t t0 : Int} {k : Nat} (h : am_sh t t0 k) (ho : am_isO t0 = true) (hk : k < am_cF t0) : am_cT t k = am_cT t0 k ∧ k < am_cF t ∧ am_ft t k = am_ft t0 k ∧ am_isO t = true := by
  rcases h with rfl | ⟨rfl, h1, h2, h3⟩
  · exact ⟨rfl, hk, rfl, ho⟩
  · exact am_nd t (by simp; omega) k h3
section Field
variable {p : Program} {l : Launch} {e : Env} {R : Room} {s : State} {m : MethodId} {args : Array Value} {below : List Frame} {meth : Method} {c : Code} {cc : ByteArray} {s0 : State} {ad : Int → Nat} {fm : Value} {cid : Int → ClassId} {slo : Int → Nat → Nat} {Qf : State → Prop} {n0 s1 : Int} {pc : Nat} {L r : List aV} {mm : aM} {o idx k w : Nat} {t t0 a v : Int}
theorem am_f2_ok (X : am_Wd s0 ad fm cid slo s) (h : am_f2 o idx = some (t0, k)) : am_FL s args (am_on o) idx (am_cT t0 k) := by
  unfold am_f2 at h
  cases h1 : am_lk o idx am_fT with
  | some q =>
    rw [h1] at h
    cases h
    exact Or.inl (X.words args _ (am_fT_ok _ (am_lk_mem h1)))
  | none =>
    rw [h1] at h
    exact Or.inr ⟨"ArmsHouse", va_Nw.use rfl (X.nF _ (am_lk_mem h))⟩
theorem am_S_rep {S : List aV} (h : ∀ H, am_Rep s0 ad fm cid slo am_cF am_ft mm H → am_S p l e R s m args below meth c s0 ad fm cid slo am_cF am_ft Qf n0 s1 pc L S mm) : am_S p l e R s m args below meth c s0 ad fm cid slo am_cF am_ft Qf n0 s1 pc L S mm := fun H locs ls hR => h H hR H locs ls hR
theorem am_notst (X : am_Wd s0 ad fm cid slo s) (ho : am_isO t = true) (hk : k < am_cF t) : ∀ cf kf fi fd, s.fieldFound? (am_cT t k).1 (am_cT t k).2.1 (am_cT t k).2.2.1 = some (cf, kf, fi, fd) → fd.isStatic = false := by
  intro cf kf fi fd h
  obtain ⟨hfc, kC, hkC, hkind⟩ := (X.kn t ho).2
  exact (u_facts hfc hkC (u_lays (X.words #[]) (am_inW t ho) hk) h).1
theorem am_gf (hx : p.tables.exec = Jvm.exec) (hb : c.code = cc) (X : am_Wd s0 ad fm cid slo s) (hown : s.vm.findClass (am_on o) = some m.cls) (hf2 : am_f2 o idx = some (t0, k)) (ht : mm a (-1) = t) (hsh : am_sh t t0 k) (ho : am_isO t0 = true) (hk : k < am_cF t0) (hw : am_ft t0 k = w) (hd : decode cc pc = .ok (.getfield idx, 3))
    (K : am_S p l e R s m args below meth c s0 ad fm cid slo am_cF am_ft Qf n0 s1 (pc + 3) L (am_mk w (mm a k) :: r) mm) : am_S p l e R s m args below meth c s0 ad fm cid slo am_cF am_ft Qf n0 s1 pc L (.inr (.inr (.inl a)) :: r) mm := by
  obtain ⟨e1, e2, e3, e4⟩ := am_sh_eq hsh ho hk
  have hl := am_f2_ok (args := args) X hf2
  rw [← e1] at hl
  exact am_s_getf hx hb hown (T := am_cT t) hl (X.kn t e4) (am_notst X e4 e2) ht e4 e2 (by rw [e3]; exact hw) hd K
end Field
