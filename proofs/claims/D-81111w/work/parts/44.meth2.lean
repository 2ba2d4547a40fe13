/-! EACH METHOD, as the tables have it -/
set_option maxRecDepth 100000
def am_hck (o : Nat) : aH → List (Nat × Nat × Nat × Nat) → Bool
  | [], [] => true
  | (a, b, h, k) :: hs, (a', b', h', ct) :: l => Nat.beq a' a && Nat.beq b' b && Nat.beq h' h && ((decide (k = 0) && Nat.beq ct 0) || (am_isX k && !(Nat.beq ct 0) && decide (Jvm.Cond.classLink (am_on o) ct (am_xn k) ∈ lw_all))) && am_hck o hs l
  | _, _ => false
theorem am_hck_ok {s0 s : State} {ad : Int → Nat} {fm : Value} {cid : Int → ClassId} {slo : Int → Nat → Nat} (X : am_Wd s0 ad fm cid slo s) {args : Array Value} {o : Nat} : ∀ (hs : aH) (es : List ExceptionTableEntry), am_hck o hs (es.map (fun h => (h.startPc, h.endPc, h.handlerPc, h.catchType))) = true → am_HR s args (am_on o) am_xn cid hs es := by
  intro hs
  induction hs with
  | nil =>
    intro es h
    match es, h with
    | [], _ => trivial
  | cons q hs ih =>
    intro es h
    match q, es, h with
    | (a, b, hp, k), x :: es, h =>
      simp only [List.map_cons, am_hck, Bool.and_eq_true, Bool.or_eq_true, decide_eq_true_eq, Bool.not_eq_true'] at h
      obtain ⟨⟨⟨⟨h1, h2⟩, h3⟩, h4⟩, h5⟩ := h
      refine ⟨Nat.eq_of_beq_eq_true h1, Nat.eq_of_beq_eq_true h2, Nat.eq_of_beq_eq_true h3, ?_, ih es h5⟩
      rcases h4 with ⟨k0, c0⟩ | ⟨⟨kx, c0⟩, hm⟩
      · exact Or.inl ⟨k0, Nat.eq_of_beq_eq_true c0⟩
      · refine Or.inr ⟨fun z => ?_, kx, fun z => ?_, X.words args _ hm, (X.exc k kx).1⟩
        · rw [z] at kx
          exact absurd kx (by decide)
        · rw [z] at c0
          exact absurd c0 (by decide)
theorem am_plain : ∀ y ∈ am_ys, plainFor (am_mn y) = true ∧ am_on (am_ow y) = (am_mn y).cls ∧ ((am_mn y).cls ≠ "java/lang/invoke/MethodHandle" ∧ (am_mn y).cls ≠ "java/lang/invoke/VarHandle") := by decide +kernel
theorem am_no_hs : ∀ y ∈ am_kT, (am_T y).2.1 = [] := by decide +kernel
def am_kW : List Nat := [4, 60, 64, 133, 134, 323]
theorem am_ys_k : ∀ y ∈ am_ys, y ∈ am_kT ∨ y ∈ am_kW := by decide +kernel
theorem am_hk_4 : am_hck (am_ow 4) (am_T 4).2.1 [(0, 8, 9, 24)] = true := by decide +kernel
theorem am_hk_60 : am_hck (am_ow 60) (am_T 60).2.1 [(0, 6, 7, 526)] = true := by decide +kernel
theorem am_hk_64 : am_hck (am_ow 64) (am_T 64).2.1 [(0, 9, 10, 568)] = true := by decide +kernel
theorem am_hk_133 : am_hck (am_ow 133) (am_T 133).2.1 [(0, 16, 17, 484), (0, 16, 23, 771)] = true := by decide +kernel
theorem am_hk_134 : am_hck (am_ow 134) (am_T 134).2.1 [(0, 20, 32, 0), (32, 34, 32, 0)] = true := by decide +kernel
theorem am_hk_323 : am_hck (am_ow 323) (am_T 323).2.1 [(0, 5, 6, 28), (0, 5, 12, 30), (0, 5, 18, 32), (0, 5, 24, 34)] = true := by decide +kernel
/-- method number y, as the tables have it -/
def am_MX (cid : Int → ClassId) (s : State) (y : Nat) (mk : MethodId) (methk : Method) (ck : Code) : Prop :=
  am_MD s (am_mn y) mk methk ck (am_bt y) (am_T y).1 (am_rt y) ∧ (∀ args, am_HR s args (am_on (am_ow y)) am_xn cid (am_T y).2.1 ck.exceptionTable.toList) ∧ (∀ U : State, s.WarmedH U.vm → U.plainMethod mk) ∧ s.vm.findClass (am_on (am_ow y)) = some mk.cls
section Meth
variable {s0 s : State} {ad : Int → Nat} {fm : Value} {cid : Int → ClassId} {slo : Int → Nat → Nat}
theorem am_named {args : Array Value} {x : MethodName} {b : ByteArray} {n : Nat} {r : Option FieldType} (h : (Jvm.Cond.code x b n r).before args s = true) : ∃ mk, s.methodNamed? x = some mk := by
  cases hm : s.methodNamed? x with
  | some mk => exact ⟨mk, rfl⟩
  | none => simp [Cond.before, Cond.holds, Cond.value, hm] at h
theorem am_meth_of (X : am_Wd s0 ad fm cid slo s) {y : Nat} (hy : y ∈ am_ys) {mk : MethodId} {methk : Method} {ck : Code} (h : am_MD s (am_mn y) mk methk ck (am_bt y) (am_T y).1 (am_rt y)) (hH : am_hck (am_ow y) (am_T y).2.1 (ck.exceptionTable.toList.map (fun h => (h.startPc, h.endPc, h.handlerPc, h.catchType))) = true) : am_MX cid s y mk methk ck := by
  obtain ⟨p1, p2, p3⟩ := am_plain y hy
  refine ⟨h, fun args => am_hck_ok X _ _ hH, fun U hW => ?_, ?_⟩
  · have e1 : U.methodNamed? (am_mn y) = s.methodNamed? (am_mn y) := by
      rw [show U.methodNamed? (am_mn y) = (s.setVm U.vm).methodNamed? (am_mn y) from rfl, State.methodNamed?_setVm hW.alike]
    exact State.plainMethod.of_named p1 (e1.trans h.1) ((hW.alike.method? _).trans h.2.1)
  · rw [p2]
    exact findClass_of_methodNamed h.1
theorem am_meth_w (X : am_Wd s0 ad fm cid slo s) {y : Nat} (hy : y ∈ am_ys) {hl : List (Nat × Nat × Nat × Nat)} (hw : Jvm.Cond.codeWith (am_mn y) (am_bt y) (am_T y).1 (am_rt y) hl ∈ lw_all) (hH : am_hck (am_ow y) (am_T y).2.1 hl = true) : ∃ mk methk ck, am_MX cid s y mk methk ck := by
  obtain ⟨mk, methk, ck, h1, h2, h3, h4, h5, h6, h7, h8, h9⟩ := Cond.codeWith_spec (X.words #[] _ hw)
  exact ⟨mk, methk, ck, am_meth_of X hy ⟨h1, h2, h3, h4, h5, h7, h8, h9⟩ (by rw [h6]; exact hH)⟩
theorem am_meth (X : am_Wd s0 ad fm cid slo s) {y : Nat} (hy : y ∈ am_ys) : ∃ mk methk ck, am_MX cid s y mk methk ck := by
  rcases am_ys_k y hy with h | h
  · have hw := X.words #[] _ (am_kT_ok y h)
    obtain ⟨mk, hn⟩ := am_named hw
    obtain ⟨methk, ck, h2, h3, h4, h5, h6, h7, h8, h9⟩ := Cond.code_spec hn hw
    refine ⟨mk, methk, ck, am_meth_of X hy ⟨hn, h2, h3, h4, h5, h6, h7, h9⟩ ?_⟩
    rw [am_no_hs y h, show ck.exceptionTable.toList = [] from by simpa using h8]
    rfl
  · simp only [am_kW, List.mem_cons, List.not_mem_nil, or_false] at h
    rcases h with rfl | rfl | rfl | rfl | rfl | rfl
    · exact am_meth_w X hy kw_4 am_hk_4
    · exact am_meth_w X hy kw_60 am_hk_60
    · exact am_meth_w X hy kw_64 am_hk_64
    · exact am_meth_w X hy kw_133 am_hk_133
    · exact am_meth_w X hy kw_134 am_hk_134
    · exact am_meth_w X hy kw_323 am_hk_323
/-- the same at a later state -/
theorem am_MX.moved {U : State} (hU : am_Wd s0 ad fm cid slo U) {y : Nat} (hy : y ∈ am_ys) (hW : s.WarmedH U.vm) {mk : MethodId} {methk : Method} {ck : Code} (h : am_MX cid s y mk methk ck) : am_MX cid U y mk methk ck := by
  obtain ⟨mk', methk', ck', h'⟩ := am_meth hU hy
  have e1 : U.methodNamed? (am_mn y) = s.methodNamed? (am_mn y) := by
    rw [show U.methodNamed? (am_mn y) = (s.setVm U.vm).methodNamed? (am_mn y) from rfl, State.methodNamed?_setVm hW.alike]
  have m1 : mk' = mk := Option.some.inj (h'.1.1.symm.trans (e1.trans h.1.1))
  subst m1
  have m2 : methk' = methk := Option.some.inj (h'.1.2.1.symm.trans ((hW.alike.method? _).trans h.1.2.1))
  subst m2
  have m3 : ck' = ck := Option.some.inj (h'.1.2.2.1.symm.trans h.1.2.2.1)
  subst m3
  exact h'
end Meth
