/-! THE WORLD: what the tables say all through a run; by tools/genwd.py -/
def am_cs : List (Nat × Nat) := [(13, 12), (14, 12), (15, 12), (16, 12), (17, 12), (5, 18), (7, 18), (8, 18), (10, 18)]
def am_nc : List (Nat × Nat) := [(5, 6), (5, 7), (5, 10), (6, 5), (6, 7), (6, 10), (7, 5), (7, 6), (7, 10), (10, 5), (10, 6), (10, 7), (6, 18)]
def am_tin : MethodName := ⟨"ArmsHouse$Tinged", "tinct", "()LArmsHouse$Whole;"⟩
def am_tol : MethodName := ⟨"ArmsHouse$OneTinged", "told", "()LArmsHouse$Whole;"⟩
def am_tur : MethodName := ⟨"ArmsHouse$OneTinged", "tincture", "()I"⟩
def am_fc : List (Int × MethodName × Nat) := [(5, am_tin, 6), (7, am_tin, 7), (8, am_tin, 8), (10, am_tin, 8), (8, am_tol, 9), (10, am_tol, 10), (8, am_tur, 11), (10, am_tur, 12)]
def am_ov : List String := ["java/lang/String", "ArmsHouse$Layer", "ArmsHouse$Arms", "ArmsHouse$Person", "ArmsHouse$Node"]
def am_dl : List MethodName := [am_wk, mn_324, mn_325, mn_326]
/-- static fields: class, name, type, value -/
def am_zz (ad : Int → Nat) (fm : Value) : List (String × String × String × Value) := [("ArmsHouse", "ROWS", "[I", .ref (ad (-2))), ("ArmsHouse", "WAVES", "[I", .ref (ad (-3))), ("ArmsHouse", "KINDS", "[I", .ref (ad (-4))), ("java/lang/String", "COMPACT_STRINGS", "Z", .int 1), ("jdk/internal/util/Preconditions", "SIOOBE_FORMATTER", "Ljava/util/function/BiFunction;", fm)]
/-- for the machine's own exceptions -/
def am_xc : List (String × String) := [("java/lang/NullPointerException", "java/lang/NullPointerException"), ("java/lang/RuntimeException", "java/lang/Throwable"), ("java/lang/ArrayIndexOutOfBoundsException", "java/lang/ArrayIndexOutOfBoundsException"), ("java/lang/ClassCastException", "java/lang/ClassCastException"), ("java/lang/ArithmeticException", "java/lang/ArithmeticException")]
def am_xd : List MethodName := [⟨"java/lang/RuntimeException", "<init>", "()V"⟩, ⟨"java/lang/Exception", "<init>", "()V"⟩, ⟨"java/lang/Throwable", "<init>", "()V"⟩, ⟨"java/lang/RuntimeException", "<init>", "(Ljava/lang/String;)V"⟩, ⟨"java/lang/Exception", "<init>", "(Ljava/lang/String;)V"⟩, ⟨"java/lang/Throwable", "<init>", "(Ljava/lang/String;)V"⟩, ⟨"java/lang/IndexOutOfBoundsException", "<init>", "(Ljava/lang/String;)V"⟩]
def am_xl : List (String × String × String) := [("java/lang/Throwable", "UNASSIGNED_STACK", "[Ljava/lang/StackTraceElement;"), ("java/lang/Throwable", "SUPPRESSED_SENTINEL", "Ljava/util/List;")]
/-- the default method of the interface, at a class that has it from there -/
def am_df : List String := ["ArmsHouse$Ordinary", "ArmsHouse$Group"]
def am_Df (C : String) (s : State) : Prop := ∃ c r m, s.vm.findClass C = some c ∧ s.methodFound? am_tin.cls am_tin.name am_tin.desc = some r ∧ s.methodNamed? mn_8 = some m ∧ selectMethod {} s.vm c r = .method m
theorem am_Df.moved {C : String} {u U : State} (hvm : u.vm.Alike U.vm) (h : am_Df C u) : am_Df C U := by
  obtain ⟨c, r, m, h1, h2, h3, h4⟩ := h
  refine ⟨c, r, m, by rw [hvm.findClass]; exact h1, ?_, ?_, by rw [hvm.selectMethod]; exact h4⟩
  · rw [show U.methodFound? am_tin.cls am_tin.name am_tin.desc = (u.setVm U.vm).methodFound? am_tin.cls am_tin.name am_tin.desc from rfl, State.methodFound?_setVm hvm]
    exact h2
  · rw [show U.methodNamed? mn_8 = (u.setVm U.vm).methodNamed? mn_8 from rfl, State.methodNamed?_setVm hvm]
    exact h3
theorem am_stv {args : Array Value} {s : State} {vm' : Vm} {w : Jvm.Cond} (h : s.vm.Alike vm') (hw : w.steady = true) (hb : w.before args s = true) : w.before args (s.setVm vm') = true := by
  have e := Cond.value_setVm (args := args) (o := none) h w [] hw
  simp only [Cond.before, Cond.holds] at hb ⊢
  rw [e]
  exact hb
theorem am_mods {s U : State} (h : s.vm.Alike U.vm) : modulesRight_1 U = modulesRight_1 s := by
  have e : U.vm.modules = s.vm.modules := (congrArg Vm.modules h.1).trans rfl
  unfold modulesRight_1
  rw [e]
def am_Wd (s0 : State) (ad : Int → Nat) (fm : Value) (cid : Int → ClassId) (slo : Int → Nat → Nat) (s : State) : Prop :=
  (∀ (a : Array Value), ∀ w ∈ lw_all, w.before a s = true) ∧
  (∀ q ∈ am_fN, va_Nw (.fieldLinkNest (am_on q.1) q.2.1 (am_cT q.2.2.1 q.2.2.2).1 (am_cT q.2.2.1 q.2.2.2).2.1 (am_cT q.2.2.1 q.2.2.2).2.2.1 "ArmsHouse") s) ∧
  (∀ q ∈ am_mN, va_Nw (.methodLinkNest (am_on q.1) q.2.1 (am_mn q.2.2) "ArmsHouse") s) ∧
  (va_Nw (.fieldLinkNest "ArmsHouse$One" 96 "ArmsHouse" "KINDS" "[I" "ArmsHouse") s) ∧
  (va_Nw (.methodLinkNest "ArmsHouse" 486 ⟨"ArmsHouse$Failure", "<init>", "()V"⟩ "ArmsHouse") s) ∧
  (∀ q ∈ am_cs, va_Nw (.castable (am_on q.1) (am_on q.2)) s) ∧
  (∀ q ∈ am_nc, va_Nc (am_on q.1) (am_on q.2) s) ∧
  (∀ q ∈ am_fc, va_Fw (am_cN q.1) q.2.1 (am_mn q.2.2) s) ∧
  (∀ C ∈ am_ov, va_AO C s) ∧
  (∀ x ∈ am_dl, va_Nw (.declares x) s) ∧
  (∀ t, am_isO t = true → u_Kn s (am_cN t) (am_cT t) (am_cF t) (cid t) (slo t)) ∧
  (∀ t, am_isA t = true → ArrOfT s (cid t) (am_aty t) ∧ (t < 49 → va_RA s (cid t) (am_aty t))) ∧
  (∀ t, am_isX t = true → s.vm.findClass (am_xn t) = some (cid t) ∧ ∃ k, s.vm.classes[cid t]? = some k) ∧
  (∀ j k, am_isX j = true → am_isX k = true → s.vm.assignable (cid j) (cid k) = decide (j = k)) ∧
  (∀ r, 0 < r → ad r = s0.heap.size + (r - 1).toNat) ∧
  (am_fmok fm) ∧
  (∀ q ∈ am_zz ad fm, va_Z q.1 q.2.1 q.2.2.1 q.2.2.2 (fun a => s0.heap.size ≤ a) s s0.heap) ∧
  (∀ q ∈ am_gT, vk_R (am_on q.1) q.2.1 (am_tx q.2.2) (ad (-(100 + (q.2.2 : Int)))) s) ∧
  (∀ a, a < s0.heap.size → s.heap[a]? = s0.heap[a]?) ∧
  (∀ q ∈ am_xc, va_Nw (.castable q.1 q.2) s) ∧
  (∀ x ∈ am_xd, va_Nw (.declares x) s) ∧
  (∀ q ∈ am_xl, (Jvm.Cond.laysStatic q.1 q.2.1 q.2.2).before #[] (s0.setVm s.vm) = true ∧ (Jvm.Cond.isRef (.static q.1 q.2.1 q.2.2)).before #[] (s0.setVm s.vm) = true) ∧
  (∀ C ∈ am_df, am_Df C s) ∧
  (modulesRight_1 s = true) ∧
  (s0.vm.Alike s.vm)
theorem am_Wd.words {s0 : State} {ad : Int → Nat} {fm : Value} {cid : Int → ClassId} {slo : Int → Nat → Nat} {s : State} (h : am_Wd s0 ad fm cid slo s) : ∀ (a : Array Value), ∀ w ∈ lw_all, w.before a s = true := h.1
theorem am_Wd.nF {s0 : State} {ad : Int → Nat} {fm : Value} {cid : Int → ClassId} {slo : Int → Nat → Nat} {s : State} (h : am_Wd s0 ad fm cid slo s) : ∀ q ∈ am_fN, va_Nw (.fieldLinkNest (am_on q.1) q.2.1 (am_cT q.2.2.1 q.2.2.2).1 (am_cT q.2.2.1 q.2.2.2).2.1 (am_cT q.2.2.1 q.2.2.2).2.2.1 "ArmsHouse") s := h.2.1
theorem am_Wd.nM {s0 : State} {ad : Int → Nat} {fm : Value} {cid : Int → ClassId} {slo : Int → Nat → Nat} {s : State} (h : am_Wd s0 ad fm cid slo s) : ∀ q ∈ am_mN, va_Nw (.methodLinkNest (am_on q.1) q.2.1 (am_mn q.2.2) "ArmsHouse") s := h.2.2.1
theorem am_Wd.nK {s0 : State} {ad : Int → Nat} {fm : Value} {cid : Int → ClassId} {slo : Int → Nat → Nat} {s : State} (h : am_Wd s0 ad fm cid slo s) : va_Nw (.fieldLinkNest "ArmsHouse$One" 96 "ArmsHouse" "KINDS" "[I" "ArmsHouse") s := h.2.2.2.1
theorem am_Wd.nX {s0 : State} {ad : Int → Nat} {fm : Value} {cid : Int → ClassId} {slo : Int → Nat → Nat} {s : State} (h : am_Wd s0 ad fm cid slo s) : va_Nw (.methodLinkNest "ArmsHouse" 486 ⟨"ArmsHouse$Failure", "<init>", "()V"⟩ "ArmsHouse") s := h.2.2.2.2.1
theorem am_Wd.casts {s0 : State} {ad : Int → Nat} {fm : Value} {cid : Int → ClassId} {slo : Int → Nat → Nat} {s : State} (h : am_Wd s0 ad fm cid slo s) : ∀ q ∈ am_cs, va_Nw (.castable (am_on q.1) (am_on q.2)) s := h.2.2.2.2.2.1
theorem am_Wd.ncs {s0 : State} {ad : Int → Nat} {fm : Value} {cid : Int → ClassId} {slo : Int → Nat → Nat} {s : State} (h : am_Wd s0 ad fm cid slo s) : ∀ q ∈ am_nc, va_Nc (am_on q.1) (am_on q.2) s := h.2.2.2.2.2.2.1
theorem am_Wd.faces {s0 : State} {ad : Int → Nat} {fm : Value} {cid : Int → ClassId} {slo : Int → Nat → Nat} {s : State} (h : am_Wd s0 ad fm cid slo s) : ∀ q ∈ am_fc, va_Fw (am_cN q.1) q.2.1 (am_mn q.2.2) s := h.2.2.2.2.2.2.2.1
theorem am_Wd.overs {s0 : State} {ad : Int → Nat} {fm : Value} {cid : Int → ClassId} {slo : Int → Nat → Nat} {s : State} (h : am_Wd s0 ad fm cid slo s) : ∀ C ∈ am_ov, va_AO C s := h.2.2.2.2.2.2.2.2.1
theorem am_Wd.decls {s0 : State} {ad : Int → Nat} {fm : Value} {cid : Int → ClassId} {slo : Int → Nat → Nat} {s : State} (h : am_Wd s0 ad fm cid slo s) : ∀ x ∈ am_dl, va_Nw (.declares x) s := h.2.2.2.2.2.2.2.2.2.1
theorem am_Wd.kn {s0 : State} {ad : Int → Nat} {fm : Value} {cid : Int → ClassId} {slo : Int → Nat → Nat} {s : State} (h : am_Wd s0 ad fm cid slo s) : ∀ t, am_isO t = true → u_Kn s (am_cN t) (am_cT t) (am_cF t) (cid t) (slo t) := h.2.2.2.2.2.2.2.2.2.2.1
theorem am_Wd.arr {s0 : State} {ad : Int → Nat} {fm : Value} {cid : Int → ClassId} {slo : Int → Nat → Nat} {s : State} (h : am_Wd s0 ad fm cid slo s) : ∀ t, am_isA t = true → ArrOfT s (cid t) (am_aty t) ∧ (t < 49 → va_RA s (cid t) (am_aty t)) := h.2.2.2.2.2.2.2.2.2.2.2.1
theorem am_Wd.exc {s0 : State} {ad : Int → Nat} {fm : Value} {cid : Int → ClassId} {slo : Int → Nat → Nat} {s : State} (h : am_Wd s0 ad fm cid slo s) : ∀ t, am_isX t = true → s.vm.findClass (am_xn t) = some (cid t) ∧ ∃ k, s.vm.classes[cid t]? = some k := h.2.2.2.2.2.2.2.2.2.2.2.2.1
theorem am_Wd.asg {s0 : State} {ad : Int → Nat} {fm : Value} {cid : Int → ClassId} {slo : Int → Nat → Nat} {s : State} (h : am_Wd s0 ad fm cid slo s) : ∀ j k, am_isX j = true → am_isX k = true → s.vm.assignable (cid j) (cid k) = decide (j = k) := h.2.2.2.2.2.2.2.2.2.2.2.2.2.1
theorem am_Wd.had {s0 : State} {ad : Int → Nat} {fm : Value} {cid : Int → ClassId} {slo : Int → Nat → Nat} {s : State} (h : am_Wd s0 ad fm cid slo s) : ∀ r, 0 < r → ad r = s0.heap.size + (r - 1).toNat := h.2.2.2.2.2.2.2.2.2.2.2.2.2.2.1
theorem am_Wd.fmok {s0 : State} {ad : Int → Nat} {fm : Value} {cid : Int → ClassId} {slo : Int → Nat → Nat} {s : State} (h : am_Wd s0 ad fm cid slo s) : am_fmok fm := h.2.2.2.2.2.2.2.2.2.2.2.2.2.2.2.1
theorem am_Wd.stat {s0 : State} {ad : Int → Nat} {fm : Value} {cid : Int → ClassId} {slo : Int → Nat → Nat} {s : State} (h : am_Wd s0 ad fm cid slo s) : ∀ q ∈ am_zz ad fm, va_Z q.1 q.2.1 q.2.2.1 q.2.2.2 (fun a => s0.heap.size ≤ a) s s0.heap := h.2.2.2.2.2.2.2.2.2.2.2.2.2.2.2.2.1
theorem am_Wd.strs {s0 : State} {ad : Int → Nat} {fm : Value} {cid : Int → ClassId} {slo : Int → Nat → Nat} {s : State} (h : am_Wd s0 ad fm cid slo s) : ∀ q ∈ am_gT, vk_R (am_on q.1) q.2.1 (am_tx q.2.2) (ad (-(100 + (q.2.2 : Int)))) s := h.2.2.2.2.2.2.2.2.2.2.2.2.2.2.2.2.2.1
theorem am_Wd.old {s0 : State} {ad : Int → Nat} {fm : Value} {cid : Int → ClassId} {slo : Int → Nat → Nat} {s : State} (h : am_Wd s0 ad fm cid slo s) : ∀ a, a < s0.heap.size → s.heap[a]? = s0.heap[a]? := h.2.2.2.2.2.2.2.2.2.2.2.2.2.2.2.2.2.2.1
theorem am_Wd.xcs {s0 : State} {ad : Int → Nat} {fm : Value} {cid : Int → ClassId} {slo : Int → Nat → Nat} {s : State} (h : am_Wd s0 ad fm cid slo s) : ∀ q ∈ am_xc, va_Nw (.castable q.1 q.2) s := h.2.2.2.2.2.2.2.2.2.2.2.2.2.2.2.2.2.2.2.1
theorem am_Wd.xdl {s0 : State} {ad : Int → Nat} {fm : Value} {cid : Int → ClassId} {slo : Int → Nat → Nat} {s : State} (h : am_Wd s0 ad fm cid slo s) : ∀ x ∈ am_xd, va_Nw (.declares x) s := h.2.2.2.2.2.2.2.2.2.2.2.2.2.2.2.2.2.2.2.2.1
theorem am_Wd.xst {s0 : State} {ad : Int → Nat} {fm : Value} {cid : Int → ClassId} {slo : Int → Nat → Nat} {s : State} (h : am_Wd s0 ad fm cid slo s) : ∀ q ∈ am_xl, (Jvm.Cond.laysStatic q.1 q.2.1 q.2.2).before #[] (s0.setVm s.vm) = true ∧ (Jvm.Cond.isRef (.static q.1 q.2.1 q.2.2)).before #[] (s0.setVm s.vm) = true := h.2.2.2.2.2.2.2.2.2.2.2.2.2.2.2.2.2.2.2.2.2.1
theorem am_Wd.dflt {s0 : State} {ad : Int → Nat} {fm : Value} {cid : Int → ClassId} {slo : Int → Nat → Nat} {s : State} (h : am_Wd s0 ad fm cid slo s) : ∀ C ∈ am_df, am_Df C s := h.2.2.2.2.2.2.2.2.2.2.2.2.2.2.2.2.2.2.2.2.2.2.1
theorem am_Wd.mods {s0 : State} {ad : Int → Nat} {fm : Value} {cid : Int → ClassId} {slo : Int → Nat → Nat} {s : State} (h : am_Wd s0 ad fm cid slo s) : modulesRight_1 s = true := h.2.2.2.2.2.2.2.2.2.2.2.2.2.2.2.2.2.2.2.2.2.2.2.1
theorem am_Wd.alk {s0 : State} {ad : Int → Nat} {fm : Value} {cid : Int → ClassId} {slo : Int → Nat → Nat} {s : State} (h : am_Wd s0 ad fm cid slo s) : s0.vm.Alike s.vm := h.2.2.2.2.2.2.2.2.2.2.2.2.2.2.2.2.2.2.2.2.2.2.2.2
theorem am_Wd.moved {s0 : State} {ad : Int → Nat} {fm : Value} {cid : Int → ClassId} {slo : Int → Nat → Nat} {s U : State} (h : am_Wd s0 ad fm cid slo s) (hW : s.WarmedH U.vm) (hold : ∀ a, a < s0.heap.size → U.heap[a]? = s0.heap[a]?) : am_Wd s0 ad fm cid slo U := by
  refine ⟨?_, ?_, ?_, ?_, ?_, ?_, ?_, ?_, ?_, ?_, ?_, ?_, ?_, ?_, ?_, ?_, ?_, ?_, ?_, ?_, ?_, ?_, ?_, ?_, ?_⟩
  · exact fun a w hw => pay_in (h.words #[]) lw_self w hw a U hW
  · exact fun q hq => (h.nF q hq).warmF hW
  · exact fun q hq => (h.nM q hq).warmM hW
  · exact h.nK.warmF hW
  · exact h.nX.warmM hW
  · exact fun q hq => (h.casts q hq).warmC hW
  · exact fun q hq => (h.ncs q hq).moved hW.alike
  · exact fun q hq => (h.faces q hq).moved (by
      have : ∀ q ∈ am_fc, q.2.1.cls ≠ "java/lang/invoke/MethodHandle" ∧ q.2.1.cls ≠ "java/lang/invoke/VarHandle" := by decide +kernel
      exact this q hq) hW.alike
  · exact fun C hC => (h.overs C hC).moved hW.alike
  · exact fun x hx => (h.decls x hx).warmD hW
  · exact fun t ht => u_Kn_moved hW.alike (h.kn t ht)
  · exact fun t ht => ⟨arrOfT_moved hW.alike (h.arr t ht).1, fun h9 => ((h.arr t ht).2 h9).moved hW.alike⟩
  · exact fun t ht => ⟨by rw [hW.alike.findClass]; exact (h.exc t ht).1, by
      obtain ⟨k, hk⟩ := (h.exc t ht).2
      obtain ⟨k', hk', -⟩ := hW.alike.2.2 _ _ hk
      exact ⟨k', hk'⟩⟩
  · exact fun j k hj hk => by rw [hW.alike.assignable]; exact h.asg j k hj hk
  · exact h.had
  · exact h.fmok
  · exact fun q hq => (h.stat q hq).moved hW.alike
  · exact fun q hq => (h.strs q hq).warm hW
  · exact hold
  · exact fun q hq => (h.xcs q hq).warmC hW
  · exact fun x hx => (h.xdl x hx).warmD hW
  · exact fun q hq => ⟨am_stv (s := s0.setVm s.vm) hW.alike rfl (h.xst q hq).1, am_stv (s := s0.setVm s.vm) hW.alike rfl (h.xst q hq).2⟩
  · exact fun C hC => (h.dflt C hC).moved hW.alike
  · exact by rw [← h.mods]; exact am_mods hW.alike
  · exact h.alk.trans hW.alike
