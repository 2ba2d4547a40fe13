/-! CLASSES BY TAG -/
set_option maxRecDepth 100000
def am_cN (t : Int) : String := if t = 1 then RX0 else if t = 2 then RX1 else if t = 4 then RX3 else if t = 5 then RX4 else if t = 6 then RX5 else if t = 7 then RX6 else if t = 8 then RX7 else if t = 9 then RX8 else if t = 10 then RX9 else if t = 11 then RX10 else if t = 13 then RX12 else if t = 14 then RX13 else if t = 15 then RX14 else if t = 16 then RX15 else if t = 17 then RX16 else if t = 30 then RJ3 else ""
def am_cT (t : Int) : u_T := if t = 1 then TX0 else if t = 2 then TX1 else if t = 4 then TX3 else if t = 5 then TX4 else if t = 6 then TX5 else if t = 7 then TX6 else if t = 8 then TX7 else if t = 9 then TX8 else if t = 10 then TX9 else if t = 11 then TX10 else if t = 13 then TX12 else if t = 14 then TX13 else if t = 15 then TX14 else if t = 16 then TX15 else if t = 17 then TX16 else if t = 30 then TJ3 else TX0
def am_cF (t : Int) : Nat := if t = 1 then 47 else if t = 2 then 10 else if t = 4 then 2 else if t = 5 then 6 else if t = 6 then 1 else if t = 7 then 5 else if t = 8 then 4 else if t = 9 then 68 else if t = 10 then 5 else if t = 11 then 7 else if t = 13 then 6 else if t = 14 then 5 else if t = 15 then 5 else if t = 16 then 6 else if t = 17 then 7 else if t = 30 then 2 else 0
def am_cY (t : Int) : Nat → FieldType := if t = 1 then tyX0 else if t = 2 then tyX1 else if t = 4 then tyX3 else if t = 5 then tyX4 else if t = 6 then tyX5 else if t = 7 then tyX6 else if t = 8 then tyX7 else if t = 9 then tyX8 else if t = 10 then tyX9 else if t = 11 then tyX10 else if t = 13 then tyX12 else if t = 14 then tyX13 else if t = 15 then tyX14 else if t = 16 then tyX15 else if t = 17 then tyX16 else if t = 30 then tyJ3 else tyX0
def am_tc (y : FieldType) : Nat := match y with
  | .long => 1
  | .object _ => 2
  | .array _ => 2
  | _ => 0
def am_ft (t : Int) (k : Nat) : Nat := am_tc (am_cY t k)
def am_xn (t : Int) : String := if t = 3 then "ArmsHouse$Failure" else if t = 61 then "java/lang/ArrayIndexOutOfBoundsException" else if t = 62 then "java/lang/NullPointerException" else if t = 63 then "java/lang/ClassCastException" else "java/lang/ArithmeticException"
theorem am_O {P : Int → Prop} (h1 : P 1) (h2 : P 2) (h4 : P 4) (h5 : P 5) (h6 : P 6) (h7 : P 7) (h8 : P 8) (h9 : P 9) (h10 : P 10) (h11 : P 11) (h13 : P 13) (h14 : P 14) (h15 : P 15) (h16 : P 16) (h17 : P 17) (h30 : P 30) : ∀ t, am_isO t = true → P t := by
  intro t h
  unfold am_isO at h
  simp only [List.elem_eq_mem, List.mem_cons, List.not_mem_nil, or_false, decide_eq_true_eq] at h
  rcases h with rfl | rfl | rfl | rfl | rfl | rfl | rfl | rfl | rfl | rfl | rfl | rfl | rfl | rfl | rfl | rfl
  · exact h1
  · exact h2
  · exact h4
  · exact h5
  · exact h6
  · exact h7
  · exact h8
  · exact h9
  · exact h10
  · exact h11
  · exact h13
  · exact h14
  · exact h15
  · exact h16
  · exact h17
  · exact h30
theorem am_inW : ∀ t, am_isO t = true → ∀ w ∈ u_ws (am_cN t) (am_cT t) (am_cF t), w ∈ lw_all := am_O in_X0 in_X1 in_X3 in_X4 in_X5 in_X6 in_X7 in_X8 in_X9 in_X10 in_X12 in_X13 in_X14 in_X15 in_X16 in_J3
theorem am_tyok : ∀ t, am_isO t = true → ∀ k, k < am_cF t → parseFieldDescriptor (am_cT t k).2.2.1 = some (am_cY t k) := am_O tyX0_ok tyX1_ok tyX3_ok tyX4_ok tyX5_ok tyX6_ok tyX7_ok tyX8_ok tyX9_ok tyX10_ok tyX12_ok tyX13_ok tyX14_ok tyX15_ok tyX16_ok tyJ3_ok
theorem am_nm_1 : ∀ a, a < 47 → ∀ b, b < 47 → a ≠ b → ((TX0 a).2.1 ≠ (TX0 b).2.1 ∨ ((TX0 a).1 ≠ (TX0 b).1 ∧ (TX0 a).2.2.2 = true ∧ (TX0 b).2.2.2 = true)) := by decide +kernel
theorem am_nm_2 : ∀ a, a < 10 → ∀ b, b < 10 → a ≠ b → ((TX1 a).2.1 ≠ (TX1 b).2.1 ∨ ((TX1 a).1 ≠ (TX1 b).1 ∧ (TX1 a).2.2.2 = true ∧ (TX1 b).2.2.2 = true)) := by decide +kernel
theorem am_nm_4 : ∀ a, a < 2 → ∀ b, b < 2 → a ≠ b → ((TX3 a).2.1 ≠ (TX3 b).2.1 ∨ ((TX3 a).1 ≠ (TX3 b).1 ∧ (TX3 a).2.2.2 = true ∧ (TX3 b).2.2.2 = true)) := by decide +kernel
theorem am_nm_5 : ∀ a, a < 6 → ∀ b, b < 6 → a ≠ b → ((TX4 a).2.1 ≠ (TX4 b).2.1 ∨ ((TX4 a).1 ≠ (TX4 b).1 ∧ (TX4 a).2.2.2 = true ∧ (TX4 b).2.2.2 = true)) := by decide +kernel
theorem am_nm_6 : ∀ a, a < 1 → ∀ b, b < 1 → a ≠ b → ((TX5 a).2.1 ≠ (TX5 b).2.1 ∨ ((TX5 a).1 ≠ (TX5 b).1 ∧ (TX5 a).2.2.2 = true ∧ (TX5 b).2.2.2 = true)) := by decide +kernel
theorem am_nm_7 : ∀ a, a < 5 → ∀ b, b < 5 → a ≠ b → ((TX6 a).2.1 ≠ (TX6 b).2.1 ∨ ((TX6 a).1 ≠ (TX6 b).1 ∧ (TX6 a).2.2.2 = true ∧ (TX6 b).2.2.2 = true)) := by decide +kernel
theorem am_nm_8 : ∀ a, a < 4 → ∀ b, b < 4 → a ≠ b → ((TX7 a).2.1 ≠ (TX7 b).2.1 ∨ ((TX7 a).1 ≠ (TX7 b).1 ∧ (TX7 a).2.2.2 = true ∧ (TX7 b).2.2.2 = true)) := by decide +kernel
theorem am_nm_9 : ∀ a, a < 68 → ∀ b, b < 68 → a ≠ b → ((TX8 a).2.1 ≠ (TX8 b).2.1 ∨ ((TX8 a).1 ≠ (TX8 b).1 ∧ (TX8 a).2.2.2 = true ∧ (TX8 b).2.2.2 = true)) := by decide +kernel
theorem am_nm_10 : ∀ a, a < 5 → ∀ b, b < 5 → a ≠ b → ((TX9 a).2.1 ≠ (TX9 b).2.1 ∨ ((TX9 a).1 ≠ (TX9 b).1 ∧ (TX9 a).2.2.2 = true ∧ (TX9 b).2.2.2 = true)) := by decide +kernel
theorem am_nm_11 : ∀ a, a < 7 → ∀ b, b < 7 → a ≠ b → ((TX10 a).2.1 ≠ (TX10 b).2.1 ∨ ((TX10 a).1 ≠ (TX10 b).1 ∧ (TX10 a).2.2.2 = true ∧ (TX10 b).2.2.2 = true)) := by decide +kernel
theorem am_nm_13 : ∀ a, a < 6 → ∀ b, b < 6 → a ≠ b → ((TX12 a).2.1 ≠ (TX12 b).2.1 ∨ ((TX12 a).1 ≠ (TX12 b).1 ∧ (TX12 a).2.2.2 = true ∧ (TX12 b).2.2.2 = true)) := by decide +kernel
theorem am_nm_14 : ∀ a, a < 5 → ∀ b, b < 5 → a ≠ b → ((TX13 a).2.1 ≠ (TX13 b).2.1 ∨ ((TX13 a).1 ≠ (TX13 b).1 ∧ (TX13 a).2.2.2 = true ∧ (TX13 b).2.2.2 = true)) := by decide +kernel
theorem am_nm_15 : ∀ a, a < 5 → ∀ b, b < 5 → a ≠ b → ((TX14 a).2.1 ≠ (TX14 b).2.1 ∨ ((TX14 a).1 ≠ (TX14 b).1 ∧ (TX14 a).2.2.2 = true ∧ (TX14 b).2.2.2 = true)) := by decide +kernel
theorem am_nm_16 : ∀ a, a < 6 → ∀ b, b < 6 → a ≠ b → ((TX15 a).2.1 ≠ (TX15 b).2.1 ∨ ((TX15 a).1 ≠ (TX15 b).1 ∧ (TX15 a).2.2.2 = true ∧ (TX15 b).2.2.2 = true)) := by decide +kernel
theorem am_nm_17 : ∀ a, a < 7 → ∀ b, b < 7 → a ≠ b → ((TX16 a).2.1 ≠ (TX16 b).2.1 ∨ ((TX16 a).1 ≠ (TX16 b).1 ∧ (TX16 a).2.2.2 = true ∧ (TX16 b).2.2.2 = true)) := by decide +kernel
theorem am_nm_30 : ∀ a, a < 2 → ∀ b, b < 2 → a ≠ b → ((TJ3 a).2.1 ≠ (TJ3 b).2.1 ∨ ((TJ3 a).1 ≠ (TJ3 b).1 ∧ (TJ3 a).2.2.2 = true ∧ (TJ3 b).2.2.2 = true)) := by decide +kernel
theorem am_nm : ∀ t, am_isO t = true → ∀ a, a < am_cF t → ∀ b, b < am_cF t → a ≠ b → ((am_cT t a).2.1 ≠ (am_cT t b).2.1 ∨ ((am_cT t a).1 ≠ (am_cT t b).1 ∧ (am_cT t a).2.2.2 = true ∧ (am_cT t b).2.2.2 = true)) := am_O am_nm_1 am_nm_2 am_nm_4 am_nm_5 am_nm_6 am_nm_7 am_nm_8 am_nm_9 am_nm_10 am_nm_11 am_nm_13 am_nm_14 am_nm_15 am_nm_16 am_nm_17 am_nm_30
theorem am_clsName {vm : Vm} {n : String} {ci : ClassId} {k : Class} (h : vm.findClass n = some ci) (hk : vm.classes[ci]? = some k) : k.name = n := by
  obtain ⟨hlt, hp, -⟩ := Array.findIdx?_eq_some_iff_getElem.mp h
  rw [Array.getElem?_eq_getElem hlt] at hk
  cases hk
  simp only [Bool.and_eq_true, beq_iff_eq] at hp
  exact hp.1.1.1
theorem am_apF {args : Array Value} {s : State} {C O f d O' f' d' : String} (h : (Jvm.Cond.laysFinal C O f d).before args s = true) (h' : (Jvm.Cond.laysFinal C O' f' d').before args s = true) {cf kf fi fd cf' kf' fi' fd'} (hi : s.fieldFound? O f d = some (cf, kf, fi, fd)) (hi' : s.fieldFound? O' f' d' = some (cf', kf', fi', fd')) (hne : O ≠ O') : fd.slot ≠ fd'.slot := by
  obtain ⟨c1, k1, c2, k2, i2, f2, a1, a2, a3, a4, a5, a6, a7, a8, dd, a9, a10, a11, a12⟩ := Cond.laysFinal_spec h
  obtain ⟨c1', k1', c2', k2', i2', f2', b1, b2, b3, b4, b5, b6, b7, b8, dd', b9, b10, b11, b12⟩ := Cond.laysFinal_spec h'
  cases hi.symm.trans a3
  cases hi'.symm.trans b3
  cases a1.symm.trans b1
  intro hs
  rw [hs] at a9
  cases a9.symm.trans b9
  have n1 := am_clsName a7 (State.fieldFound?_spec hi).1
  have n2 := am_clsName b7 (State.fieldFound?_spec hi').1
  exact hne (by rw [← n1, ← n2, ← a10, ← b10])
theorem am_slots {s : State} {args : Array Value} {t : Int} {ci : ClassId} {iS : Nat → Nat} (hts : ∀ w ∈ lw_all, w.before args s = true) (ho : am_isO t = true) (hK : u_Kn s (am_cN t) (am_cT t) (am_cF t) ci iS) : ∀ x y, x < am_cF t → y < am_cF t → x ≠ y → iS x ≠ iS y := by
  intro x y hx hy hne
  obtain ⟨cf, kf, fi, fa, hia, ea⟩ := hK.1 x hx
  obtain ⟨cf', kf', fi', fb, hib, eb⟩ := hK.1 y hy
  rw [← ea, ← eb]
  rcases am_nm t ho x hx y hy hne with h | ⟨h, f1, f2⟩
  · refine u_apart (u_lays hts (am_inW t ho) hx) (u_lays hts (am_inW t ho) hy) hia hib ?_
    rw [(State.fieldFound?_type hia (am_tyok t ho x hx)).1, (State.fieldFound?_type hib (am_tyok t ho y hy)).1]
    exact h
  · have l1 := hts _ (am_inW t ho _ (u_in_lay hx))
    have l2 := hts _ (am_inW t ho _ (u_in_lay hy))
    unfold u_lay at l1 l2
    rw [if_pos f1] at l1
    rw [if_pos f2] at l2
    exact am_apF l1 l2 hia hib h
/-- a type's default is the abstract 0 -/
theorem am_default (ad : Int → Nat) (fm : Value) (y : FieldType) (h : y ≠ .float ∧ y ≠ .double) : defaultValue y = am_w ad fm (am_tc y) 0 := by
  cases y with
  | float => exact absurd rfl h.1
  | double => exact absurd rfl h.2
  | object n => show Value.null = am_rv ad fm 0; unfold am_rv; rw [if_pos rfl]
  | array t => show Value.null = am_rv ad fm 0; unfold am_rv; rw [if_pos rfl]
  | _ => rfl
theorem am_nf_1 : ∀ k, k < 47 → (tyX0 k ≠ .float ∧ tyX0 k ≠ .double) := by decide +kernel
theorem am_nf_2 : ∀ k, k < 10 → (tyX1 k ≠ .float ∧ tyX1 k ≠ .double) := by decide +kernel
theorem am_nf_4 : ∀ k, k < 2 → (tyX3 k ≠ .float ∧ tyX3 k ≠ .double) := by decide +kernel
theorem am_nf_5 : ∀ k, k < 6 → (tyX4 k ≠ .float ∧ tyX4 k ≠ .double) := by decide +kernel
theorem am_nf_6 : ∀ k, k < 1 → (tyX5 k ≠ .float ∧ tyX5 k ≠ .double) := by decide +kernel
theorem am_nf_7 : ∀ k, k < 5 → (tyX6 k ≠ .float ∧ tyX6 k ≠ .double) := by decide +kernel
theorem am_nf_8 : ∀ k, k < 4 → (tyX7 k ≠ .float ∧ tyX7 k ≠ .double) := by decide +kernel
theorem am_nf_9 : ∀ k, k < 68 → (tyX8 k ≠ .float ∧ tyX8 k ≠ .double) := by decide +kernel
theorem am_nf_10 : ∀ k, k < 5 → (tyX9 k ≠ .float ∧ tyX9 k ≠ .double) := by decide +kernel
theorem am_nf_11 : ∀ k, k < 7 → (tyX10 k ≠ .float ∧ tyX10 k ≠ .double) := by decide +kernel
theorem am_nf_13 : ∀ k, k < 6 → (tyX12 k ≠ .float ∧ tyX12 k ≠ .double) := by decide +kernel
theorem am_nf_14 : ∀ k, k < 5 → (tyX13 k ≠ .float ∧ tyX13 k ≠ .double) := by decide +kernel
theorem am_nf_15 : ∀ k, k < 5 → (tyX14 k ≠ .float ∧ tyX14 k ≠ .double) := by decide +kernel
theorem am_nf_16 : ∀ k, k < 6 → (tyX15 k ≠ .float ∧ tyX15 k ≠ .double) := by decide +kernel
theorem am_nf_17 : ∀ k, k < 7 → (tyX16 k ≠ .float ∧ tyX16 k ≠ .double) := by decide +kernel
theorem am_nf_30 : ∀ k, k < 2 → (tyJ3 k ≠ .float ∧ tyJ3 k ≠ .double) := by decide +kernel
theorem am_nf : ∀ t, am_isO t = true → ∀ k, k < am_cF t → (am_cY t k ≠ .float ∧ am_cY t k ≠ .double) := am_O am_nf_1 am_nf_2 am_nf_4 am_nf_5 am_nf_6 am_nf_7 am_nf_8 am_nf_9 am_nf_10 am_nf_11 am_nf_13 am_nf_14 am_nf_15 am_nf_16 am_nf_17 am_nf_30
