/-! needs: 32.wd 52a -/
/-! THE WORLD AT THE START; by tools/genstart.py -/
set_option maxRecDepth 100000
def st_tm (k : Nat) : Term := .string "ArmsHouse" k
def st_vl (k : Nat) : Term := .field (st_tm k) "java/lang/String" "value" "[B"
def st_el (t : Term) (l : List Int) : List Jvm.Cond := (List.range l.length).map (fun j => Jvm.Cond.eq (.elem t (.int (Int32.ofNat j))) (.int (Int32.ofInt (l.getD j 0))))
def st_w (k : Nat) (l : List Int) : List Jvm.Cond := [Jvm.Cond.exactly (st_tm k) "java/lang/String", .eq (.field (st_tm k) "java/lang/String" "coder" "B") (.int 0), .arrayOf (st_vl k) .byte, .eq (.length (st_vl k)) (.int (Int32.ofNat l.length))] ++ st_el (st_vl k) l
def st_sw (n : String) (l : List Int) : List Jvm.Cond := [Jvm.Cond.isRef (.static "ArmsHouse" n "[I"), .arrayOf (.static "ArmsHouse" n "[I") .int, .eq (.length (.static "ArmsHouse" n "[I")) (.int (Int32.ofNat l.length))] ++ st_el (.static "ArmsHouse" n "[I") l
def am_fl : List Jvm.Cond := flatC (Jvm.Cond.and given_1 narrow_1)
def st_ws : List Jvm.Cond := (List.zip st_ix st_by).flatMap (fun q => st_w q.1 q.2)
theorem st_sl : (am_fl.drop 354).take st_ws.length = st_ws := by decide +kernel
theorem st_s1 : (am_fl.drop 11).take (st_sw "WAVES" st_waves).length = st_sw "WAVES" st_waves := by decide +kernel
theorem st_s2 : (am_fl.drop 22).take (st_sw "ROWS" st_rows).length = st_sw "ROWS" st_rows := by decide +kernel
theorem st_s3 : (am_fl.drop 38).take (st_sw "KINDS" st_kinds).length = st_sw "KINDS" st_kinds := by decide +kernel
theorem st_of {l : List Jvm.Cond} {k : Nat} (h : (am_fl.drop k).take l.length = l) : ∀ w ∈ l, w ∈ am_fl := by
  intro w hw
  rw [← h] at hw
  exact List.mem_of_mem_drop (List.mem_of_mem_take hw)
theorem st_zip : ∀ i, i < 67 → (st_ix.getD i 0, st_by.getD i []) ∈ List.zip st_ix st_by := by decide +kernel
theorem st_str {i : Nat} (hi : i < 67) : ∀ w ∈ st_w (st_ix.getD i 0) (st_by.getD i []), w ∈ am_fl := by
  intro w hw
  exact st_of st_sl w (List.mem_flatMap.mpr ⟨_, st_zip i hi, hw⟩)
/-- an array given by its words -/
theorem am_Tx {args : Array Value} {s : State} {tm : Term} {ty : FieldType} {l : List Int} (hN : l.length < 2 ^ 31) (harr : (Jvm.Cond.arrayOf tm ty).before args s = true) (hlen : (Jvm.Cond.eq (.length tm) (.int (Int32.ofNat l.length))).before args s = true) (hel : ∀ w ∈ st_el tm l, w.before args s = true) :
    ∃ t cell, tm.eval args s none [] s = some (.ref t) ∧ s.heap[t]? = some cell ∧ s.isArrayOf cell ty ∧ cell.vm ≠ .unknown ∧ cell.slots.size = l.length ∧ ∀ j : Nat, j < l.length → cell.slots[j]? = some (.int (Int32.ofInt (l.getD j 0))) := by
  have hl := va_eqt hlen
  obtain ⟨t, ht, cell, hc, hof, hkn, h1, h2, h3, -⟩ := va_Tof (args := args) (s := s) (tm := tm) (ty := ty) (N := l.length) (f := fun j => .int (Int32.ofInt (l.getD j 0))) (A := fun _ => False) hN harr hl (fun j hj => va_eqt (hel _ (List.mem_map.mpr ⟨j, List.mem_range.mpr hj, rfl⟩))) (fun _ _ h => h)
  refine ⟨t, cell, ht, hc, hof, hkn, ?_, h3⟩
  obtain ⟨t', cell', e1, e2, e3⟩ := Term.length_spec hl
  cases ht.symm.trans e1
  have hcc := (State.arrayAt?_spec e2).1
  cases hc.symm.trans hcc
  have hlt : cell.slots.size < 2 ^ 31 := by
    simp only [Term.eval, ht, e2, Option.bind_eq_bind, Option.bind_some] at hl
    by_cases q : cell.slots.size < 2 ^ 31
    · exact q
    · rw [if_neg q] at hl
      cases hl
  have e : Int32.ofNat cell.slots.size = Int32.ofNat l.length := h2
  have := congrArg Int32.toNatClampNeg e
  rw [Int32.toNatClampNeg_ofNat_of_lt hlt, Int32.toNatClampNeg_ofNat_of_lt hN] at this
  exact this
theorem am_nst {s : State} {cell : Cell} {ty : FieldType} (h : s.isArrayOf cell ty) : cell.vm.isStatics = false := by
  obtain ⟨h1, -⟩ := h
  cases hv : cell.vm with
  | statics k => exact absurd hv (h1 k)
  | _ => rfl
theorem am_AoT {s : State} {cell : Cell} {ty : FieldType} (h : s.isArrayOf cell ty) : ArrOfT s cell.cls ty := fun n z => ⟨fun k q => (by cases q), h.2⟩
section Start
variable {s : State} {b L : Nat} {xs : Nat → Int32}
theorem st_nF_tb : ∀ q ∈ am_fN_0, Jvm.Cond.fieldLinkNest (am_on q.1) q.2.1 (am_cT q.2.2.1 q.2.2.2).1 (am_cT q.2.2.1 q.2.2.2).2.1 (am_cT q.2.2.1 q.2.2.2).2.2.1 "ArmsHouse" ∈ lw_tbl := List.forall_mem_cons.mpr ⟨q574, List.forall_mem_cons.mpr ⟨q576, List.forall_mem_cons.mpr ⟨q572, List.forall_mem_cons.mpr ⟨q545, List.forall_mem_cons.mpr ⟨q539, fun _ h => absurd h List.not_mem_nil⟩⟩⟩⟩⟩
theorem st_nM_tb : ∀ q ∈ am_mN_0, Jvm.Cond.methodLinkNest (am_on q.1) q.2.1 (am_mn q.2.2) "ArmsHouse" ∈ lw_tbl := List.forall_mem_cons.mpr ⟨q458, List.forall_mem_cons.mpr ⟨q262, List.forall_mem_cons.mpr ⟨q1119, List.forall_mem_cons.mpr ⟨q399, List.forall_mem_cons.mpr ⟨q531, List.forall_mem_cons.mpr ⟨q857, List.forall_mem_cons.mpr ⟨q1317, List.forall_mem_cons.mpr ⟨q494, List.forall_mem_cons.mpr ⟨q1604, fun _ h => absurd h List.not_mem_nil⟩⟩⟩⟩⟩⟩⟩⟩⟩
theorem st_cs_tb : ∀ q ∈ am_cs, Jvm.Cond.castable (am_on q.1) (am_on q.2) ∈ lw_tbl := List.forall_mem_cons.mpr ⟨q2531, List.forall_mem_cons.mpr ⟨q2532, List.forall_mem_cons.mpr ⟨q2533, List.forall_mem_cons.mpr ⟨q2534, List.forall_mem_cons.mpr ⟨q2535, List.forall_mem_cons.mpr ⟨q1525, List.forall_mem_cons.mpr ⟨q1578, List.forall_mem_cons.mpr ⟨q1589, List.forall_mem_cons.mpr ⟨q1531, fun _ h => absurd h List.not_mem_nil⟩⟩⟩⟩⟩⟩⟩⟩⟩
theorem st_ov_tb : ∀ q ∈ am_ov, Jvm.Cond.arrayOver (.object q) ∈ lw_tbl := List.forall_mem_cons.mpr ⟨q190, List.forall_mem_cons.mpr ⟨q259, List.forall_mem_cons.mpr ⟨q306, List.forall_mem_cons.mpr ⟨q308, List.forall_mem_cons.mpr ⟨q389, fun _ h => absurd h List.not_mem_nil⟩⟩⟩⟩⟩
theorem st_dl_tb : ∀ q ∈ am_dl, Jvm.Cond.declares q ∈ lw_tbl := List.forall_mem_cons.mpr ⟨q1475, List.forall_mem_cons.mpr ⟨q1482, List.forall_mem_cons.mpr ⟨q1492, List.forall_mem_cons.mpr ⟨q1498, fun _ h => absurd h List.not_mem_nil⟩⟩⟩⟩
theorem st_xc_tb : ∀ q ∈ am_xc, Jvm.Cond.castable q.1 q.2 ∈ lw_tbl := List.forall_mem_cons.mpr ⟨q979, List.forall_mem_cons.mpr ⟨q981, List.forall_mem_cons.mpr ⟨q938, List.forall_mem_cons.mpr ⟨q1442, List.forall_mem_cons.mpr ⟨q1472, fun _ h => absurd h List.not_mem_nil⟩⟩⟩⟩⟩
theorem st_xd_tb : ∀ q ∈ am_xd, Jvm.Cond.declares q ∈ lw_tbl := List.forall_mem_cons.mpr ⟨q312, List.forall_mem_cons.mpr ⟨q314, List.forall_mem_cons.mpr ⟨q316, List.forall_mem_cons.mpr ⟨q313, List.forall_mem_cons.mpr ⟨q315, List.forall_mem_cons.mpr ⟨q317, List.forall_mem_cons.mpr ⟨q940, fun _ h => absurd h List.not_mem_nil⟩⟩⟩⟩⟩⟩⟩
theorem st_fc_tb : ∀ q ∈ am_fc, Jvm.Cond.declares q.2.1 ∈ lw_tbl ∧ Jvm.Cond.interfaceMethod q.2.1.cls q.2.1.cls q.2.1.name q.2.1.desc ∈ lw_tbl ∧ Jvm.Cond.publicMethod (am_mn q.2.2) ∈ lw_tbl ∧ Jvm.Cond.unhidden (am_cN q.1) q.2.1.name q.2.1.desc ∈ lw_tbl ∧ Jvm.Cond.castable (am_cN q.1) q.2.1.cls ∈ lw_tbl := List.forall_mem_cons.mpr ⟨⟨q1524, q1523, q1529, q1527, q1525⟩, List.forall_mem_cons.mpr ⟨⟨q1524, q1523, q1582, q1580, q1578⟩, List.forall_mem_cons.mpr ⟨⟨q1524, q1523, q1535, q1590, q1589⟩, List.forall_mem_cons.mpr ⟨⟨q1524, q1523, q1535, q1533, q1531⟩, List.forall_mem_cons.mpr ⟨⟨q1540, q1539, q1557, q1555, q1553⟩, List.forall_mem_cons.mpr ⟨⟨q1540, q1539, q1551, q1549, q1547⟩, List.forall_mem_cons.mpr ⟨⟨q1562, q1561, q1576, q1574, q1553⟩, List.forall_mem_cons.mpr ⟨⟨q1562, q1561, q1571, q1569, q1547⟩, fun _ h => absurd h List.not_mem_nil⟩⟩⟩⟩⟩⟩⟩⟩
theorem st_nc : ∀ q ∈ am_nc, Jvm.Cond.not (.castable (am_on q.1) (am_on q.2)) ∈ am_fl := by decide +kernel
def st_xs : List Int := [3, 61, 62, 63, 64]
theorem st_xx : ∀ j ∈ st_xs, ∀ k ∈ st_xs, j = k ∨ Jvm.Cond.not (.castable (am_xn j) (am_xn k)) ∈ am_fl := by decide +kernel
theorem st_xi : ∀ j ∈ st_xs, ∃ n, Jvm.Cond.instantiable (am_xn j) n ∈ lw_tbl := List.forall_mem_cons.mpr ⟨⟨6, (List.mem_filter.mp q310).1⟩, List.forall_mem_cons.mpr ⟨⟨6, (List.mem_filter.mp q916).1⟩, List.forall_mem_cons.mpr ⟨⟨8, (List.mem_filter.mp q351).1⟩, List.forall_mem_cons.mpr ⟨⟨6, (List.mem_filter.mp q1431).1⟩, List.forall_mem_cons.mpr ⟨⟨6, (List.mem_filter.mp q1461).1⟩, fun _ h => absurd h List.not_mem_nil⟩⟩⟩⟩⟩
theorem st_oi : ∀ t, am_isO t = true → ∃ n, Jvm.Cond.instantiable (am_cN t) n ∈ lw_tbl := am_O ⟨47, (List.mem_filter.mp q182).1⟩ ⟨10, (List.mem_filter.mp q261).1⟩ ⟨2, (List.mem_filter.mp q390).1⟩ ⟨6, (List.mem_filter.mp q392).1⟩ ⟨1, (List.mem_filter.mp q398).1⟩ ⟨5, (List.mem_filter.mp q457).1⟩ ⟨4, (List.mem_filter.mp q488).1⟩ ⟨68, (List.mem_filter.mp q1691).1⟩ ⟨5, (List.mem_filter.mp q851).1⟩ ⟨7, (List.mem_filter.mp q1118).1⟩ ⟨6, (List.mem_filter.mp q1308).1⟩ ⟨5, (List.mem_filter.mp q1350).1⟩ ⟨5, (List.mem_filter.mp q1366).1⟩ ⟨6, (List.mem_filter.mp q1382).1⟩ ⟨7, (List.mem_filter.mp q1401).1⟩ ⟨4, (List.mem_filter.mp q942).1⟩
theorem st_gT : ∀ q ∈ am_gT, q.1 = 1 ∧ q.2.2 < 67 ∧ q.2.1 = st_ix.getD q.2.2 0 := by decide +kernel
theorem st_gT_0 : ∀ q ∈ am_gT_0, Jvm.Cond.stringRef (am_on q.1) q.2.1 (am_tx q.2.2) ∈ lw_tbl := List.forall_mem_cons.mpr ⟨q191, List.forall_mem_cons.mpr ⟨q192, List.forall_mem_cons.mpr ⟨q193, List.forall_mem_cons.mpr ⟨q194, List.forall_mem_cons.mpr ⟨q195, List.forall_mem_cons.mpr ⟨q196, List.forall_mem_cons.mpr ⟨q197, List.forall_mem_cons.mpr ⟨q198, List.forall_mem_cons.mpr ⟨q199, List.forall_mem_cons.mpr ⟨q200, List.forall_mem_cons.mpr ⟨q201, List.forall_mem_cons.mpr ⟨q202, List.forall_mem_cons.mpr ⟨q203, List.forall_mem_cons.mpr ⟨q204, List.forall_mem_cons.mpr ⟨q205, List.forall_mem_cons.mpr ⟨q206, List.forall_mem_cons.mpr ⟨q207, List.forall_mem_cons.mpr ⟨q208, List.forall_mem_cons.mpr ⟨q209, List.forall_mem_cons.mpr ⟨q210, List.forall_mem_cons.mpr ⟨q211, List.forall_mem_cons.mpr ⟨q212, List.forall_mem_cons.mpr ⟨q213, List.forall_mem_cons.mpr ⟨q214, List.forall_mem_cons.mpr ⟨q215, fun _ h => absurd h List.not_mem_nil⟩⟩⟩⟩⟩⟩⟩⟩⟩⟩⟩⟩⟩⟩⟩⟩⟩⟩⟩⟩⟩⟩⟩⟩⟩
theorem st_gT_1 : ∀ q ∈ am_gT_1, Jvm.Cond.stringRef (am_on q.1) q.2.1 (am_tx q.2.2) ∈ lw_tbl := List.forall_mem_cons.mpr ⟨q216, List.forall_mem_cons.mpr ⟨q217, List.forall_mem_cons.mpr ⟨q218, List.forall_mem_cons.mpr ⟨q219, List.forall_mem_cons.mpr ⟨q220, List.forall_mem_cons.mpr ⟨q221, List.forall_mem_cons.mpr ⟨q222, List.forall_mem_cons.mpr ⟨q223, List.forall_mem_cons.mpr ⟨q224, List.forall_mem_cons.mpr ⟨q225, List.forall_mem_cons.mpr ⟨q226, List.forall_mem_cons.mpr ⟨q227, List.forall_mem_cons.mpr ⟨q228, List.forall_mem_cons.mpr ⟨q229, List.forall_mem_cons.mpr ⟨q230, List.forall_mem_cons.mpr ⟨q231, List.forall_mem_cons.mpr ⟨q232, List.forall_mem_cons.mpr ⟨q233, List.forall_mem_cons.mpr ⟨q234, List.forall_mem_cons.mpr ⟨q235, List.forall_mem_cons.mpr ⟨q236, List.forall_mem_cons.mpr ⟨q237, List.forall_mem_cons.mpr ⟨q238, List.forall_mem_cons.mpr ⟨q239, List.forall_mem_cons.mpr ⟨q240, fun _ h => absurd h List.not_mem_nil⟩⟩⟩⟩⟩⟩⟩⟩⟩⟩⟩⟩⟩⟩⟩⟩⟩⟩⟩⟩⟩⟩⟩⟩⟩
theorem st_gT_2 : ∀ q ∈ am_gT_2, Jvm.Cond.stringRef (am_on q.1) q.2.1 (am_tx q.2.2) ∈ lw_tbl := List.forall_mem_cons.mpr ⟨q241, List.forall_mem_cons.mpr ⟨q242, List.forall_mem_cons.mpr ⟨q243, List.forall_mem_cons.mpr ⟨q244, List.forall_mem_cons.mpr ⟨q245, List.forall_mem_cons.mpr ⟨q246, List.forall_mem_cons.mpr ⟨q247, List.forall_mem_cons.mpr ⟨q248, List.forall_mem_cons.mpr ⟨q249, List.forall_mem_cons.mpr ⟨q250, List.forall_mem_cons.mpr ⟨q251, List.forall_mem_cons.mpr ⟨q252, List.forall_mem_cons.mpr ⟨q253, List.forall_mem_cons.mpr ⟨q254, List.forall_mem_cons.mpr ⟨q255, List.forall_mem_cons.mpr ⟨q256, List.forall_mem_cons.mpr ⟨q257, fun _ h => absurd h List.not_mem_nil⟩⟩⟩⟩⟩⟩⟩⟩⟩⟩⟩⟩⟩⟩⟩⟩⟩
theorem st_gT_tb : ∀ q ∈ am_gT, Jvm.Cond.stringRef (am_on q.1) q.2.1 (am_tx q.2.2) ∈ lw_tbl := List.forall_mem_append.mpr ⟨st_gT_0, List.forall_mem_append.mpr ⟨st_gT_1, st_gT_2⟩⟩
theorem st_le : ∀ i, i < 67 → ∀ j, j < 40 → (st_by.getD i []).length ≤ 40 ∧ 0 ≤ (st_by.getD i []).getD j 0 ∧ (st_by.getD i []).getD j 0 ≤ 255 := by decide +kernel
def st_kd : Option Int → List Int := fun _ => []
theorem st_i32 (x : Int32) : Int32.ofInt x.toInt = x := Int32.ofInt_toInt x
theorem st_vok (x : Int32) : am_vok (.inl x.toInt) := ⟨Int32.le_toInt x, by have := Int32.toInt_lt x; omega⟩
/-- a constant array: its cell -/
theorem st_arr {ad : Int → Nat} {fm : Value} {cid : Int → ClassId} {slo : Int → Nat → Nat} {N : Int → Nat} {ft : Int → Nat → Nat} {m : aM} {r t : Int} {l : List Int} {cell : Cell} (hr : r < 0) (hm : ∀ j, m r j = am_ar t l j) (hA : am_isA t = true) (hw : am_aw t = 0) (hc : s.heap[ad r]? = some cell) (hcl : cell.cls = cid t) {ty : FieldType} (hof : s.isArrayOf cell ty) (hkn : cell.vm ≠ .unknown) (hsz : cell.slots.size = l.length) (hlen : l.length < 2 ^ 31) (hel : ∀ j : Nat, j < l.length → cell.slots[j]? = some (.int (Int32.ofInt (l.getD j 0)))) (hb : ∀ j : Nat, j < l.length → -2147483648 ≤ l.getD j 0 ∧ l.getD j 0 ≤ 2147483647) : am_cell s ad fm cid slo N ft m s.heap r := by
  have e1 : m r (-1) = t := by rw [hm]; rfl
  have e2 : m r (-2) = l.length := by rw [hm]; rfl
  refine ⟨cell, hc, by rw [e1]; exact hcl, hkn, am_nst hof, fun h => by omega, fun _ => (Array.getElem?_eq_some_iff.mp hc).1, Or.inr (Or.inl ⟨by rw [e1]; exact hA, by rw [e2]; omega, by rw [e2, hsz]; omega, by rw [e2]; omega, fun j hj => ?_⟩)⟩
  rw [e2] at hj
  have e3 : m r (j : Int) = l.getD j 0 := by
    rw [hm]
    unfold am_ar
    rw [if_neg (by omega), if_neg (by omega), if_pos (by omega)]
    rfl
  rw [e1, hw, e3]
  exact ⟨hel j (by omega), hb j (by omega)⟩
theorem st_rl : ∀ j : Nat, j < 13 → -2147483648 ≤ st_rows.getD j 0 ∧ st_rows.getD j 0 ≤ 2147483647 := by decide +kernel
theorem st_wl : ∀ j : Nat, j < 8 → -2147483648 ≤ st_waves.getD j 0 ∧ st_waves.getD j 0 ≤ 2147483647 := by decide +kernel
theorem st_kl : ∀ j : Nat, j < 9 → -2147483648 ≤ st_kinds.getD j 0 ∧ st_kinds.getD j 0 ≤ 2147483647 := by decide +kernel
theorem st_lens : ∀ i, i < 67 → (st_by.getD i []).length ≤ 40 := by decide +kernel
theorem st_ft : am_ft 30 0 = 2 ∧ am_ft 30 1 = 0 ∧ am_cF 30 = 2 := by decide +kernel
theorem st_asg {s : State} {j k : Int} (hj : j ∈ st_xs) (hk : k ∈ st_xs) {cj ck : ClassId} (h1 : ClassAt s (am_xn j) cj) (h2 : ClassAt s (am_xn k) ck) {A : Array Value} (hgv : ∀ w ∈ am_fl, w.before A s = true) : s.vm.assignable cj ck = decide (j = k) := by
  rcases st_xx j hj k hk with rfl | h
  · cases h1.1.symm.trans h2.1
    rw [va_assign h1]
    simp
  · have hne : j ≠ k := by
      intro e
      subst e
      obtain ⟨c, t, f1, f2, f3⟩ := va_Nc.of (hgv _ h)
      cases h1.1.symm.trans f1
      cases h1.1.symm.trans f2
      rw [va_assign h1] at f3
      cases f3
    obtain ⟨c, t, f1, f2, f3⟩ := va_Nc.of (hgv _ h)
    cases h1.1.symm.trans f1
    cases h2.1.symm.trans f2
    rw [f3, decide_eq_false hne]
theorem st_isX {t : Int} (h : am_isX t = true) : t ∈ st_xs := by
  unfold am_isX at h
  simp only [Bool.or_eq_true, Bool.and_eq_true, decide_eq_true_eq] at h
  simp only [st_xs, List.mem_cons, List.not_mem_nil, or_false]
  omega
theorem st_ca {A : Array Value} {C : String} {n : Nat} (h : (Jvm.Cond.instantiable C n).before A s = true) : ∃ c, ClassAt s C c := by
  obtain ⟨cC, kC, hfc, hk, hkind, -⟩ := Cond.instantiable_spec h
  exact ⟨cC, hfc, kC, hk, hkind⟩
theorem st_cy : ∀ t, am_isO t = true → ∀ k, k < am_cF t → True := fun _ _ _ _ => trivial
theorem am_O_X {t : Int} (h : am_isO t = true) : am_isX t = false := (am_isO_no h).2.1
theorem st_isOle {t : Int} (h : am_isO t = true) : t ≤ 30 := by
  unfold am_isO at h
  simp only [List.elem_eq_mem, List.mem_cons, List.not_mem_nil, or_false, decide_eq_true_eq] at h
  omega
theorem st_ra (hts : ∀ w ∈ lw_tbl, w.before #[Value.ref b] s = true) {t : Int} (h : 40 ≤ t ∧ t ≤ 48) : ∃ c, ArrOfT s c (am_aty t) ∧ va_RA s c (am_aty t) := by
  have prim : ∀ {ty : FieldType}, (Jvm.Cond.arrayClass ty).before #[Value.ref b] s = true → ∃ c, ArrOfT s c ty ∧ s.vm.findClass ("[" ++ ty.toString) = some c := by
    intro ty hw
    obtain ⟨c, k, comp, f1, f2, f3⟩ := Cond.arrayClass_spec hw
    exact ⟨c, fun n z => ⟨fun k q => (by cases q), k, f2, comp, f3⟩, f1⟩
  have obj : ∀ {C : String}, C ∈ am_ov → ∃ c, ArrOfT s c (.object C) ∧ va_RA s c (.object C) := by
    intro C hC
    obtain ⟨comp, c, k, f1, -, f3, f4, f5⟩ := Cond.arrayOver_spec (hts _ (st_ov_tb C hC))
    exact ⟨c, fun n z => ⟨fun k q => (by cases q), k, f3, comp, f4⟩, k, comp, f3, f4, f1, f5⟩
  have hh : t = 40 ∨ t = 41 ∨ t = 42 ∨ t = 43 ∨ t = 44 ∨ t = 45 ∨ t = 46 ∨ t = 47 ∨ t = 48 := by omega
  rcases hh with rfl | rfl | rfl | rfl | rfl | rfl | rfl | rfl | rfl
  · exact prim (ty := .int) (hts _ (List.mem_filter.mp q303).1)
  · exact prim (ty := .long) (hts _ (List.mem_filter.mp q1990).1)
  · exact prim (ty := .boolean) (hts _ (List.mem_filter.mp q304).1)
  · exact prim (ty := .byte) (hts _ (List.mem_filter.mp q302).1)
  · exact obj (C := "java/lang/String") (by decide)
  · exact obj (C := "ArmsHouse$Layer") (by decide)
  · exact obj (C := "ArmsHouse$Arms") (by decide)
  · exact obj (C := "ArmsHouse$Person") (by decide)
  · exact obj (C := "ArmsHouse$Node") (by decide)
/-- a default method that a class lands in -/
theorem st_df {A : Array Value} {C : String} {x y : MethodName} (h : (Jvm.Cond.landsInDefault C x y).before A s = true) : ∃ c r m, s.vm.findClass C = some c ∧ s.methodFound? x.cls x.name x.desc = some r ∧ s.methodNamed? y = some m ∧ selectMethod {} s.vm c r = .method m := by
  simp only [Cond.before, Cond.holds, Cond.value] at h
  cases h1 : s.vm.findClass C with
  | none => simp [h1] at h
  | some c =>
    cases h2 : s.methodFound? x.cls x.name x.desc with
    | none => simp [h1, h2] at h
    | some r =>
      cases h3 : s.methodNamed? y with
      | none => simp [h1, h2, h3] at h
      | some m =>
        cases h4 : s.vm.method? r with
        | none => simp [h1, h2, h3, h4] at h
        | some rm =>
          simp only [h1, h2, h3, h4, Option.map_some, beq_iff_eq, Option.some.injEq] at h
          split at h
          · rename_i m' hs
            simp only [Bool.and_eq_true, decide_eq_true_eq] at h
            have e := h.1.1.1.1
            subst e
            exact ⟨c, r, _, rfl, rfl, rfl, hs⟩
          · cases h
/-- THE WORLD AT THE START -/
theorem am_start (hts : ∀ w ∈ lw_tbl, w.before #[Value.ref b] s = true) (hgv : (Jvm.Cond.and given_1 narrow_1).before #[Value.ref b] s = true) (hX : va_X b L xs s s.heap) (hL : L ≤ 384) (hmod : modulesRight_1 s = true) :
    ∃ (ad : Int → Nat) (fm : Value) (cid : Int → ClassId) (slo : Int → Nat → Nat), am_Wd s ad fm cid slo s ∧ am_Rep s ad fm cid slo am_cF am_ft (am_m0 L xs) s.heap ∧ ad (-1) = b := by
  have hfl : ∀ w ∈ am_fl, w.before #[Value.ref b] s = true := flat_of_before _ hgv
  have hwd : ∀ (a : Array Value), ∀ w ∈ lw_all, w.before a s = true := fun a w hw => pay_in (fun w hw => hts w (List.mem_filter.mp hw).1) lw_self w hw a s (State.WarmedH.refl s)
  obtain ⟨scr, x1, x2, x3, x4, x5⟩ := hX
  -- the constant arrays
  have arr : ∀ (n : String) (l : List Int) (k : Nat), (am_fl.drop k).take (st_sw n l).length = st_sw n l → Jvm.Cond.exactly (.static "ArmsHouse" n "[I") "[I" ∈ am_fl → l.length < 2 ^ 31 → ∃ t cell, (Term.static "ArmsHouse" n "[I").eval #[Value.ref b] s none [] s = some (.ref t) ∧ s.heap[t]? = some cell ∧ s.isArrayOf cell .int ∧ cell.vm ≠ .unknown ∧ cell.slots.size = l.length ∧ (∀ j : Nat, j < l.length → cell.slots[j]? = some (.int (Int32.ofInt (l.getD j 0)))) ∧ s.vm.findClass "[I" = some cell.cls := by
    intro n l k hk he hlen
    have hin := st_of hk
    obtain ⟨t, cell, g1, g2, g3, g4, g5, g6⟩ := am_Tx hlen (hfl _ (hin _ (List.mem_append_left _ (List.mem_cons_of_mem _ List.mem_cons_self)))) (hfl _ (hin _ (List.mem_append_left _ (List.mem_cons_of_mem _ (List.mem_cons_of_mem _ List.mem_cons_self))))) (fun w hw => hfl _ (hin _ (List.mem_append_right _ hw)))
    obtain ⟨a, c, cell2, k2, e1, e2, e3, e4, e5, e6, -⟩ := Cond.exactly_spec (hfl _ he)
    cases g1.symm.trans e1
    cases g2.symm.trans e3
    exact ⟨t, cell, g1, g2, g3, g4, g5, g6, by rw [e6]; exact e2⟩
  obtain ⟨tR, cR, r1, r2, r3, r4, r5, r6, r7⟩ := arr "ROWS" st_rows 22 st_s2 (by decide +kernel) (by decide)
  obtain ⟨tW, cW, w1, w2, w3, w4, w5, w6, w7⟩ := arr "WAVES" st_waves 11 st_s1 (by decide +kernel) (by decide)
  obtain ⟨tK, cK, k1, k2, k3, k4, k5, k6, k7⟩ := arr "KINDS" st_kinds 38 st_s3 (by decide +kernel) (by decide)
  -- the Strings
  have str : ∀ i : Nat, ∃ q : Nat × Nat × Cell × Cell, i < 67 → (Term.string "ArmsHouse" (st_ix.getD i 0)).eval #[Value.ref b] s none [] s = some (.ref q.1) ∧ s.heap[q.1]? = some q.2.2.1 ∧ q.2.2.1.vm.isStatics = false ∧ s.vm.findClass "java/lang/String" = some q.2.2.1.cls ∧ va_OF "java/lang/String" "coder" "B" (.int 0) q.1 (fun _ => False) s s.heap ∧ va_OF "java/lang/String" "value" "[B" (.ref q.2.1) q.1 (fun _ => False) s s.heap ∧ s.heap[q.2.1]? = some q.2.2.2 ∧ s.isArrayOf q.2.2.2 .byte ∧ q.2.2.2.vm ≠ .unknown ∧ q.2.2.2.slots.size = (st_by.getD i []).length ∧ ∀ j : Nat, j < (st_by.getD i []).length → q.2.2.2.slots[j]? = some (.int (Int32.ofInt ((st_by.getD i []).getD j 0))) := by
    intro i
    by_cases hi : i < 67
    · have hin := st_str hi
      have hl := st_lens i hi
      obtain ⟨t, cell, g1, g2, g3, g4, g5, g6⟩ := am_Tx (by omega) (hfl _ (hin _ (List.mem_append_left _ (List.mem_cons_of_mem _ (List.mem_cons_of_mem _ List.mem_cons_self))))) (hfl _ (hin _ (List.mem_append_left _ (List.mem_cons_of_mem _ (List.mem_cons_of_mem _ (List.mem_cons_of_mem _ List.mem_cons_self)))))) (fun w hw => hfl _ (hin _ (List.mem_append_right _ hw)))
      obtain ⟨a, c, cell2, kk, e1, e2, e3, e4, e5, e6, -⟩ := Cond.exactly_spec (hfl _ (hin _ (List.mem_append_left _ List.mem_cons_self)))
      exact ⟨(a, t, cell2, cell), fun _ => ⟨e1, e3, e5, by rw [e6]; exact e2, vk_OFof e1 (va_eqt (hfl _ (hin _ (List.mem_append_left _ (List.mem_cons_of_mem _ List.mem_cons_self))))) (fun _ _ h => h), vk_OFof e1 g1 (fun _ _ h => h), g2, g3, g4, g5, g6⟩⟩
    · exact ⟨(0, 0, scr, scr), fun h => absurd h hi⟩
  obtain ⟨sq, hsq⟩ := Classical.axiomOfChoice str
  -- classes
  have ccl : ∀ t : Int, ∃ q : ClassId × (Nat → Nat), (am_isO t = true → u_Kn s (am_cN t) (am_cT t) (am_cF t) q.1 q.2) ∧ (am_isA t = true → t < 49 → ArrOfT s q.1 (am_aty t) ∧ va_RA s q.1 (am_aty t)) ∧ (t = 49 → q.1 = scr.cls) ∧ (1000 ≤ t → q.1 = (sq (t - 1000).toNat).2.2.2.cls) ∧ (am_isX t = true → ClassAt s (am_xn t) q.1) := by
    intro t
    by_cases h1 : am_isO t = true
    · obtain ⟨n, hn⟩ := st_oi t h1
      obtain ⟨cC, iS, hk⟩ := u_known (hwd #[Value.ref b]) (am_inW t h1) (hts _ hn)
      refine ⟨(cC, iS), fun _ => hk, fun h2 => ?_, fun h2 => ?_, fun h2 => ?_, fun h2 => ?_⟩
      · rw [(am_isA_no h2).1] at h1; cases h1
      · rw [h2] at h1; cases h1
      · exact absurd (st_isOle h1) (by omega)
      · rw [(am_isO_no h1).2.1] at h2; cases h2
    · by_cases h2 : am_isA t = true ∧ t < 49
      · have h40 : 40 ≤ t ∧ t ≤ 48 := by
          have := h2.1
          unfold am_isA at this
          simp only [Bool.or_eq_true, Bool.and_eq_true, decide_eq_true_eq] at this
          omega
        obtain ⟨c, hc⟩ := st_ra hts h40
        exact ⟨(c, fun _ => 0), fun h => absurd h h1, fun _ _ => hc, fun h => by omega, fun h => by omega, fun h => by rw [(am_isA_no h2.1).2.1] at h; cases h⟩
      · by_cases h3 : t = 49
        · subst h3
          exact ⟨(scr.cls, fun _ => 0), fun h => absurd h h1, fun a c => absurd ⟨a, c⟩ h2, fun _ => rfl, fun h => by omega, fun h => by cases h⟩
        · by_cases h4 : 1000 ≤ t
          · refine ⟨((sq (t - 1000).toNat).2.2.2.cls, fun _ => 0), fun h => absurd h h1, fun a c => absurd ⟨a, c⟩ h2, fun h => absurd h h3, fun _ => rfl, fun h => ?_⟩
            have := st_isX h
            simp only [st_xs, List.mem_cons, List.not_mem_nil, or_false] at this
            omega
          · by_cases h5 : am_isX t = true
            · obtain ⟨n, hn⟩ := st_xi t (st_isX h5)
              obtain ⟨c, hc⟩ := st_ca (hts _ hn)
              exact ⟨(c, fun _ => 0), fun h => absurd h h1, fun a c => absurd ⟨a, c⟩ h2, fun h => absurd h h3, fun h => absurd h h4, fun _ => hc⟩
            · exact ⟨(0, fun _ => 0), fun h => absurd h h1, fun a c => absurd ⟨a, c⟩ h2, fun h => absurd h h3, fun h => absurd h h4, fun h => absurd h h5⟩
  obtain ⟨cq, hcq⟩ := Classical.axiomOfChoice ccl
  -- the formatter
  obtain ⟨fm, hfm, hzf⟩ : ∃ fm, am_fmok fm ∧ va_Z "jdk/internal/util/Preconditions" "SIOOBE_FORMATTER" "Ljava/util/function/BiFunction;" fm (fun a => s.heap.size ≤ a) s s.heap := by
    rcases va_Zqof (A := fun a => s.heap.size ≤ a) (hts _ q759) (hts _ (List.mem_filter.mp q165).1) (hfl (Jvm.Cond.isRef (.static "jdk/internal/util/Preconditions" "SIOOBE_FORMATTER" "Ljava/util/function/BiFunction;")) (by decide +kernel)) (fun a h => by omega) with h | ⟨t, h⟩
    · exact ⟨.null, Or.inl rfl, h⟩
    · exact ⟨.ref t, Or.inr ⟨t, rfl⟩, h⟩
  let ad : Int → Nat := fun r => if 0 < r then s.heap.size + (r - 1).toNat else if r = -1 then b else if r = -2 then tR else if r = -3 then tW else if r = -4 then tK else if -166 ≤ r ∧ r ≤ -100 then (sq (-100 - r).toNat).1 else (sq (-200 - r).toNat).2.1
  have ad1 : ad (-1) = b := rfl
  have ad2 : ad (-2) = tR := rfl
  have ad3 : ad (-3) = tW := rfl
  have ad4 : ad (-4) = tK := rfl
  have adK : ∀ i : Nat, i < 67 → ad (-(100 + (i : Int))) = (sq i).1 := by
    intro i hi
    show (if 0 < -(100 + (i : Int)) then _ else _) = _
    rw [if_neg (by omega), if_neg (by omega), if_neg (by omega), if_neg (by omega), if_neg (by omega), if_pos (by omega), show (-100 - -(100 + (i : Int))).toNat = i by omega]
  have adV : ∀ i : Nat, i < 67 → ad (-(200 + (i : Int))) = (sq i).2.1 := by
    intro i hi
    show (if 0 < -(200 + (i : Int)) then _ else _) = _
    rw [if_neg (by omega), if_neg (by omega), if_neg (by omega), if_neg (by omega), if_neg (by omega), if_neg (by omega), show (-200 - -(200 + (i : Int))).toNat = i by omega]
  have hI : ∀ c, s.vm.findClass "[I" = some c → c = (cq 40).1 := by
    intro c hc
    have h := ((hcq 40).2.1 rfl (by decide)).2
    have h' : s.vm.findClass "[I" = some (cq 40).1 := h
    cases hc.symm.trans h'
    rfl
  have had : ∀ r, 0 < r → ad r = s.heap.size + (r - 1).toNat := fun r hr => if_pos hr
  have out : ∀ a : Nat, a < s.heap.size → ¬ s.heap.size ≤ a := fun a h => by omega
  refine ⟨ad, fm, fun t => (cq t).1, fun t => (cq t).2, ?_, ?_, rfl⟩
  · refine ⟨hwd, fun q hq => va_Nw.of rfl (hts _ (st_nF_tb q hq)), fun q hq => va_Nw.of rfl (hts _ (st_nM_tb q hq)), va_Nw.of rfl (hts _ q1592), va_Nw.of rfl (hts _ q365), fun q hq => va_Nw.of rfl (hts _ (st_cs_tb q hq)), fun q hq => va_Nc.of (hfl _ (st_nc q hq)), fun q hq => ?_, fun C hC => va_AO.of (hts _ (st_ov_tb C hC)), fun x hx => va_Nw.of rfl (hts _ (st_dl_tb x hx)), fun t ht => (hcq t).1 ht, fun t ht => ?_, fun t ht => ?_, fun j k hj hk => st_asg (st_isX hj) (st_isX hk) ((hcq j).2.2.2.2 hj) ((hcq k).2.2.2.2 hk) hfl, had, hfm, ?_, fun q hq => ?_, fun _ _ => rfl, fun q hq => va_Nw.of rfl (hts _ (st_xc_tb q hq)), fun q hq => va_Nw.of rfl (hts _ (st_xd_tb q hq)), ?_, ?_, hmod, (State.WarmedH.refl s).alike⟩
    · obtain ⟨h1, h2, h3, h4, h5⟩ := st_fc_tb q hq
      exact va_Fw.of (hts _ h1) (hts _ h2) (hts _ h3) (hts _ h4) (hts _ h5)
    · refine ⟨?_, fun h9 => ((hcq t).2.1 ht h9).2⟩
      by_cases h9 : t < 49
      · exact ((hcq t).2.1 ht h9).1
      · by_cases h49 : t = 49
        · have e := (hcq t).2.2.1 h49
          show ArrOfT s (cq t).1 (am_aty t)
          rw [e, h49]
          exact am_AoT x2
        · have ht' := ht
          unfold am_isA at ht'
          simp only [Bool.or_eq_true, Bool.and_eq_true, decide_eq_true_eq] at ht'
          have hk : 1000 ≤ t ∧ t ≤ 1066 := by omega
          have e := (hcq t).2.2.2.1 hk.1
          show ArrOfT s (cq t).1 (am_aty t)
          rw [e, show am_aty t = .byte from if_pos hk.1]
          exact am_AoT (hsq (t - 1000).toNat (by omega)).2.2.2.2.2.2.2.1
    · obtain ⟨h1, k, h2, h3⟩ := (hcq t).2.2.2.2 ht
      exact ⟨h1, k, h2⟩
    · show ∀ q ∈ am_zz ad fm, _
      unfold am_zz
      refine List.forall_mem_cons.mpr ⟨va_Zof (hts _ q1082) (hts _ (List.mem_filter.mp q150).1) r1 out, List.forall_mem_cons.mpr ⟨va_Zof (hts _ q1059) (hts _ (List.mem_filter.mp q150).1) w1 out, List.forall_mem_cons.mpr ⟨va_Zof (hts _ q1593) (hts _ (List.mem_filter.mp q150).1) k1 out, List.forall_mem_cons.mpr ⟨va_Zof (hts _ q743) (hts _ (List.mem_filter.mp q163).1) (va_eqi (hfl _ (by decide +kernel))) out, List.forall_mem_cons.mpr ⟨hzf, fun _ h => absurd h List.not_mem_nil⟩⟩⟩⟩⟩
    · obtain ⟨g1, g2, g3⟩ := st_gT q hq
      have hsr := hts _ (st_gT_tb q hq)
      rw [adK _ g2]
      refine vk_R.of (A := #[]) ?_ ?_
      · exact hsr
      · rw [g1, g3]
        exact (hsq q.2.2 g2).1
    · refine List.forall_mem_cons.mpr ⟨⟨hts _ q336, ?_⟩, List.forall_mem_cons.mpr ⟨⟨hts _ q338, ?_⟩, fun _ h => absurd h List.not_mem_nil⟩⟩
      · exact hfl (Jvm.Cond.isRef (.static "java/lang/Throwable" "UNASSIGNED_STACK" "[Ljava/lang/StackTraceElement;")) (by decide +kernel)
      · exact hfl (Jvm.Cond.isRef (.static "java/lang/Throwable" "SUPPRESSED_SENTINEL" "Ljava/util/List;")) (by decide +kernel)
    · intro C hC
      have hw : Jvm.Cond.landsInDefault C am_tin mn_8 ∈ am_fl := by
        have : ∀ C ∈ am_df, Jvm.Cond.landsInDefault C am_tin mn_8 ∈ am_fl := by decide +kernel
        exact this C hC
      exact st_df (hfl _ hw)
  · have hne : ∀ r, am_m0 L xs r (-1) ≠ 0 → r = -1 ∨ r = -2 ∨ r = -3 ∨ r = -4 ∨ (-166 ≤ r ∧ r ≤ -100) ∨ (-266 ≤ r ∧ r ≤ -200) := by
      intro r hr
      unfold am_m0 at hr
      split at hr
      · omega
      · split at hr
        · omega
        · split at hr
          · omega
          · split at hr
            · omega
            · split at hr
              · omega
              · split at hr
                · omega
                · exact absurd rfl hr
    refine ⟨Int.le_refl _, Int.le_refl _, rfl, ⟨rfl, rfl⟩, fun r hr => ?_, fun r hr => ?_, fun _ _ => rfl, ?_, fun h => (by cases h), fun h => (by cases h)⟩
    · by_cases h : am_m0 L xs r (-1) = 0
      · exact h
      · have := hne r h
        have : (0 : Int) < r := hr
        omega
    · rcases hne r hr with rfl | rfl | rfl | rfl | ⟨ha, hb⟩ | ⟨ha, hb⟩
      · refine ⟨scr, x1, ((hcq 49).2.2.1 rfl).symm, x3, am_nst x2, fun h => by omega, fun _ => (Array.getElem?_eq_some_iff.mp x1).1, Or.inr (Or.inl ⟨rfl, Int.natCast_nonneg L, x4.trans (Int.toNat_natCast L).symm, by show (L : Int) ≤ _; omega, fun j hj => ?_⟩)⟩
        have hj' : j < L := by
          have : (j : Int) < (L : Int) := hj
          omega
        have e : am_m0 L xs (-1) (j : Int) = (xs j).toInt := by
          show (if (j : Int) = -1 then (49 : Int) else if (j : Int) = -2 then (L : Int) else if 0 ≤ (j : Int) then (xs (j : Int).toNat).toInt else 0) = _
          rw [if_neg (by omega), if_neg (by omega), if_pos (by omega), Int.toNat_natCast]
        rw [e]
        refine ⟨?_, st_vok _⟩
        rw [x5 j hj']
        show some (Value.int (xs j)) = some (Value.int (Int32.ofInt (xs j).toInt))
        rw [st_i32]
      · exact st_arr (t := 40) (l := st_rows) (by decide) (fun _ => rfl) rfl rfl r2 (hI _ r7) r3 r4 r5 (by decide) r6 st_rl
      · exact st_arr (t := 40) (l := st_waves) (by decide) (fun _ => rfl) rfl rfl w2 (hI _ w7) w3 w4 w5 (by decide) w6 st_wl
      · exact st_arr (t := 40) (l := st_kinds) (by decide) (fun _ => rfl) rfl rfl k2 (hI _ k7) k3 k4 k5 (by decide) k6 st_kl
      · obtain ⟨i, hi, rfl⟩ : ∃ i : Nat, i < 67 ∧ r = -(100 + (i : Int)) := ⟨(-100 - r).toNat, by omega, by omega⟩
        obtain ⟨s1, s2, s3, s4, ⟨cf, kf, fi, f, c1, p1, p2, p3, p4, p5, -⟩, ⟨cf', kf', fi', f', c1', p1', p2', p3', p4', p5', -⟩, s7⟩ := hsq i hi
        have em : ∀ j, am_m0 L xs (-(100 + (i : Int))) j = if j = -1 then 30 else if j = 0 then -(100 + (i : Int)) - 100 else 0 := by
          intro j
          show (if -(100 + (i : Int)) = -1 then _ else _) = _
          rw [if_neg (by omega), if_neg (by omega), if_neg (by omega), if_neg (by omega), if_pos (by omega)]
        have e1 : am_m0 L xs (-(100 + (i : Int))) (-1) = 30 := em (-1)
        cases s2.symm.trans p3
        cases s2.symm.trans p3'
        have hkn := (hcq 30).1 rfl
        have hcls : (sq i).2.2.1.cls = (cq 30).1 := by
          have h := hkn.2.1
          have h' : s.vm.findClass "java/lang/String" = some (cq 30).1 := h
          exact Option.some.inj (s4.symm.trans h')
        refine ⟨(sq i).2.2.1, by rw [adK i hi]; exact s2, by rw [e1]; exact hcls, p4, s3, fun h => by omega, fun _ => by rw [adK i hi]; exact (Array.getElem?_eq_some_iff.mp s2).1, Or.inl ⟨by rw [e1]; rfl, fun k hk => ?_⟩⟩
        rw [e1] at hk ⊢
        have hk2 : k < 2 := by rw [st_ft.2.2] at hk; exact hk
        have hsl := hkn.1 k hk
        rcases (show k = 0 ∨ k = 1 by omega) with rfl | rfl
        · obtain ⟨a1, a2, a3, a4, b1, b2⟩ := hsl
          have b1' : s.fieldFound? "java/lang/String" "value" "[B" = some (a1, a2, a3, a4) := b1
          cases p1'.symm.trans b1'
          have e0 : am_m0 L xs (-(100 + (i : Int))) ((0 : Nat) : Int) = -(200 + (i : Int)) := by rw [em]; show -(100 + (i : Int)) - 100 = _; omega
          rw [e0, st_ft.1]
          refine ⟨?_, trivial⟩
          show (sq i).2.2.1.slots[(cq 30).2 0]? = some (am_rv ad fm (-(200 + (i : Int))))
          rw [← b2, p5']
          unfold am_rv
          rw [if_neg (by omega), if_neg (by omega), adV i hi]
        · obtain ⟨a1, a2, a3, a4, b1, b2⟩ := hsl
          have b1' : s.fieldFound? "java/lang/String" "coder" "B" = some (a1, a2, a3, a4) := b1
          cases p1.symm.trans b1'
          have e0 : am_m0 L xs (-(100 + (i : Int))) ((1 : Nat) : Int) = 0 := by rw [em]; rfl
          rw [e0, st_ft.2.1]
          refine ⟨?_, ⟨by decide, by decide⟩⟩
          show (sq i).2.2.1.slots[(cq 30).2 1]? = some (Value.int (Int32.ofInt 0))
          rw [← b2, p5]
          rfl
      · obtain ⟨i, hi, rfl⟩ : ∃ i : Nat, i < 67 ∧ r = -(200 + (i : Int)) := ⟨(-200 - r).toNat, by omega, by omega⟩
        obtain ⟨s1, s2, s3, s4, -, -, s7, s8, s9, s10, s11⟩ := hsq i hi
        have em : ∀ j, am_m0 L xs (-(200 + (i : Int))) j = am_ar (1000 + (i : Int)) (st_by.getD i []) j := by
          intro j
          show (if -(200 + (i : Int)) = -1 then _ else _) = _
          rw [if_neg (by omega), if_neg (by omega), if_neg (by omega), if_neg (by omega), if_neg (by omega), if_pos (by omega), show (-200 - -(200 + (i : Int))).toNat = i by omega, show 800 - -(200 + (i : Int)) = 1000 + (i : Int) by omega]
        have hl := st_lens i hi
        refine st_arr (t := 1000 + (i : Int)) (l := st_by.getD i []) (by omega) em ?_ (if_pos (by omega)) (by rw [adV i hi]; exact s7) ?_ s8 s9 s10 (by omega) s11 (fun j hj => ?_)
        · unfold am_isA
          simp only [Bool.or_eq_true, Bool.and_eq_true, decide_eq_true_eq]
          omega
        · have e := (hcq (1000 + (i : Int))).2.2.2.1 (by omega)
          rw [show (1000 + (i : Int) - 1000).toNat = i by omega] at e
          exact e.symm
        · have := st_le i hi j (by omega)
          omega
    · intro q hq
      simp only [am_sO, List.mem_cons, List.not_mem_nil, or_false] at hq
      rcases hq with rfl | rfl | rfl
      · exact ⟨rfl, fun _ => rfl⟩
      · exact ⟨rfl, fun _ => rfl⟩
      · exact ⟨rfl, fun _ => rfl⟩
end Start

