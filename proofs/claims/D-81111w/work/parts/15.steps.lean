/-! ONE INSTRUCTION OF THE MACHINE FOR ONE OF THE ABSTRACT ONE -/
def am_S (p : Program) (l : Launch) (e : Env) (R : Room) (s : State) (m : MethodId) (args : Array Value) (below : List Frame) (meth : Method) (c : Code) (s0 : State) (ad : Int → Nat) (fm : Value) (cid : Int → ClassId) (slo : Int → Nat → Nat) (N : Int → Nat) (ft : Int → Nat → Nat) (Qf : State → Prop) (n0 s1 : Int) (pc : Nat) (L S : List aV) (mm : aM) : Prop :=
  ∀ (H : Heap) (locs : List Loc) (ls : Array Slot), am_Rep s0 ad fm cid slo N ft mm H → (∀ q ∈ locs, s0.heap.size ≤ q.base) → am_Lok ad fm L ls → (∀ v ∈ S, am_vok v) → n0 ≤ mm 0 0 → s1 ≤ mm 0 1 → W p l e R s m args below meth c H locs (mm 0 0 - n0).toNat (mm 0 1 - s1).toNat Qf (F0 m pc ls (S.map (am_c ad fm)))
theorem am_vc {v : aV} {r : List aV} (hv : am_vok v) (hr : ∀ w ∈ r, am_vok w) : ∀ w ∈ v :: r, am_vok w := by
  intro w hw
  rcases List.mem_cons.mp hw with rfl | h
  · exact hv
  · exact hr w h
theorem am_vt {v : aV} {r : List aV} (h : ∀ w ∈ v :: r, am_vok w) : ∀ w ∈ r, am_vok w := fun w hw => h w (List.mem_cons_of_mem _ hw)
theorem am_vh {v : aV} {r : List aV} (h : ∀ w ∈ v :: r, am_vok w) : am_vok v := h v List.mem_cons_self
theorem am_i32 {x : Int} (h : -2147483648 ≤ x ∧ x ≤ 2147483647) : (Int32.ofInt x).toInt = x := by
  rw [Int32.toInt_ofInt]
  have e : (Int32.size : Int) = 4294967296 := rfl
  exact Int.bmod_eq_of_le (by omega) (by omega)
theorem am_i64 {x : Int} (h : -9223372036854775808 ≤ x ∧ x ≤ 9223372036854775807) : (Int64.ofInt x).toInt = x := by
  rw [Int64.toInt_ofInt]
  have e : (Int64.size : Int) = 18446744073709551616 := rfl
  exact Int.bmod_eq_of_le (by omega) (by omega)
theorem am_o32 (x : Int32) : Int32.ofInt x.toInt = x := Int32.ofInt_toInt x
theorem am_o64 (x : Int64) : Int64.ofInt x.toInt = x := Int64.ofInt_toInt x
theorem am_r32 (x : Int32) : -2147483648 ≤ x.toInt ∧ x.toInt ≤ 2147483647 := by
  have h1 := Int32.le_toInt x
  have h2 := Int32.toInt_lt x
  omega
theorem am_r64 (x : Int64) : -9223372036854775808 ≤ x.toInt ∧ x.toInt ≤ 9223372036854775807 := by
  have h1 := Int64.le_toInt x
  have h2 := Int64.toInt_lt x
  omega
theorem am_div32 {a b : Int} (ha : -2147483648 ≤ a ∧ a ≤ 2147483647) (hb : -2147483648 ≤ b ∧ b ≤ 2147483647) (h0 : 0 < b) : (-2147483648 ≤ a.tdiv b ∧ a.tdiv b ≤ 2147483647) ∧ Int32.ofInt a / Int32.ofInt b = Int32.ofInt (a.tdiv b) := by
  have hr : -2147483648 ≤ a.tdiv b ∧ a.tdiv b ≤ 2147483647 := by
    have h1 : (a.tdiv b).natAbs ≤ a.natAbs := by
      rw [Int.natAbs_tdiv]
      exact Nat.div_le_self _ _
    rcases Int.lt_or_le a 0 with h | h
    · have h2 : 0 ≤ (-a).tdiv b := Int.tdiv_nonneg (by omega) (by omega)
      rw [Int.neg_tdiv] at h2
      omega
    · have h2 : 0 ≤ a.tdiv b := Int.tdiv_nonneg h (by omega)
      omega
  refine ⟨hr, ?_⟩
  rw [← Int32.toInt_inj, Int32.toInt_div, am_i32 ha, am_i32 hb, Int32.toInt_ofInt]
/-- a reference's value counts one -/
def am_fmok (fm : Value) : Prop := fm = .null ∨ ∃ a, fm = .ref a
theorem am_refv {ad : Int → Nat} {fm : Value} (hf : am_fmok fm) (r : Int) : am_rv ad fm r = .null ∨ ∃ a, am_rv ad fm r = .ref a := by
  unfold am_rv
  split
  · exact Or.inl rfl
  · split
    · exact hf
    · exact Or.inr ⟨_, rfl⟩
theorem am_cat1 {ad : Int → Nat} {fm : Value} (hf : am_fmok fm) (r : Int) : (am_rv ad fm r).category = 1 := by
  rcases am_refv (ad := ad) hf r with h | ⟨a, h⟩ <;> rw [h] <;> rfl
theorem am_catv {ad : Int → Nat} {fm : Value} (hf : am_fmok fm) (v : aV) : (am_c ad fm v).category = 2 → ∃ x, v = .inr (.inl x) := by
  intro h
  match v, h with
  | .inl x, h => cases h
  | .inr (.inl x), _ => exact ⟨x, rfl⟩
  | .inr (.inr (.inl x)), h => rw [show am_c ad fm (.inr (.inr (.inl x))) = am_rv ad fm x from rfl, am_cat1 hf] at h; cases h
  | .inr (.inr (.inr x)), h => cases h
theorem am_cut_ok {L : List aV} {n j : Nat} (h : am_cut n L = true) (e : j + 1 = n) : ∀ x, am_at L j ≠ .inr (.inl x) := by
  subst e
  intro x hx
  simp only [am_cut, hx] at h
  cases h
theorem am_Lok.set1 {ad : Int → Nat} {fm : Value} (hf : am_fmok fm) {L : List aV} {ls ls' : Array Slot} (h : am_Lok ad fm L ls) {i : Nat} {v : aV} (hi : i < L.length) (hv : am_vok v) (hc : am_cut i L = true)
    (h' : lv_has ls' L.length ((i, am_c ad fm v) :: (am_lst ad fm L).filter (fun q => !(q.1 == i) && !(q.1 + 1 == i && q.2.category == 2)))) : am_Lok ad fm (am_set L i v) ls' := by
  obtain ⟨h1, h2, h3⟩ := h'
  refine ⟨by rw [am_set_len]; exact h1, h2, fun j hj => ?_⟩
  rw [am_at_set L i j v hi] at hj ⊢
  by_cases e : j = i
  · rw [if_pos e]
    exact ⟨by rw [e]; exact h3 (i, am_c ad fm v) List.mem_cons_self, hv⟩
  · rw [if_neg e] at hj ⊢
    refine ⟨h3 (j, am_c ad fm (am_at L j)) (List.mem_cons_of_mem _ (List.mem_filter.mpr ⟨am_lst_mem.mpr ⟨hj, rfl⟩, ?_⟩)), (h.2.2 j hj).2⟩
    simp only [Bool.and_eq_true, Bool.not_eq_true', beq_eq_false_iff_ne, ne_eq, Bool.and_eq_false_iff]
    refine ⟨e, ?_⟩
    by_cases g : j + 1 = i
    · refine Or.inr (fun z => ?_)
      obtain ⟨x, hx⟩ := am_catv hf _ z
      exact am_cut_ok hc g x hx
    · exact Or.inl g
theorem am_Lok.set2 {ad : Int → Nat} {fm : Value} (hf : am_fmok fm) {L : List aV} {ls ls' : Array Slot} (h : am_Lok ad fm L ls) {i : Nat} {v : aV} (hi : i + 1 < L.length) (hv : am_vok v) (hc : am_cut i L = true)
    (h' : lv_has ls' L.length ((i, am_c ad fm v) :: (am_lst ad fm L).filter (fun q => !(q.1 == i) && (!(q.1 == i + 1) && !(q.1 + 1 == i && q.2.category == 2))))) : am_Lok ad fm (am_set (am_set L i v) (i + 1) aU) ls' := by
  obtain ⟨h1, h2, h3⟩ := h'
  refine ⟨by rw [am_set_len, am_set_len]; exact h1, h2, fun j hj => ?_⟩
  rw [am_at_set _ (i + 1) j _ (by rw [am_set_len]; exact hi)] at hj ⊢
  by_cases e1 : j = i + 1
  · rw [if_pos e1] at hj
    exact absurd rfl hj
  · rw [if_neg e1] at hj ⊢
    rw [am_at_set L i j v (by omega)] at hj ⊢
    by_cases e : j = i
    · rw [if_pos e]
      exact ⟨by rw [e]; exact h3 (i, am_c ad fm v) List.mem_cons_self, hv⟩
    · rw [if_neg e] at hj ⊢
      refine ⟨h3 (j, am_c ad fm (am_at L j)) (List.mem_cons_of_mem _ (List.mem_filter.mpr ⟨am_lst_mem.mpr ⟨hj, rfl⟩, ?_⟩)), (h.2.2 j hj).2⟩
      simp only [Bool.and_eq_true, Bool.not_eq_true', beq_eq_false_iff_ne, ne_eq, Bool.and_eq_false_iff]
      refine ⟨e, e1, ?_⟩
      by_cases g : j + 1 = i
      · refine Or.inr (fun z => ?_)
        obtain ⟨x, hx⟩ := am_catv hf _ z
        exact am_cut_ok hc g x hx
      · exact Or.inl g
section Rows
variable {p : Program} {l : Launch} {e : Env} {R : Room} {s : State} {m : MethodId} {args : Array Value} {below : List Frame} {meth : Method} {c : Code} {H : Heap} {locs : List Loc} {cells slots : Nat} {Q : State → Prop} {cc : ByteArray} {pc : Nat} {ls : Array Slot} {rest : List Value}
theorem am_r_aload (hx : p.tables.exec = Jvm.exec) (hb : c.code = cc) {i : Nat} {v : Value} (hv : v = .null ∨ ∃ a, v = .ref a) (hd : decode cc pc = .ok (.aload i, 2)) (hl : ls[i]? = some (.val v)) (k : W p l e R s m args below meth c H locs cells slots Q (F0 m (pc + 2) ls (v :: rest))) : W p l e R s m args below meth c H locs cells slots Q (F0 m pc ls rest) := by
  rcases hv with rfl | ⟨a, rfl⟩
  · exact lv_aloadN hx hb hd hl k
  · exact lv_aload hx hb hd hl k
theorem am_r_aload_n (hx : p.tables.exec = Jvm.exec) (hb : c.code = cc) {i : Fin 4} {v : Value} (hv : v = .null ∨ ∃ a, v = .ref a) (hd : decode cc pc = .ok (.aload_n i, 1)) (hl : ls[(i : Nat)]? = some (.val v)) (k : W p l e R s m args below meth c H locs cells slots Q (F0 m (pc + 1) ls (v :: rest))) : W p l e R s m args below meth c H locs cells slots Q (F0 m pc ls rest) := by
  rcases hv with rfl | ⟨a, rfl⟩
  · exact lv_aload_nN hx hb hd rfl hl k
  · exact lv_aload_n hx hb hd rfl hl k
theorem am_r_astore (hx : p.tables.exec = Jvm.exec) (hb : c.code = cc) {i nL : Nat} {v : Value} (hv : v = .null ∨ ∃ a, v = .ref a) {lv : List (Nat × Value)} (hd : decode cc pc = .ok (.astore i, 2)) (h : lv_has ls nL lv) (hn : i < nL)
    (kk : ∀ ls' : Array Slot, lv_has ls' nL ((i, v) :: lv.filter (fun q => !(q.1 == i) && !(q.1 + 1 == i && q.2.category == 2))) → W p l e R s m args below meth c H locs cells slots Q (F0 m (pc + 2) ls' rest)) : W p l e R s m args below meth c H locs cells slots Q (F0 m pc ls (v :: rest)) := by
  rcases hv with rfl | ⟨a, rfl⟩
  · exact lv_astoreN hx hb hd h hn rfl kk
  · exact lv_astore hx hb hd h hn rfl kk
theorem am_r_astore_n (hx : p.tables.exec = Jvm.exec) (hb : c.code = cc) {i : Fin 4} {nL : Nat} {v : Value} (hv : v = .null ∨ ∃ a, v = .ref a) {lv : List (Nat × Value)} (hd : decode cc pc = .ok (.astore_n i, 1)) (h : lv_has ls nL lv) (hn : (i : Nat) < nL)
    (kk : ∀ ls' : Array Slot, lv_has ls' nL (((i : Nat), v) :: lv.filter (fun q => !(q.1 == (i : Nat)) && !(q.1 + 1 == (i : Nat) && q.2.category == 2))) → W p l e R s m args below meth c H locs cells slots Q (F0 m (pc + 1) ls' rest)) : W p l e R s m args below meth c H locs cells slots Q (F0 m pc ls (v :: rest)) := by
  rcases hv with rfl | ⟨a, rfl⟩
  · exact lv_astore_nN hx hb hd rfl h hn rfl kk
  · exact lv_astore_n hx hb hd rfl h hn rfl kk
end Rows
section Steps
variable {p : Program} {l : Launch} {e : Env} {R : Room} {s : State} {m : MethodId} {args : Array Value} {below : List Frame} {meth : Method} {c : Code} {cc : ByteArray} {s0 : State} {ad : Int → Nat} {fm : Value} {cid : Int → ClassId} {slo : Int → Nat → Nat} {N : Int → Nat} {ft : Int → Nat → Nat} {Qf : State → Prop} {n0 s1 : Int} {pc : Nat} {L r : List aV} {mm : aM}
theorem am_s_iadd (hx : p.tables.exec = Jvm.exec) (hb : c.code = cc) {a b : Int} (hr : -2147483648 ≤ a + b ∧ a + b ≤ 2147483647) (hd : decode cc pc = .ok (.iadd, 1)) (K : am_S p l e R s m args below meth c s0 ad fm cid slo N ft Qf n0 s1 (pc + 1) L (.inl (a + b) :: r) mm) : am_S p l e R s m args below meth c s0 ad fm cid slo N ft Qf n0 s1 pc L (.inl b :: .inl a :: r) mm := by
  intro H locs ls hR hlo hL hS h0 h1
  have K1 := K H locs ls hR hlo hL (am_vc hr (am_vt (am_vt hS))) h0 h1
  refine lv_iadd (x := Int32.ofInt a) (y := Int32.ofInt b) hx hb hd ?_
  rw [← Int32.ofInt_add]
  exact K1
theorem am_s_isub (hx : p.tables.exec = Jvm.exec) (hb : c.code = cc) {a b : Int} (hr : -2147483648 ≤ a - b ∧ a - b ≤ 2147483647) (hd : decode cc pc = .ok (.isub, 1)) (K : am_S p l e R s m args below meth c s0 ad fm cid slo N ft Qf n0 s1 (pc + 1) L (.inl (a - b) :: r) mm) : am_S p l e R s m args below meth c s0 ad fm cid slo N ft Qf n0 s1 pc L (.inl b :: .inl a :: r) mm := by
  intro H locs ls hR hlo hL hS h0 h1
  have K1 := K H locs ls hR hlo hL (am_vc hr (am_vt (am_vt hS))) h0 h1
  refine lv_isub (x := Int32.ofInt a) (y := Int32.ofInt b) hx hb hd ?_
  rw [← Int32.ofInt_sub]
  exact K1
theorem am_s_imul (hx : p.tables.exec = Jvm.exec) (hb : c.code = cc) {a b : Int} (hr : -2147483648 ≤ a * b ∧ a * b ≤ 2147483647) (hd : decode cc pc = .ok (.imul, 1)) (K : am_S p l e R s m args below meth c s0 ad fm cid slo N ft Qf n0 s1 (pc + 1) L (.inl (a * b) :: r) mm) : am_S p l e R s m args below meth c s0 ad fm cid slo N ft Qf n0 s1 pc L (.inl b :: .inl a :: r) mm := by
  intro H locs ls hR hlo hL hS h0 h1
  have K1 := K H locs ls hR hlo hL (am_vc hr (am_vt (am_vt hS))) h0 h1
  refine lv_imul (x := Int32.ofInt a) (y := Int32.ofInt b) hx hb hd ?_
  rw [← Int32.ofInt_mul]
  exact K1
theorem am_s_idiv (hx : p.tables.exec = Jvm.exec) (hb : c.code = cc) {a b : Int} (hr : 0 < b) (hd : decode cc pc = .ok (.idiv, 1)) (K : am_S p l e R s m args below meth c s0 ad fm cid slo N ft Qf n0 s1 (pc + 1) L (.inl (a.tdiv b) :: r) mm) : am_S p l e R s m args below meth c s0 ad fm cid slo N ft Qf n0 s1 pc L (.inl b :: .inl a :: r) mm := by
  intro H locs ls hR hlo hL hS h0 h1
  have q := am_div32 (am_vh (am_vt hS)) (am_vh hS) hr
  have K1 := K H locs ls hR hlo hL (am_vc q.1 (am_vt (am_vt hS))) h0 h1
  refine lv_idiv (x := Int32.ofInt a) (y := Int32.ofInt b) hx hb hd (fun z => ?_) ?_
  · have := congrArg Int32.toInt z
    rw [am_i32 (am_vh hS)] at this
    simp at this
    omega
  · rw [q.2]
    exact K1
theorem am_s_irem (hx : p.tables.exec = Jvm.exec) (hb : c.code = cc) {a b : Int} (hr : 0 < b) (hd : decode cc pc = .ok (.irem, 1)) (K : am_S p l e R s m args below meth c s0 ad fm cid slo N ft Qf n0 s1 (pc + 1) L (.inl (a.tmod b) :: r) mm) : am_S p l e R s m args below meth c s0 ad fm cid slo N ft Qf n0 s1 pc L (.inl b :: .inl a :: r) mm := by
  intro H locs ls hR hlo hL hS h0 h1
  have q := am_div32 (am_vh (am_vt hS)) (am_vh hS) hr
  have hq : a - a.tdiv b * b = a.tmod b := by have := Int.tmod_add_tdiv_mul a b; omega
  have ha := am_vh (am_vt hS)
  have hb2 := am_vh hS
  have hm : -2147483648 ≤ a.tmod b ∧ a.tmod b ≤ 2147483647 := by
    have h1 := Int.tmod_lt_of_pos a hr
    have h2 : -b < a.tmod b := by
      rcases Int.lt_or_le a 0 with h | h
      · have := Int.lt_tmod_of_pos a hr
        omega
      · have := Int.tmod_nonneg b h
        omega
    have h3 : b ≤ 2147483647 := hb2.2
    omega
  have K1 := K H locs ls hR hlo hL (am_vc hm (am_vt (am_vt hS))) h0 h1
  refine lv_irem (x := Int32.ofInt a) (y := Int32.ofInt b) hx hb hd (fun z => ?_) ?_
  · have := congrArg Int32.toInt z
    rw [am_i32 (am_vh hS)] at this
    simp at this
    omega
  · rw [q.2, ← Int32.ofInt_mul, ← Int32.ofInt_sub, hq]
    exact K1
theorem am_s_ineg (hx : p.tables.exec = Jvm.exec) (hb : c.code = cc) {a : Int} (hr : -2147483648 ≤ -a ∧ -a ≤ 2147483647) (hd : decode cc pc = .ok (.ineg, 1)) (K : am_S p l e R s m args below meth c s0 ad fm cid slo N ft Qf n0 s1 (pc + 1) L (.inl (-a) :: r) mm) : am_S p l e R s m args below meth c s0 ad fm cid slo N ft Qf n0 s1 pc L (.inl a :: r) mm := by
  intro H locs ls hR hlo hL hS h0 h1
  have K1 := K H locs ls hR hlo hL (am_vc hr (am_vt hS)) h0 h1
  refine lv_ineg (x := Int32.ofInt a) hx hb hd ?_
  rw [← Int32.ofInt_neg]
  exact K1
theorem am_s_iand (hx : p.tables.exec = Jvm.exec) (hb : c.code = cc) {a b : Int} (hd : decode cc pc = .ok (.iand, 1)) (K : am_S p l e R s m args below meth c s0 ad fm cid slo N ft Qf n0 s1 (pc + 1) L (.inl (am_and a b) :: r) mm) : am_S p l e R s m args below meth c s0 ad fm cid slo N ft Qf n0 s1 pc L (.inl b :: .inl a :: r) mm := by
  intro H locs ls hR hlo hL hS h0 h1
  have K1 := K H locs ls hR hlo hL (am_vc (am_r32 _) (am_vt (am_vt hS))) h0 h1
  refine lv_iand (x := Int32.ofInt a) (y := Int32.ofInt b) hx hb hd ?_
  have e1 : am_c ad fm (.inl (am_and a b)) = .int _ := congrArg Value.int (am_o32 _)
  rw [List.map_cons, e1] at K1
  exact K1
theorem am_s_ior (hx : p.tables.exec = Jvm.exec) (hb : c.code = cc) {a b : Int} (hd : decode cc pc = .ok (.ior, 1)) (K : am_S p l e R s m args below meth c s0 ad fm cid slo N ft Qf n0 s1 (pc + 1) L (.inl (am_or a b) :: r) mm) : am_S p l e R s m args below meth c s0 ad fm cid slo N ft Qf n0 s1 pc L (.inl b :: .inl a :: r) mm := by
  intro H locs ls hR hlo hL hS h0 h1
  have K1 := K H locs ls hR hlo hL (am_vc (am_r32 _) (am_vt (am_vt hS))) h0 h1
  refine lv_ior (x := Int32.ofInt a) (y := Int32.ofInt b) hx hb hd ?_
  have e1 : am_c ad fm (.inl (am_or a b)) = .int _ := congrArg Value.int (am_o32 _)
  rw [List.map_cons, e1] at K1
  exact K1
theorem am_s_ixor (hx : p.tables.exec = Jvm.exec) (hb : c.code = cc) {a b : Int} (hd : decode cc pc = .ok (.ixor, 1)) (K : am_S p l e R s m args below meth c s0 ad fm cid slo N ft Qf n0 s1 (pc + 1) L (.inl (am_xor a b) :: r) mm) : am_S p l e R s m args below meth c s0 ad fm cid slo N ft Qf n0 s1 pc L (.inl b :: .inl a :: r) mm := by
  intro H locs ls hR hlo hL hS h0 h1
  have K1 := K H locs ls hR hlo hL (am_vc (am_r32 _) (am_vt (am_vt hS))) h0 h1
  refine lv_ixor (x := Int32.ofInt a) (y := Int32.ofInt b) hx hb hd ?_
  have e1 : am_c ad fm (.inl (am_xor a b)) = .int _ := congrArg Value.int (am_o32 _)
  rw [List.map_cons, e1] at K1
  exact K1
theorem am_s_ishl (hx : p.tables.exec = Jvm.exec) (hb : c.code = cc) {a b : Int} (hd : decode cc pc = .ok (.ishl, 1)) (K : am_S p l e R s m args below meth c s0 ad fm cid slo N ft Qf n0 s1 (pc + 1) L (.inl (am_shl a b) :: r) mm) : am_S p l e R s m args below meth c s0 ad fm cid slo N ft Qf n0 s1 pc L (.inl b :: .inl a :: r) mm := by
  intro H locs ls hR hlo hL hS h0 h1
  have K1 := K H locs ls hR hlo hL (am_vc (am_r32 _) (am_vt (am_vt hS))) h0 h1
  refine lv_ishl (x := Int32.ofInt a) (y := Int32.ofInt b) hx hb hd ?_
  have e1 : am_c ad fm (.inl (am_shl a b)) = .int _ := congrArg Value.int (am_o32 _)
  rw [List.map_cons, e1] at K1
  exact K1
theorem am_s_ishr (hx : p.tables.exec = Jvm.exec) (hb : c.code = cc) {a b : Int} (hd : decode cc pc = .ok (.ishr, 1)) (K : am_S p l e R s m args below meth c s0 ad fm cid slo N ft Qf n0 s1 (pc + 1) L (.inl (am_shr a b) :: r) mm) : am_S p l e R s m args below meth c s0 ad fm cid slo N ft Qf n0 s1 pc L (.inl b :: .inl a :: r) mm := by
  intro H locs ls hR hlo hL hS h0 h1
  have K1 := K H locs ls hR hlo hL (am_vc (am_r32 _) (am_vt (am_vt hS))) h0 h1
  refine lv_ishr (x := Int32.ofInt a) (y := Int32.ofInt b) hx hb hd ?_
  have e1 : am_c ad fm (.inl (am_shr a b)) = .int _ := congrArg Value.int (am_o32 _)
  rw [List.map_cons, e1] at K1
  exact K1
theorem am_s_ladd (hx : p.tables.exec = Jvm.exec) (hb : c.code = cc) {a b : Int} (hd : decode cc pc = .ok (.ladd, 1)) (K : am_S p l e R s m args below meth c s0 ad fm cid slo N ft Qf n0 s1 (pc + 1) L (.inr (.inl (am_ladd a b)) :: r) mm) : am_S p l e R s m args below meth c s0 ad fm cid slo N ft Qf n0 s1 pc L (.inr (.inl b) :: .inr (.inl a) :: r) mm := by
  intro H locs ls hR hlo hL hS h0 h1
  have K1 := K H locs ls hR hlo hL (am_vc (am_r64 _) (am_vt (am_vt hS))) h0 h1
  refine lv_ladd (x := Int64.ofInt a) (y := Int64.ofInt b) hx hb hd ?_
  have e1 : am_c ad fm (.inr (.inl (am_ladd a b))) = .long _ := congrArg Value.long (am_o64 _)
  rw [List.map_cons, e1] at K1
  exact K1
theorem am_s_lsub (hx : p.tables.exec = Jvm.exec) (hb : c.code = cc) {a b : Int} (hd : decode cc pc = .ok (.lsub, 1)) (K : am_S p l e R s m args below meth c s0 ad fm cid slo N ft Qf n0 s1 (pc + 1) L (.inr (.inl (am_lsub a b)) :: r) mm) : am_S p l e R s m args below meth c s0 ad fm cid slo N ft Qf n0 s1 pc L (.inr (.inl b) :: .inr (.inl a) :: r) mm := by
  intro H locs ls hR hlo hL hS h0 h1
  have K1 := K H locs ls hR hlo hL (am_vc (am_r64 _) (am_vt (am_vt hS))) h0 h1
  refine lv_lsub (x := Int64.ofInt a) (y := Int64.ofInt b) hx hb hd ?_
  have e1 : am_c ad fm (.inr (.inl (am_lsub a b))) = .long _ := congrArg Value.long (am_o64 _)
  rw [List.map_cons, e1] at K1
  exact K1
theorem am_s_lmul (hx : p.tables.exec = Jvm.exec) (hb : c.code = cc) {a b : Int} (hd : decode cc pc = .ok (.lmul, 1)) (K : am_S p l e R s m args below meth c s0 ad fm cid slo N ft Qf n0 s1 (pc + 1) L (.inr (.inl (am_lmul a b)) :: r) mm) : am_S p l e R s m args below meth c s0 ad fm cid slo N ft Qf n0 s1 pc L (.inr (.inl b) :: .inr (.inl a) :: r) mm := by
  intro H locs ls hR hlo hL hS h0 h1
  have K1 := K H locs ls hR hlo hL (am_vc (am_r64 _) (am_vt (am_vt hS))) h0 h1
  refine lv_lmul (x := Int64.ofInt a) (y := Int64.ofInt b) hx hb hd ?_
  have e1 : am_c ad fm (.inr (.inl (am_lmul a b))) = .long _ := congrArg Value.long (am_o64 _)
  rw [List.map_cons, e1] at K1
  exact K1
theorem am_s_land (hx : p.tables.exec = Jvm.exec) (hb : c.code = cc) {a b : Int} (hd : decode cc pc = .ok (.land, 1)) (K : am_S p l e R s m args below meth c s0 ad fm cid slo N ft Qf n0 s1 (pc + 1) L (.inr (.inl (am_land a b)) :: r) mm) : am_S p l e R s m args below meth c s0 ad fm cid slo N ft Qf n0 s1 pc L (.inr (.inl b) :: .inr (.inl a) :: r) mm := by
  intro H locs ls hR hlo hL hS h0 h1
  have K1 := K H locs ls hR hlo hL (am_vc (am_r64 _) (am_vt (am_vt hS))) h0 h1
  refine lv_land (x := Int64.ofInt a) (y := Int64.ofInt b) hx hb hd ?_
  have e1 : am_c ad fm (.inr (.inl (am_land a b))) = .long _ := congrArg Value.long (am_o64 _)
  rw [List.map_cons, e1] at K1
  exact K1
theorem am_s_lor (hx : p.tables.exec = Jvm.exec) (hb : c.code = cc) {a b : Int} (hd : decode cc pc = .ok (.lor, 1)) (K : am_S p l e R s m args below meth c s0 ad fm cid slo N ft Qf n0 s1 (pc + 1) L (.inr (.inl (am_lor a b)) :: r) mm) : am_S p l e R s m args below meth c s0 ad fm cid slo N ft Qf n0 s1 pc L (.inr (.inl b) :: .inr (.inl a) :: r) mm := by
  intro H locs ls hR hlo hL hS h0 h1
  have K1 := K H locs ls hR hlo hL (am_vc (am_r64 _) (am_vt (am_vt hS))) h0 h1
  refine lv_lor (x := Int64.ofInt a) (y := Int64.ofInt b) hx hb hd ?_
  have e1 : am_c ad fm (.inr (.inl (am_lor a b))) = .long _ := congrArg Value.long (am_o64 _)
  rw [List.map_cons, e1] at K1
  exact K1
theorem am_s_ldiv (hx : p.tables.exec = Jvm.exec) (hb : c.code = cc) {a b : Int} (hr : b ≠ 0) (hd : decode cc pc = .ok (.ldiv, 1)) (K : am_S p l e R s m args below meth c s0 ad fm cid slo N ft Qf n0 s1 (pc + 1) L (.inr (.inl (am_ldiv a b)) :: r) mm) : am_S p l e R s m args below meth c s0 ad fm cid slo N ft Qf n0 s1 pc L (.inr (.inl b) :: .inr (.inl a) :: r) mm := by
  intro H locs ls hR hlo hL hS h0 h1
  have K1 := K H locs ls hR hlo hL (am_vc (am_r64 _) (am_vt (am_vt hS))) h0 h1
  refine lv_ldiv (x := Int64.ofInt a) (y := Int64.ofInt b) hx hb hd (fun z => ?_) ?_
  · have := congrArg Int64.toInt z
    rw [am_i64 (am_vh hS)] at this
    exact hr (by simpa using this)
  · have e1 : am_c ad fm (.inr (.inl (am_ldiv a b))) = .long _ := congrArg Value.long (am_o64 _)
    rw [List.map_cons, e1] at K1
    exact K1
theorem am_s_lrem (hx : p.tables.exec = Jvm.exec) (hb : c.code = cc) {a b : Int} (hr : b ≠ 0) (hd : decode cc pc = .ok (.lrem, 1)) (K : am_S p l e R s m args below meth c s0 ad fm cid slo N ft Qf n0 s1 (pc + 1) L (.inr (.inl (am_lrem a b)) :: r) mm) : am_S p l e R s m args below meth c s0 ad fm cid slo N ft Qf n0 s1 pc L (.inr (.inl b) :: .inr (.inl a) :: r) mm := by
  intro H locs ls hR hlo hL hS h0 h1
  have K1 := K H locs ls hR hlo hL (am_vc (am_r64 _) (am_vt (am_vt hS))) h0 h1
  refine lv_lrem (x := Int64.ofInt a) (y := Int64.ofInt b) hx hb hd (fun z => ?_) ?_
  · have := congrArg Int64.toInt z
    rw [am_i64 (am_vh hS)] at this
    exact hr (by simpa using this)
  · have e1 : am_c ad fm (.inr (.inl (am_lrem a b))) = .long _ := congrArg Value.long (am_o64 _)
    rw [List.map_cons, e1] at K1
    exact K1
theorem am_s_lneg (hx : p.tables.exec = Jvm.exec) (hb : c.code = cc) {a : Int} (hd : decode cc pc = .ok (.lneg, 1)) (K : am_S p l e R s m args below meth c s0 ad fm cid slo N ft Qf n0 s1 (pc + 1) L (.inr (.inl (am_lneg a)) :: r) mm) : am_S p l e R s m args below meth c s0 ad fm cid slo N ft Qf n0 s1 pc L (.inr (.inl a) :: r) mm := by
  intro H locs ls hR hlo hL hS h0 h1
  have K1 := K H locs ls hR hlo hL (am_vc (am_r64 _) (am_vt hS)) h0 h1
  refine lv_lneg (x := Int64.ofInt a) hx hb hd ?_
  have e1 : am_c ad fm (.inr (.inl (am_lneg a))) = .long _ := congrArg Value.long (am_o64 _)
  rw [List.map_cons, e1] at K1
  exact K1
theorem am_s_lshl (hx : p.tables.exec = Jvm.exec) (hb : c.code = cc) {a b : Int} (hd : decode cc pc = .ok (.lshl, 1)) (K : am_S p l e R s m args below meth c s0 ad fm cid slo N ft Qf n0 s1 (pc + 1) L (.inr (.inl (am_lshl a b)) :: r) mm) : am_S p l e R s m args below meth c s0 ad fm cid slo N ft Qf n0 s1 pc L (.inl b :: .inr (.inl a) :: r) mm := by
  intro H locs ls hR hlo hL hS h0 h1
  have K1 := K H locs ls hR hlo hL (am_vc (am_r64 _) (am_vt (am_vt hS))) h0 h1
  refine lv_lshl (x := Int64.ofInt a) (y := Int32.ofInt b) hx hb hd rfl ?_
  have e1 : am_c ad fm (.inr (.inl (am_lshl a b))) = .long _ := congrArg Value.long (am_o64 _)
  rw [List.map_cons, e1] at K1
  exact K1
theorem am_s_lushr (hx : p.tables.exec = Jvm.exec) (hb : c.code = cc) {a b : Int} (hd : decode cc pc = .ok (.lushr, 1)) (K : am_S p l e R s m args below meth c s0 ad fm cid slo N ft Qf n0 s1 (pc + 1) L (.inr (.inl (am_lushr a b)) :: r) mm) : am_S p l e R s m args below meth c s0 ad fm cid slo N ft Qf n0 s1 pc L (.inl b :: .inr (.inl a) :: r) mm := by
  intro H locs ls hR hlo hL hS h0 h1
  have K1 := K H locs ls hR hlo hL (am_vc (am_r64 _) (am_vt (am_vt hS))) h0 h1
  refine lv_lushr (x := Int64.ofInt a) (y := Int32.ofInt b) hx hb hd rfl ?_
  have e1 : am_c ad fm (.inr (.inl (am_lushr a b))) = .long _ := congrArg Value.long (am_o64 _)
  rw [List.map_cons, e1] at K1
  exact K1
theorem am_s_lcmp (hx : p.tables.exec = Jvm.exec) (hb : c.code = cc) {a b : Int} (hd : decode cc pc = .ok (.lcmp, 1)) (K : am_S p l e R s m args below meth c s0 ad fm cid slo N ft Qf n0 s1 (pc + 1) L (.inl (am_lc a b) :: r) mm) : am_S p l e R s m args below meth c s0 ad fm cid slo N ft Qf n0 s1 pc L (.inr (.inl b) :: .inr (.inl a) :: r) mm := by
  intro H locs ls hR hlo hL hS h0 h1
  have ha := am_i64 (am_vh (am_vt hS))
  have hb2 := am_i64 (am_vh hS)
  have e1 : lg_cmp (Int64.ofInt a) (Int64.ofInt b) = Int32.ofInt (am_lc a b) := by
    unfold lg_cmp am_lc
    simp only [gt_iff_lt, Int64.lt_iff_toInt_lt, ← Int64.toInt_inj, ha, hb2]
    rcases Int.lt_trichotomy a b with h | h | h
    · rw [if_neg (by omega), if_neg (by omega), if_pos h]
      rfl
    · rw [if_neg (by omega), if_pos h, if_neg (by omega), if_pos h]
      rfl
    · rw [if_pos h, if_neg (by omega), if_neg (by omega)]
      rfl
  have hv : am_vok (.inl (am_lc a b)) := by
    show -2147483648 ≤ am_lc a b ∧ am_lc a b ≤ 2147483647
    unfold am_lc
    split
    · omega
    · split <;> omega
  have K1 := K H locs ls hR hlo hL (am_vc hv (am_vt (am_vt hS))) h0 h1
  refine W.lcmp (x := Int64.ofInt a) (y := Int64.ofInt b) hx hb hd ?_
  rw [e1]
  exact K1
theorem am_s_i2l (hx : p.tables.exec = Jvm.exec) (hb : c.code = cc) {a : Int} (hd : decode cc pc = .ok (.i2l, 1)) (K : am_S p l e R s m args below meth c s0 ad fm cid slo N ft Qf n0 s1 (pc + 1) L (.inr (.inl a) :: r) mm) : am_S p l e R s m args below meth c s0 ad fm cid slo N ft Qf n0 s1 pc L (.inl a :: r) mm := by
  intro H locs ls hR hlo hL hS h0 h1
  have ha := am_vh hS
  have hv : am_vok (.inr (.inl a)) := by
    show -9223372036854775808 ≤ a ∧ a ≤ 9223372036854775807
    have h2 : -2147483648 ≤ a ∧ a ≤ 2147483647 := ha
    omega
  have K1 := K H locs ls hR hlo hL (am_vc hv (am_vt hS)) h0 h1
  refine lv_i2l (x := Int32.ofInt a) (v := Int64.ofInt a) hx hb hd ?_ ?_
  · rw [← Int64.toInt_inj, Int32.toInt_toInt64, am_i32 ha, am_i64 hv]
  · exact K1
theorem am_s_l2i (hx : p.tables.exec = Jvm.exec) (hb : c.code = cc) {a : Int} (hd : decode cc pc = .ok (.l2i, 1)) (K : am_S p l e R s m args below meth c s0 ad fm cid slo N ft Qf n0 s1 (pc + 1) L (.inl (am_l2i a) :: r) mm) : am_S p l e R s m args below meth c s0 ad fm cid slo N ft Qf n0 s1 pc L (.inr (.inl a) :: r) mm := by
  intro H locs ls hR hlo hL hS h0 h1
  have K1 := K H locs ls hR hlo hL (am_vc (am_r32 _) (am_vt hS)) h0 h1
  refine lv_l2i (x := Int64.ofInt a) hx hb hd rfl ?_
  have e1 : am_c ad fm (.inl (am_l2i a)) = .int _ := congrArg Value.int (am_o32 _)
  rw [List.map_cons, e1] at K1
  exact K1
theorem am_s_i2c (hx : p.tables.exec = Jvm.exec) (hb : c.code = cc) {a : Int} (hd : decode cc pc = .ok (.i2c, 1)) (K : am_S p l e R s m args below meth c s0 ad fm cid slo N ft Qf n0 s1 (pc + 1) L (.inl (am_i2c a) :: r) mm) : am_S p l e R s m args below meth c s0 ad fm cid slo N ft Qf n0 s1 pc L (.inl a :: r) mm := by
  intro H locs ls hR hlo hL hS h0 h1
  have K1 := K H locs ls hR hlo hL (am_vc (am_r32 _) (am_vt hS)) h0 h1
  refine lv_i2c (x := Int32.ofInt a) hx hb hd rfl ?_
  have e1 : am_c ad fm (.inl (am_i2c a)) = .int _ := congrArg Value.int (am_o32 _)
  rw [List.map_cons, e1] at K1
  exact K1
theorem am_s_null (hx : p.tables.exec = Jvm.exec) (hb : c.code = cc)  (hd : decode cc pc = .ok (.aconst_null, 1)) (K : am_S p l e R s m args below meth c s0 ad fm cid slo N ft Qf n0 s1 (pc + 1) L (.inr (.inr (.inl 0)) :: r) mm) : am_S p l e R s m args below meth c s0 ad fm cid slo N ft Qf n0 s1 pc L r mm := by
  intro H locs ls hR hlo hL hS h0 h1
  have K1 := K H locs ls hR hlo hL (am_vc trivial hS) h0 h1
  exact lv_null hx hb hd K1
theorem am_s_iload (hx : p.tables.exec = Jvm.exec) (hb : c.code = cc) {n : Nat} {x : Int} (hn : am_at L n = .inl x) (hd : decode cc pc = .ok (.iload n, 2)) (K : am_S p l e R s m args below meth c s0 ad fm cid slo N ft Qf n0 s1 (pc + 2) L (.inl x :: r) mm) : am_S p l e R s m args below meth c s0 ad fm cid slo N ft Qf n0 s1 pc L r mm := by
  intro H locs ls hR hlo hL hS h0 h1
  have q := hL.2.2 n (by rw [hn]; intro z; cases z)
  rw [hn] at q
  have K1 := K H locs ls hR hlo hL (am_vc q.2 hS) h0 h1
  exact lv_iload hx hb hd q.1 K1
theorem am_s_lload (hx : p.tables.exec = Jvm.exec) (hb : c.code = cc) {n : Nat} {x : Int} (hn : am_at L n = .inr (.inl x)) (hd : decode cc pc = .ok (.lload n, 2)) (K : am_S p l e R s m args below meth c s0 ad fm cid slo N ft Qf n0 s1 (pc + 2) L (.inr (.inl x) :: r) mm) : am_S p l e R s m args below meth c s0 ad fm cid slo N ft Qf n0 s1 pc L r mm := by
  intro H locs ls hR hlo hL hS h0 h1
  have q := hL.2.2 n (by rw [hn]; intro z; cases z)
  rw [hn] at q
  have K1 := K H locs ls hR hlo hL (am_vc q.2 hS) h0 h1
  exact lv_lload hx hb hd q.1 K1
theorem am_s_aload (hx : p.tables.exec = Jvm.exec) (hb : c.code = cc) {n : Nat} {x : Int} (hn : am_at L n = .inr (.inr (.inl x))) (hf : am_fmok fm) (hd : decode cc pc = .ok (.aload n, 2)) (K : am_S p l e R s m args below meth c s0 ad fm cid slo N ft Qf n0 s1 (pc + 2) L (.inr (.inr (.inl x)) :: r) mm) : am_S p l e R s m args below meth c s0 ad fm cid slo N ft Qf n0 s1 pc L r mm := by
  intro H locs ls hR hlo hL hS h0 h1
  have q := hL.2.2 n (by rw [hn]; intro z; cases z)
  rw [hn] at q
  have K1 := K H locs ls hR hlo hL (am_vc q.2 hS) h0 h1
  exact am_r_aload hx hb (am_refv hf x) hd q.1 K1
theorem am_s_iload_n (hx : p.tables.exec = Jvm.exec) (hb : c.code = cc) {n : Fin 4} {x : Int} (hn : am_at L n = .inl x) (hd : decode cc pc = .ok (.iload_n n, 1)) (K : am_S p l e R s m args below meth c s0 ad fm cid slo N ft Qf n0 s1 (pc + 1) L (.inl x :: r) mm) : am_S p l e R s m args below meth c s0 ad fm cid slo N ft Qf n0 s1 pc L r mm := by
  intro H locs ls hR hlo hL hS h0 h1
  have q := hL.2.2 n (by rw [hn]; intro z; cases z)
  rw [hn] at q
  have K1 := K H locs ls hR hlo hL (am_vc q.2 hS) h0 h1
  exact lv_iload_n hx hb hd rfl q.1 K1
theorem am_s_lload_n (hx : p.tables.exec = Jvm.exec) (hb : c.code = cc) {n : Fin 4} {x : Int} (hn : am_at L n = .inr (.inl x)) (hd : decode cc pc = .ok (.lload_n n, 1)) (K : am_S p l e R s m args below meth c s0 ad fm cid slo N ft Qf n0 s1 (pc + 1) L (.inr (.inl x) :: r) mm) : am_S p l e R s m args below meth c s0 ad fm cid slo N ft Qf n0 s1 pc L r mm := by
  intro H locs ls hR hlo hL hS h0 h1
  have q := hL.2.2 n (by rw [hn]; intro z; cases z)
  rw [hn] at q
  have K1 := K H locs ls hR hlo hL (am_vc q.2 hS) h0 h1
  exact lv_lload_n hx hb hd rfl q.1 K1
theorem am_s_aload_n (hx : p.tables.exec = Jvm.exec) (hb : c.code = cc) {n : Fin 4} {x : Int} (hn : am_at L n = .inr (.inr (.inl x))) (hf : am_fmok fm) (hd : decode cc pc = .ok (.aload_n n, 1)) (K : am_S p l e R s m args below meth c s0 ad fm cid slo N ft Qf n0 s1 (pc + 1) L (.inr (.inr (.inl x)) :: r) mm) : am_S p l e R s m args below meth c s0 ad fm cid slo N ft Qf n0 s1 pc L r mm := by
  intro H locs ls hR hlo hL hS h0 h1
  have q := hL.2.2 n (by rw [hn]; intro z; cases z)
  rw [hn] at q
  have K1 := K H locs ls hR hlo hL (am_vc q.2 hS) h0 h1
  exact am_r_aload_n hx hb (am_refv hf x) hd q.1 K1
theorem am_s_iconst (hx : p.tables.exec = Jvm.exec) (hb : c.code = cc) {n y : Int} (hy : Int32.ofInt n = Int32.ofInt y) (hv : -2147483648 ≤ y ∧ y ≤ 2147483647) (hd : decode cc pc = .ok (.iconst n, 1)) (K : am_S p l e R s m args below meth c s0 ad fm cid slo N ft Qf n0 s1 (pc + 1) L (.inl y :: r) mm) : am_S p l e R s m args below meth c s0 ad fm cid slo N ft Qf n0 s1 pc L r mm := by
  intro H locs ls hR hlo hL hS h0 h1
  have K1 := K H locs ls hR hlo hL (am_vc hv hS) h0 h1
  exact lv_iconst hx hb hd hy K1
theorem am_s_bipush (hx : p.tables.exec = Jvm.exec) (hb : c.code = cc) {n y : Int} (hy : (Int8.ofInt n).toInt32 = Int32.ofInt y) (hv : -2147483648 ≤ y ∧ y ≤ 2147483647) (hd : decode cc pc = .ok (.bipush n, 2)) (K : am_S p l e R s m args below meth c s0 ad fm cid slo N ft Qf n0 s1 (pc + 2) L (.inl y :: r) mm) : am_S p l e R s m args below meth c s0 ad fm cid slo N ft Qf n0 s1 pc L r mm := by
  intro H locs ls hR hlo hL hS h0 h1
  have K1 := K H locs ls hR hlo hL (am_vc hv hS) h0 h1
  exact lv_bipush hx hb hd hy K1
theorem am_s_sipush (hx : p.tables.exec = Jvm.exec) (hb : c.code = cc) {n y : Int} (hy : (Int16.ofInt n).toInt32 = Int32.ofInt y) (hv : -2147483648 ≤ y ∧ y ≤ 2147483647) (hd : decode cc pc = .ok (.sipush n, 3)) (K : am_S p l e R s m args below meth c s0 ad fm cid slo N ft Qf n0 s1 (pc + 3) L (.inl y :: r) mm) : am_S p l e R s m args below meth c s0 ad fm cid slo N ft Qf n0 s1 pc L r mm := by
  intro H locs ls hR hlo hL hS h0 h1
  have K1 := K H locs ls hR hlo hL (am_vc hv hS) h0 h1
  exact lv_sipush hx hb hd hy K1
theorem am_s_lconst (hx : p.tables.exec = Jvm.exec) (hb : c.code = cc) {n : Fin 2} {y : Int} (hy : Int64.ofNat (n : Nat) = Int64.ofInt y) (hv : am_vok (.inr (.inl y))) (hd : decode cc pc = .ok (.lconst n, 1)) (K : am_S p l e R s m args below meth c s0 ad fm cid slo N ft Qf n0 s1 (pc + 1) L (.inr (.inl y) :: r) mm) : am_S p l e R s m args below meth c s0 ad fm cid slo N ft Qf n0 s1 pc L r mm := by
  intro H locs ls hR hlo hL hS h0 h1
  have K1 := K H locs ls hR hlo hL (am_vc hv hS) h0 h1
  exact lv_lconst hx hb hd hy K1
theorem am_s_dupi (hx : p.tables.exec = Jvm.exec) (hb : c.code = cc) {a : Int} (hd : decode cc pc = .ok (.dup, 1)) (K : am_S p l e R s m args below meth c s0 ad fm cid slo N ft Qf n0 s1 (pc + 1) L (.inl a :: .inl a :: r) mm) : am_S p l e R s m args below meth c s0 ad fm cid slo N ft Qf n0 s1 pc L (.inl a :: r) mm := by
  intro H locs ls hR hlo hL hS h0 h1
  exact lv_dup hx hb hd rfl (K H locs ls hR hlo hL (am_vc (am_vh hS) hS) h0 h1)
theorem am_s_dupa (hx : p.tables.exec = Jvm.exec) (hb : c.code = cc) {a : Int} (hf : am_fmok fm) (hd : decode cc pc = .ok (.dup, 1)) (K : am_S p l e R s m args below meth c s0 ad fm cid slo N ft Qf n0 s1 (pc + 1) L (.inr (.inr (.inl a)) :: .inr (.inr (.inl a)) :: r) mm) : am_S p l e R s m args below meth c s0 ad fm cid slo N ft Qf n0 s1 pc L (.inr (.inr (.inl a)) :: r) mm := by
  intro H locs ls hR hlo hL hS h0 h1
  exact lv_dup hx hb hd (am_cat1 hf _) (K H locs ls hR hlo hL (am_vc (am_vh hS) hS) h0 h1)
theorem am_s_dup2l (hx : p.tables.exec = Jvm.exec) (hb : c.code = cc) {a : Int} (hd : decode cc pc = .ok (.dup2, 1)) (K : am_S p l e R s m args below meth c s0 ad fm cid slo N ft Qf n0 s1 (pc + 1) L (.inr (.inl a) :: .inr (.inl a) :: r) mm) : am_S p l e R s m args below meth c s0 ad fm cid slo N ft Qf n0 s1 pc L (.inr (.inl a) :: r) mm := by
  intro H locs ls hR hlo hL hS h0 h1
  exact lv_dup2_2 hx hb hd rfl (K H locs ls hR hlo hL (am_vc (am_vh hS) hS) h0 h1)
theorem am_s_dup2ia (hx : p.tables.exec = Jvm.exec) (hb : c.code = cc) {a b : Int} (hf : am_fmok fm) (hd : decode cc pc = .ok (.dup2, 1)) (K : am_S p l e R s m args below meth c s0 ad fm cid slo N ft Qf n0 s1 (pc + 1) L (.inl a :: .inr (.inr (.inl b)) :: .inl a :: .inr (.inr (.inl b)) :: r) mm) : am_S p l e R s m args below meth c s0 ad fm cid slo N ft Qf n0 s1 pc L (.inl a :: .inr (.inr (.inl b)) :: r) mm := by
  intro H locs ls hR hlo hL hS h0 h1
  exact lv_dup2_11 hx hb hd rfl (am_cat1 hf _) (K H locs ls hR hlo hL (am_vc (am_vh hS) (am_vc (am_vh (am_vt hS)) hS)) h0 h1)
theorem am_s_popi (hx : p.tables.exec = Jvm.exec) (hb : c.code = cc) {a : Int} (hd : decode cc pc = .ok (.pop, 1)) (K : am_S p l e R s m args below meth c s0 ad fm cid slo N ft Qf n0 s1 (pc + 1) L r mm) : am_S p l e R s m args below meth c s0 ad fm cid slo N ft Qf n0 s1 pc L (.inl a :: r) mm := by
  intro H locs ls hR hlo hL hS h0 h1
  exact lv_pop hx hb hd rfl (K H locs ls hR hlo hL (am_vt hS) h0 h1)
theorem am_s_popa (hx : p.tables.exec = Jvm.exec) (hb : c.code = cc) {a : Int} (hf : am_fmok fm) (hd : decode cc pc = .ok (.pop, 1)) (K : am_S p l e R s m args below meth c s0 ad fm cid slo N ft Qf n0 s1 (pc + 1) L r mm) : am_S p l e R s m args below meth c s0 ad fm cid slo N ft Qf n0 s1 pc L (.inr (.inr (.inl a)) :: r) mm := by
  intro H locs ls hR hlo hL hS h0 h1
  exact lv_pop hx hb hd (am_cat1 hf _) (K H locs ls hR hlo hL (am_vt hS) h0 h1)
theorem am_s_istore (hx : p.tables.exec = Jvm.exec) (hb : c.code = cc) {n : Nat} {x : Int} (hf : am_fmok fm) (hl : (n : Nat) < L.length) (hc : am_cut n L = true) (hd : decode cc pc = .ok (.istore n, 2)) (K : am_S p l e R s m args below meth c s0 ad fm cid slo N ft Qf n0 s1 (pc + 2) (am_set L n (.inl x)) r mm) : am_S p l e R s m args below meth c s0 ad fm cid slo N ft Qf n0 s1 pc L (.inl x :: r) mm := by
  intro H locs ls hR hlo hL hS h0 h1
  exact lv_istore hx hb hd hL.has hl rfl (fun ls1 hl1 => K H locs ls1 hR hlo (hL.set1 hf (v := .inl x) hl (am_vh hS) hc hl1) (am_vt hS) h0 h1)
theorem am_s_astore (hx : p.tables.exec = Jvm.exec) (hb : c.code = cc) {n : Nat} {x : Int} (hf : am_fmok fm) (hl : (n : Nat) < L.length) (hc : am_cut n L = true) (hd : decode cc pc = .ok (.astore n, 2)) (K : am_S p l e R s m args below meth c s0 ad fm cid slo N ft Qf n0 s1 (pc + 2) (am_set L n (.inr (.inr (.inl x)))) r mm) : am_S p l e R s m args below meth c s0 ad fm cid slo N ft Qf n0 s1 pc L (.inr (.inr (.inl x)) :: r) mm := by
  intro H locs ls hR hlo hL hS h0 h1
  exact am_r_astore hx hb (am_refv hf x) hd hL.has hl (fun ls1 hl1 => K H locs ls1 hR hlo (hL.set1 hf (v := .inr (.inr (.inl x))) hl (am_vh hS) hc hl1) (am_vt hS) h0 h1)
theorem am_s_istore_n (hx : p.tables.exec = Jvm.exec) (hb : c.code = cc) {n : Fin 4} {x : Int} (hf : am_fmok fm) (hl : (n : Nat) < L.length) (hc : am_cut n L = true) (hd : decode cc pc = .ok (.istore_n n, 1)) (K : am_S p l e R s m args below meth c s0 ad fm cid slo N ft Qf n0 s1 (pc + 1) (am_set L n (.inl x)) r mm) : am_S p l e R s m args below meth c s0 ad fm cid slo N ft Qf n0 s1 pc L (.inl x :: r) mm := by
  intro H locs ls hR hlo hL hS h0 h1
  exact lv_istore_n hx hb hd rfl hL.has hl rfl (fun ls1 hl1 => K H locs ls1 hR hlo (hL.set1 hf (v := .inl x) hl (am_vh hS) hc hl1) (am_vt hS) h0 h1)
theorem am_s_astore_n (hx : p.tables.exec = Jvm.exec) (hb : c.code = cc) {n : Fin 4} {x : Int} (hf : am_fmok fm) (hl : (n : Nat) < L.length) (hc : am_cut n L = true) (hd : decode cc pc = .ok (.astore_n n, 1)) (K : am_S p l e R s m args below meth c s0 ad fm cid slo N ft Qf n0 s1 (pc + 1) (am_set L n (.inr (.inr (.inl x)))) r mm) : am_S p l e R s m args below meth c s0 ad fm cid slo N ft Qf n0 s1 pc L (.inr (.inr (.inl x)) :: r) mm := by
  intro H locs ls hR hlo hL hS h0 h1
  exact am_r_astore_n hx hb (am_refv hf x) hd hL.has hl (fun ls1 hl1 => K H locs ls1 hR hlo (hL.set1 hf (v := .inr (.inr (.inl x))) hl (am_vh hS) hc hl1) (am_vt hS) h0 h1)
theorem am_s_lstore (hx : p.tables.exec = Jvm.exec) (hb : c.code = cc) {n : Nat} {x : Int} (hf : am_fmok fm) (hl : (n : Nat) + 1 < L.length) (hc : am_cut n L = true) (hd : decode cc pc = .ok (.lstore n, 2)) (K : am_S p l e R s m args below meth c s0 ad fm cid slo N ft Qf n0 s1 (pc + 2) (am_set (am_set L n (.inr (.inl x))) (n + 1) aU) r mm) : am_S p l e R s m args below meth c s0 ad fm cid slo N ft Qf n0 s1 pc L (.inr (.inl x) :: r) mm := by
  intro H locs ls hR hlo hL hS h0 h1
  exact lv_lstore hx hb hd hL.has hl rfl (fun ls1 hl1 => K H locs ls1 hR hlo (hL.set2 hf (v := .inr (.inl x)) hl (am_vh hS) hc hl1) (am_vt hS) h0 h1)
theorem am_s_lstore_n (hx : p.tables.exec = Jvm.exec) (hb : c.code = cc) {n : Fin 4} {x : Int} (hf : am_fmok fm) (hl : (n : Nat) + 1 < L.length) (hc : am_cut n L = true) (hd : decode cc pc = .ok (.lstore_n n, 1)) (K : am_S p l e R s m args below meth c s0 ad fm cid slo N ft Qf n0 s1 (pc + 1) (am_set (am_set L n (.inr (.inl x))) (n + 1) aU) r mm) : am_S p l e R s m args below meth c s0 ad fm cid slo N ft Qf n0 s1 pc L (.inr (.inl x) :: r) mm := by
  intro H locs ls hR hlo hL hS h0 h1
  exact lv_lstore_n hx hb hd rfl hL.has hl rfl (fun ls1 hl1 => K H locs ls1 hR hlo (hL.set2 hf (v := .inr (.inl x)) hl (am_vh hS) hc hl1) (am_vt hS) h0 h1)
theorem am_s_iinc (hx : p.tables.exec = Jvm.exec) (hb : c.code = cc) {n : Nat} {k x : Int} (hf : am_fmok fm) (hn : am_at L n = .inl x) (hc : am_cut n L = true) (hr : -2147483648 ≤ x + k ∧ x + k ≤ 2147483647) (hd : decode cc pc = .ok (.iinc n k, 3)) (K : am_S p l e R s m args below meth c s0 ad fm cid slo N ft Qf n0 s1 (pc + 3) (am_set L n (.inl (x + k))) r mm) : am_S p l e R s m args below meth c s0 ad fm cid slo N ft Qf n0 s1 pc L r mm := by
  intro H locs ls hR hlo hL hS h0 h1
  have hl : n < L.length := am_at_lt (by rw [hn]; intro z; cases z)
  have hm : ((n, Value.int (Int32.ofInt x)) : Nat × Value) ∈ am_lst ad fm L := am_lst_mem.mpr ⟨(by rw [hn]; intro z; cases z), (by rw [hn]; rfl)⟩
  obtain ⟨j, hj⟩ := List.getElem?_of_mem hm
  exact lv_iinc hx hb hd hL.has hj (Int32.ofInt_add x k).symm hl rfl (fun ls1 hl1 => K H locs ls1 hR hlo (hL.set1 hf (v := .inl (x + k)) hl hr hc hl1) hS h0 h1)
theorem am_s_if_eq (hx : p.tables.exec = Jvm.exec) (hb : c.code = cc) {o : Int} {t : Nat} {a : Int} (hd : decode cc pc = .ok (.ifCond .eq o, 3)) (ht : (pc : Int) + o = (t : Int)) (K1 : a = 0 → am_S p l e R s m args below meth c s0 ad fm cid slo N ft Qf n0 s1 t L r mm) (K2 : a ≠ 0 → am_S p l e R s m args below meth c s0 ad fm cid slo N ft Qf n0 s1 (pc + 3) L r mm) : am_S p l e R s m args below meth c s0 ad fm cid slo N ft Qf n0 s1 pc L (.inl a :: r) mm := by
  intro H locs ls hR hlo hL hS h0 h1
  have ha := am_i32 (am_vh hS)
  have hb2 : (0 : Int32).toInt = 0 := rfl
  refine lv_if_eq (x := Int32.ofInt a) (tgt := t) hx hb hd ht (fun z => K1 ?_ H locs ls hR hlo hL (am_vt hS) h0 h1) (fun z => K2 ?_ H locs ls hR hlo hL (am_vt hS) h0 h1)
  · simp only [ne_eq, gt_iff_lt, ge_iff_le, ← Int32.toInt_inj, ha, hb2] at z
    omega
  · simp only [ne_eq, gt_iff_lt, ge_iff_le, ← Int32.toInt_inj, ha, hb2] at z
    omega
theorem am_s_icmp_eq (hx : p.tables.exec = Jvm.exec) (hb : c.code = cc) {o : Int} {t : Nat} {a b : Int} (hd : decode cc pc = .ok (.if_icmp .eq o, 3)) (ht : (pc : Int) + o = (t : Int)) (K1 : a = b → am_S p l e R s m args below meth c s0 ad fm cid slo N ft Qf n0 s1 t L r mm) (K2 : a ≠ b → am_S p l e R s m args below meth c s0 ad fm cid slo N ft Qf n0 s1 (pc + 3) L r mm) : am_S p l e R s m args below meth c s0 ad fm cid slo N ft Qf n0 s1 pc L (.inl b :: .inl a :: r) mm := by
  intro H locs ls hR hlo hL hS h0 h1
  have ha := am_i32 (am_vh (am_vt hS))
  have hb2 := am_i32 (am_vh hS)
  refine lv_icmp_eq (x := Int32.ofInt a) (y := Int32.ofInt b) (tgt := t) hx hb hd ht (fun z => K1 ?_ H locs ls hR hlo hL (am_vt (am_vt hS)) h0 h1) (fun z => K2 ?_ H locs ls hR hlo hL (am_vt (am_vt hS)) h0 h1)
  · simp only [ne_eq, gt_iff_lt, ge_iff_le, ← Int32.toInt_inj, ha, hb2] at z
    omega
  · simp only [ne_eq, gt_iff_lt, ge_iff_le, ← Int32.toInt_inj, ha, hb2] at z
    omega
theorem am_s_if_ne (hx : p.tables.exec = Jvm.exec) (hb : c.code = cc) {o : Int} {t : Nat} {a : Int} (hd : decode cc pc = .ok (.ifCond .ne o, 3)) (ht : (pc : Int) + o = (t : Int)) (K1 : a ≠ 0 → am_S p l e R s m args below meth c s0 ad fm cid slo N ft Qf n0 s1 t L r mm) (K2 : a = 0 → am_S p l e R s m args below meth c s0 ad fm cid slo N ft Qf n0 s1 (pc + 3) L r mm) : am_S p l e R s m args below meth c s0 ad fm cid slo N ft Qf n0 s1 pc L (.inl a :: r) mm := by
  intro H locs ls hR hlo hL hS h0 h1
  have ha := am_i32 (am_vh hS)
  have hb2 : (0 : Int32).toInt = 0 := rfl
  refine lv_if_ne (x := Int32.ofInt a) (tgt := t) hx hb hd ht (fun z => K1 ?_ H locs ls hR hlo hL (am_vt hS) h0 h1) (fun z => K2 ?_ H locs ls hR hlo hL (am_vt hS) h0 h1)
  · simp only [ne_eq, gt_iff_lt, ge_iff_le, ← Int32.toInt_inj, ha, hb2] at z
    omega
  · simp only [ne_eq, gt_iff_lt, ge_iff_le, ← Int32.toInt_inj, ha, hb2] at z
    omega
theorem am_s_icmp_ne (hx : p.tables.exec = Jvm.exec) (hb : c.code = cc) {o : Int} {t : Nat} {a b : Int} (hd : decode cc pc = .ok (.if_icmp .ne o, 3)) (ht : (pc : Int) + o = (t : Int)) (K1 : a ≠ b → am_S p l e R s m args below meth c s0 ad fm cid slo N ft Qf n0 s1 t L r mm) (K2 : a = b → am_S p l e R s m args below meth c s0 ad fm cid slo N ft Qf n0 s1 (pc + 3) L r mm) : am_S p l e R s m args below meth c s0 ad fm cid slo N ft Qf n0 s1 pc L (.inl b :: .inl a :: r) mm := by
  intro H locs ls hR hlo hL hS h0 h1
  have ha := am_i32 (am_vh (am_vt hS))
  have hb2 := am_i32 (am_vh hS)
  refine lv_icmp_ne (x := Int32.ofInt a) (y := Int32.ofInt b) (tgt := t) hx hb hd ht (fun z => K1 ?_ H locs ls hR hlo hL (am_vt (am_vt hS)) h0 h1) (fun z => K2 ?_ H locs ls hR hlo hL (am_vt (am_vt hS)) h0 h1)
  · simp only [ne_eq, gt_iff_lt, ge_iff_le, ← Int32.toInt_inj, ha, hb2] at z
    omega
  · simp only [ne_eq, gt_iff_lt, ge_iff_le, ← Int32.toInt_inj, ha, hb2] at z
    omega
theorem am_s_if_lt (hx : p.tables.exec = Jvm.exec) (hb : c.code = cc) {o : Int} {t : Nat} {a : Int} (hd : decode cc pc = .ok (.ifCond .lt o, 3)) (ht : (pc : Int) + o = (t : Int)) (K1 : a < 0 → am_S p l e R s m args below meth c s0 ad fm cid slo N ft Qf n0 s1 t L r mm) (K2 : 0 ≤ a → am_S p l e R s m args below meth c s0 ad fm cid slo N ft Qf n0 s1 (pc + 3) L r mm) : am_S p l e R s m args below meth c s0 ad fm cid slo N ft Qf n0 s1 pc L (.inl a :: r) mm := by
  intro H locs ls hR hlo hL hS h0 h1
  have ha := am_i32 (am_vh hS)
  have hb2 : (0 : Int32).toInt = 0 := rfl
  refine lv_if_lt (x := Int32.ofInt a) (tgt := t) hx hb hd ht (fun z => K1 ?_ H locs ls hR hlo hL (am_vt hS) h0 h1) (fun z => K2 ?_ H locs ls hR hlo hL (am_vt hS) h0 h1)
  · simp only [ne_eq, gt_iff_lt, ge_iff_le, Int32.lt_iff_toInt_lt, ha, hb2] at z
    omega
  · simp only [ne_eq, gt_iff_lt, ge_iff_le, Int32.lt_iff_toInt_lt, ha, hb2] at z
    omega
theorem am_s_icmp_lt (hx : p.tables.exec = Jvm.exec) (hb : c.code = cc) {o : Int} {t : Nat} {a b : Int} (hd : decode cc pc = .ok (.if_icmp .lt o, 3)) (ht : (pc : Int) + o = (t : Int)) (K1 : a < b → am_S p l e R s m args below meth c s0 ad fm cid slo N ft Qf n0 s1 t L r mm) (K2 : b ≤ a → am_S p l e R s m args below meth c s0 ad fm cid slo N ft Qf n0 s1 (pc + 3) L r mm) : am_S p l e R s m args below meth c s0 ad fm cid slo N ft Qf n0 s1 pc L (.inl b :: .inl a :: r) mm := by
  intro H locs ls hR hlo hL hS h0 h1
  have ha := am_i32 (am_vh (am_vt hS))
  have hb2 := am_i32 (am_vh hS)
  refine lv_icmp_lt (x := Int32.ofInt a) (y := Int32.ofInt b) (tgt := t) hx hb hd ht (fun z => K1 ?_ H locs ls hR hlo hL (am_vt (am_vt hS)) h0 h1) (fun z => K2 ?_ H locs ls hR hlo hL (am_vt (am_vt hS)) h0 h1)
  · simp only [ne_eq, gt_iff_lt, ge_iff_le, Int32.lt_iff_toInt_lt, ha, hb2] at z
    omega
  · simp only [ne_eq, gt_iff_lt, ge_iff_le, Int32.lt_iff_toInt_lt, ha, hb2] at z
    omega
theorem am_s_if_ge (hx : p.tables.exec = Jvm.exec) (hb : c.code = cc) {o : Int} {t : Nat} {a : Int} (hd : decode cc pc = .ok (.ifCond .ge o, 3)) (ht : (pc : Int) + o = (t : Int)) (K1 : 0 ≤ a → am_S p l e R s m args below meth c s0 ad fm cid slo N ft Qf n0 s1 t L r mm) (K2 : a < 0 → am_S p l e R s m args below meth c s0 ad fm cid slo N ft Qf n0 s1 (pc + 3) L r mm) : am_S p l e R s m args below meth c s0 ad fm cid slo N ft Qf n0 s1 pc L (.inl a :: r) mm := by
  intro H locs ls hR hlo hL hS h0 h1
  have ha := am_i32 (am_vh hS)
  have hb2 : (0 : Int32).toInt = 0 := rfl
  refine lv_if_ge (x := Int32.ofInt a) (tgt := t) hx hb hd ht (fun z => K1 ?_ H locs ls hR hlo hL (am_vt hS) h0 h1) (fun z => K2 ?_ H locs ls hR hlo hL (am_vt hS) h0 h1)
  · simp only [ne_eq, gt_iff_lt, ge_iff_le, Int32.le_iff_toInt_le, ha, hb2] at z
    omega
  · simp only [ne_eq, gt_iff_lt, ge_iff_le, Int32.le_iff_toInt_le, ha, hb2] at z
    omega
theorem am_s_icmp_ge (hx : p.tables.exec = Jvm.exec) (hb : c.code = cc) {o : Int} {t : Nat} {a b : Int} (hd : decode cc pc = .ok (.if_icmp .ge o, 3)) (ht : (pc : Int) + o = (t : Int)) (K1 : b ≤ a → am_S p l e R s m args below meth c s0 ad fm cid slo N ft Qf n0 s1 t L r mm) (K2 : a < b → am_S p l e R s m args below meth c s0 ad fm cid slo N ft Qf n0 s1 (pc + 3) L r mm) : am_S p l e R s m args below meth c s0 ad fm cid slo N ft Qf n0 s1 pc L (.inl b :: .inl a :: r) mm := by
  intro H locs ls hR hlo hL hS h0 h1
  have ha := am_i32 (am_vh (am_vt hS))
  have hb2 := am_i32 (am_vh hS)
  refine lv_icmp_ge (x := Int32.ofInt a) (y := Int32.ofInt b) (tgt := t) hx hb hd ht (fun z => K1 ?_ H locs ls hR hlo hL (am_vt (am_vt hS)) h0 h1) (fun z => K2 ?_ H locs ls hR hlo hL (am_vt (am_vt hS)) h0 h1)
  · simp only [ne_eq, gt_iff_lt, ge_iff_le, Int32.le_iff_toInt_le, ha, hb2] at z
    omega
  · simp only [ne_eq, gt_iff_lt, ge_iff_le, Int32.le_iff_toInt_le, ha, hb2] at z
    omega
theorem am_s_if_gt (hx : p.tables.exec = Jvm.exec) (hb : c.code = cc) {o : Int} {t : Nat} {a : Int} (hd : decode cc pc = .ok (.ifCond .gt o, 3)) (ht : (pc : Int) + o = (t : Int)) (K1 : 0 < a → am_S p l e R s m args below meth c s0 ad fm cid slo N ft Qf n0 s1 t L r mm) (K2 : a ≤ 0 → am_S p l e R s m args below meth c s0 ad fm cid slo N ft Qf n0 s1 (pc + 3) L r mm) : am_S p l e R s m args below meth c s0 ad fm cid slo N ft Qf n0 s1 pc L (.inl a :: r) mm := by
  intro H locs ls hR hlo hL hS h0 h1
  have ha := am_i32 (am_vh hS)
  have hb2 : (0 : Int32).toInt = 0 := rfl
  refine lv_if_gt (x := Int32.ofInt a) (tgt := t) hx hb hd ht (fun z => K1 ?_ H locs ls hR hlo hL (am_vt hS) h0 h1) (fun z => K2 ?_ H locs ls hR hlo hL (am_vt hS) h0 h1)
  · simp only [ne_eq, gt_iff_lt, ge_iff_le, Int32.lt_iff_toInt_lt, ha, hb2] at z
    omega
  · simp only [ne_eq, gt_iff_lt, ge_iff_le, Int32.lt_iff_toInt_lt, ha, hb2] at z
    omega
theorem am_s_icmp_gt (hx : p.tables.exec = Jvm.exec) (hb : c.code = cc) {o : Int} {t : Nat} {a b : Int} (hd : decode cc pc = .ok (.if_icmp .gt o, 3)) (ht : (pc : Int) + o = (t : Int)) (K1 : b < a → am_S p l e R s m args below meth c s0 ad fm cid slo N ft Qf n0 s1 t L r mm) (K2 : a ≤ b → am_S p l e R s m args below meth c s0 ad fm cid slo N ft Qf n0 s1 (pc + 3) L r mm) : am_S p l e R s m args below meth c s0 ad fm cid slo N ft Qf n0 s1 pc L (.inl b :: .inl a :: r) mm := by
  intro H locs ls hR hlo hL hS h0 h1
  have ha := am_i32 (am_vh (am_vt hS))
  have hb2 := am_i32 (am_vh hS)
  refine lv_icmp_gt (x := Int32.ofInt a) (y := Int32.ofInt b) (tgt := t) hx hb hd ht (fun z => K1 ?_ H locs ls hR hlo hL (am_vt (am_vt hS)) h0 h1) (fun z => K2 ?_ H locs ls hR hlo hL (am_vt (am_vt hS)) h0 h1)
  · simp only [ne_eq, gt_iff_lt, ge_iff_le, Int32.lt_iff_toInt_lt, ha, hb2] at z
    omega
  · simp only [ne_eq, gt_iff_lt, ge_iff_le, Int32.lt_iff_toInt_lt, ha, hb2] at z
    omega
theorem am_s_if_le (hx : p.tables.exec = Jvm.exec) (hb : c.code = cc) {o : Int} {t : Nat} {a : Int} (hd : decode cc pc = .ok (.ifCond .le o, 3)) (ht : (pc : Int) + o = (t : Int)) (K1 : a ≤ 0 → am_S p l e R s m args below meth c s0 ad fm cid slo N ft Qf n0 s1 t L r mm) (K2 : 0 < a → am_S p l e R s m args below meth c s0 ad fm cid slo N ft Qf n0 s1 (pc + 3) L r mm) : am_S p l e R s m args below meth c s0 ad fm cid slo N ft Qf n0 s1 pc L (.inl a :: r) mm := by
  intro H locs ls hR hlo hL hS h0 h1
  have ha := am_i32 (am_vh hS)
  have hb2 : (0 : Int32).toInt = 0 := rfl
  refine lv_if_le (x := Int32.ofInt a) (tgt := t) hx hb hd ht (fun z => K1 ?_ H locs ls hR hlo hL (am_vt hS) h0 h1) (fun z => K2 ?_ H locs ls hR hlo hL (am_vt hS) h0 h1)
  · simp only [ne_eq, gt_iff_lt, ge_iff_le, Int32.le_iff_toInt_le, ha, hb2] at z
    omega
  · simp only [ne_eq, gt_iff_lt, ge_iff_le, Int32.le_iff_toInt_le, ha, hb2] at z
    omega
theorem am_s_icmp_le (hx : p.tables.exec = Jvm.exec) (hb : c.code = cc) {o : Int} {t : Nat} {a b : Int} (hd : decode cc pc = .ok (.if_icmp .le o, 3)) (ht : (pc : Int) + o = (t : Int)) (K1 : a ≤ b → am_S p l e R s m args below meth c s0 ad fm cid slo N ft Qf n0 s1 t L r mm) (K2 : b < a → am_S p l e R s m args below meth c s0 ad fm cid slo N ft Qf n0 s1 (pc + 3) L r mm) : am_S p l e R s m args below meth c s0 ad fm cid slo N ft Qf n0 s1 pc L (.inl b :: .inl a :: r) mm := by
  intro H locs ls hR hlo hL hS h0 h1
  have ha := am_i32 (am_vh (am_vt hS))
  have hb2 := am_i32 (am_vh hS)
  refine lv_icmp_le (x := Int32.ofInt a) (y := Int32.ofInt b) (tgt := t) hx hb hd ht (fun z => K1 ?_ H locs ls hR hlo hL (am_vt (am_vt hS)) h0 h1) (fun z => K2 ?_ H locs ls hR hlo hL (am_vt (am_vt hS)) h0 h1)
  · simp only [ne_eq, gt_iff_lt, ge_iff_le, Int32.le_iff_toInt_le, ha, hb2] at z
    omega
  · simp only [ne_eq, gt_iff_lt, ge_iff_le, Int32.le_iff_toInt_le, ha, hb2] at z
    omega
end Steps
