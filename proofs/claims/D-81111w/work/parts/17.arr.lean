theorem am_ix {i n : Int} (hi : -2147483648 ≤ i ∧ i ≤ 2147483647) (h : 0 ≤ i ∧ i < n) : ¬ (Int32.ofInt i < 0 ∨ n.toNat ≤ (Int32.ofInt i).toNatClampNeg) ∧ (Int32.ofInt i).toNatClampNeg = i.toNat := by
  have e : (Int32.ofInt i).toNatClampNeg = i.toNat := by
    show (Int32.ofInt i).toInt.toNat = i.toNat
    rw [am_i32 hi]
  refine ⟨fun z => ?_, e⟩
  rw [e, Int32.lt_iff_toInt_lt, am_i32 hi] at z
  have z0 : (0 : Int32).toInt = 0 := rfl
  rw [z0] at z
  omega
theorem am_arrOf {s : State} {cA : ClassId} {ty : FieldType} (h : ArrOfT s cA ty) {cell : Cell} (hc : cell.cls = cA) (hv : cell.vm.isStatics = false) : s.isArrayOf cell ty := by
  obtain ⟨-, h2⟩ := h 0 (fun _ => .null)
  refine ⟨fun k e => ?_, ?_⟩
  · rw [e] at hv; cases hv
  · rw [hc]; exact h2
section Arr
variable {p : Program} {l : Launch} {e : Env} {R : Room} {s : State} {m : MethodId} {args : Array Value} {below : List Frame} {meth : Method} {c : Code} {cc : ByteArray} {s0 : State} {ad : Int → Nat} {fm : Value} {cid : Int → ClassId} {slo : Int → Nat → Nat} {N : Int → Nat} {ft : Int → Nat → Nat} {Qf : State → Prop} {n0 s1 : Int} {pc : Nat} {L r : List aV} {mm : aM} {H : Heap}
/-- the cell behind a write of one place of an array -/
theorem am_wr_arr {cell : Cell} {a i v : Int} (ho : am_isA (mm a (-1)) = true) (hi : 0 ≤ i ∧ i < mm a (-2)) (hv : am_vok (am_mk (am_aw (mm a (-1))) v))
    (c1 : H[ad a]? = some (cell.setSlot i.toNat (am_w ad fm (am_aw (mm a (-1))) v))) (c2 : cell.cls = cid (mm a (-1))) (c3 : cell.vm ≠ .unknown) (c4 : cell.vm.isStatics = false) (c5 : 0 < a → cell.vm = .none) (ha : 0 < a)
    (c6 : cell.slots.size = (mm a (-2)).toNat) (c7 : mm a (-2) ≤ 2147483647) (c8 : ∀ j : Nat, (j : Int) < mm a (-2) → cell.slots[j]? = some (am_w ad fm (am_aw (mm a (-1))) (mm a j)) ∧ am_vok (am_mk (am_aw (mm a (-1))) (mm a j))) : am_cell s0 ad fm cid slo N ft (mS mm a i v) H a := by
  have e1 : mS mm a i v a (-1) = mm a (-1) := mS_i _ _ _ _ (by omega)
  have e2 : mS mm a i v a (-2) = mm a (-2) := mS_i _ _ _ _ (by omega)
  refine ⟨_, c1, by rw [e1]; exact c2, c3, c4, fun h _ => c5 h, fun h => by omega, Or.inr (Or.inl ⟨by rw [e1]; exact ho, by rw [e2]; omega, by rw [e2]; simpa [Cell.setSlot] using c6, by rw [e2]; exact c7, fun j hj => ?_⟩)⟩
  rw [e2] at hj
  rw [e1]
  by_cases e : (j : Int) = i
  · have ej : i.toNat = j := by omega
    rw [e, mS_eq, ej, Cell.slots_setSlot_self _ (k2_hasslot (c8 j hj).1)]
    exact ⟨rfl, hv⟩
  · rw [mS_i _ _ _ _ e, slot_ne _ _ (by omega)]
    exact c8 j hj
theorem am_s_iaload (hx : p.tables.exec = Jvm.exec) (hb : c.code = cc) {a i : Int} (hA : ArrOfT s (cid 40) .int) (ht : mm a (-1) = 40) (hi : 0 ≤ i ∧ i < mm a (-2)) (hd : decode cc pc = .ok (.iaload, 1)) (K : am_S p l e R s m args below meth c s0 ad fm cid slo N ft Qf n0 s1 (pc + 1) L (am_mk 0 (mm a i) :: r) mm) : am_S p l e R s m args below meth c s0 ad fm cid slo N ft Qf n0 s1 pc L (.inl i :: .inr (.inr (.inl a)) :: r) mm := by
  intro H locs ls hR hlo hL hS h0 h1
  obtain ⟨cell, c1, c2, c3, c4, c5, c6, c7, c8, c9⟩ := hR.arr (a := a) (by rw [ht]; rfl)
  have q := c9 i.toNat (by omega)
  rw [ht, show ((i.toNat : Nat) : Int) = i by omega] at q
  have x := am_ix (am_vh hS) hi
  have K1 := K H locs ls hR hlo hL (am_vc q.2 (am_vt (am_vt hS))) h0 h1
  rw [List.map_cons, List.map_cons, show am_c ad fm (.inr (.inr (.inl a))) = am_rv ad fm a from rfl, (hR.rv (by rw [ht]; decide)).1]
  exact W.iald hx hb c1 (am_arrOf hA (by rw [c2, ht]) c4) c3 (by rw [c7]; exact x.1) (by rw [x.2]; exact q.1) rfl rfl hd K1
theorem am_s_iaload49 (hx : p.tables.exec = Jvm.exec) (hb : c.code = cc) {a i : Int} (hA : ArrOfT s (cid 49) .int) (ht : mm a (-1) = 49) (hi : 0 ≤ i ∧ i < mm a (-2)) (hd : decode cc pc = .ok (.iaload, 1)) (K : am_S p l e R s m args below meth c s0 ad fm cid slo N ft Qf n0 s1 (pc + 1) L (am_mk 0 (mm a i) :: r) mm) : am_S p l e R s m args below meth c s0 ad fm cid slo N ft Qf n0 s1 pc L (.inl i :: .inr (.inr (.inl a)) :: r) mm := by
  intro H locs ls hR hlo hL hS h0 h1
  obtain ⟨cell, c1, c2, c3, c4, c5, c6, c7, c8, c9⟩ := hR.arr (a := a) (by rw [ht]; rfl)
  have q := c9 i.toNat (by omega)
  rw [ht, show ((i.toNat : Nat) : Int) = i by omega] at q
  have x := am_ix (am_vh hS) hi
  have K1 := K H locs ls hR hlo hL (am_vc q.2 (am_vt (am_vt hS))) h0 h1
  rw [List.map_cons, List.map_cons, show am_c ad fm (.inr (.inr (.inl a))) = am_rv ad fm a from rfl, (hR.rv (by rw [ht]; decide)).1]
  exact W.iald hx hb c1 (am_arrOf hA (by rw [c2, ht]) c4) c3 (by rw [c7]; exact x.1) (by rw [x.2]; exact q.1) rfl rfl hd K1
theorem am_s_laload (hx : p.tables.exec = Jvm.exec) (hb : c.code = cc) {a i : Int} (hA : ArrOfT s (cid 41) .long) (ht : mm a (-1) = 41) (hi : 0 ≤ i ∧ i < mm a (-2)) (hd : decode cc pc = .ok (.laload, 1)) (K : am_S p l e R s m args below meth c s0 ad fm cid slo N ft Qf n0 s1 (pc + 1) L (am_mk 1 (mm a i) :: r) mm) : am_S p l e R s m args below meth c s0 ad fm cid slo N ft Qf n0 s1 pc L (.inl i :: .inr (.inr (.inl a)) :: r) mm := by
  intro H locs ls hR hlo hL hS h0 h1
  obtain ⟨cell, c1, c2, c3, c4, c5, c6, c7, c8, c9⟩ := hR.arr (a := a) (by rw [ht]; rfl)
  have q := c9 i.toNat (by omega)
  rw [ht, show ((i.toNat : Nat) : Int) = i by omega] at q
  have x := am_ix (am_vh hS) hi
  have K1 := K H locs ls hR hlo hL (am_vc q.2 (am_vt (am_vt hS))) h0 h1
  rw [List.map_cons, List.map_cons, show am_c ad fm (.inr (.inr (.inl a))) = am_rv ad fm a from rfl, (hR.rv (by rw [ht]; decide)).1]
  exact W.lald hx hb c1 (am_arrOf hA (by rw [c2, ht]) c4) c3 (by rw [c7]; exact x.1) (by rw [x.2]; exact q.1) rfl rfl hd K1
theorem am_s_baloadz (hx : p.tables.exec = Jvm.exec) (hb : c.code = cc) {a i : Int} (hA : ArrOfT s (cid 42) .boolean) (ht : mm a (-1) = 42) (hi : 0 ≤ i ∧ i < mm a (-2)) (hd : decode cc pc = .ok (.baload, 1)) (K : am_S p l e R s m args below meth c s0 ad fm cid slo N ft Qf n0 s1 (pc + 1) L (am_mk 0 (mm a i) :: r) mm) : am_S p l e R s m args below meth c s0 ad fm cid slo N ft Qf n0 s1 pc L (.inl i :: .inr (.inr (.inl a)) :: r) mm := by
  intro H locs ls hR hlo hL hS h0 h1
  obtain ⟨cell, c1, c2, c3, c4, c5, c6, c7, c8, c9⟩ := hR.arr (a := a) (by rw [ht]; rfl)
  have q := c9 i.toNat (by omega)
  rw [ht, show ((i.toNat : Nat) : Int) = i by omega] at q
  have x := am_ix (am_vh hS) hi
  have K1 := K H locs ls hR hlo hL (am_vc q.2 (am_vt (am_vt hS))) h0 h1
  rw [List.map_cons, List.map_cons, show am_c ad fm (.inr (.inr (.inl a))) = am_rv ad fm a from rfl, (hR.rv (by rw [ht]; decide)).1]
  exact W.zald hx hb c1 (am_arrOf hA (by rw [c2, ht]) c4) c3 (by rw [c7]; exact x.1) (by rw [x.2]; exact q.1) rfl rfl hd K1
theorem am_s_baloadb (hx : p.tables.exec = Jvm.exec) (hb : c.code = cc) {a i : Int} (hA : ArrOfT s (cid 43) .byte) (ht : mm a (-1) = 43) (hi : 0 ≤ i ∧ i < mm a (-2)) (hd : decode cc pc = .ok (.baload, 1)) (K : am_S p l e R s m args below meth c s0 ad fm cid slo N ft Qf n0 s1 (pc + 1) L (am_mk 0 (mm a i) :: r) mm) : am_S p l e R s m args below meth c s0 ad fm cid slo N ft Qf n0 s1 pc L (.inl i :: .inr (.inr (.inl a)) :: r) mm := by
  intro H locs ls hR hlo hL hS h0 h1
  obtain ⟨cell, c1, c2, c3, c4, c5, c6, c7, c8, c9⟩ := hR.arr (a := a) (by rw [ht]; rfl)
  have q := c9 i.toNat (by omega)
  rw [ht, show ((i.toNat : Nat) : Int) = i by omega] at q
  have x := am_ix (am_vh hS) hi
  have K1 := K H locs ls hR hlo hL (am_vc q.2 (am_vt (am_vt hS))) h0 h1
  rw [List.map_cons, List.map_cons, show am_c ad fm (.inr (.inr (.inl a))) = am_rv ad fm a from rfl, (hR.rv (by rw [ht]; decide)).1]
  exact W.bald hx hb c1 (am_arrOf hA (by rw [c2, ht]) c4) c3 (by rw [c7]; exact x.1) (by rw [x.2]; exact q.1) rfl rfl hd K1
theorem am_s_baload1k (hx : p.tables.exec = Jvm.exec) (hb : c.code = cc) {a i : Int} (hA : ArrOfT s (cid (mm a (-1))) .byte) (ht : 1000 ≤ mm a (-1) ∧ mm a (-1) ≤ 1066) (hi : 0 ≤ i ∧ i < mm a (-2)) (hd : decode cc pc = .ok (.baload, 1)) (K : am_S p l e R s m args below meth c s0 ad fm cid slo N ft Qf n0 s1 (pc + 1) L (am_mk 0 (mm a i) :: r) mm) : am_S p l e R s m args below meth c s0 ad fm cid slo N ft Qf n0 s1 pc L (.inl i :: .inr (.inr (.inl a)) :: r) mm := by
  intro H locs ls hR hlo hL hS h0 h1
  obtain ⟨cell, c1, c2, c3, c4, c5, c6, c7, c8, c9⟩ := hR.arr (a := a) (by unfold am_isA; simp only [Bool.or_eq_true, Bool.and_eq_true, decide_eq_true_eq]; exact Or.inr ht)
  have q := c9 i.toNat (by omega)
  rw [show am_aw (mm a (-1)) = 0 from if_pos ht.1, show ((i.toNat : Nat) : Int) = i by omega] at q
  have x := am_ix (am_vh hS) hi
  have K1 := K H locs ls hR hlo hL (am_vc q.2 (am_vt (am_vt hS))) h0 h1
  rw [List.map_cons, List.map_cons, show am_c ad fm (.inr (.inr (.inl a))) = am_rv ad fm a from rfl, (hR.rv (by omega)).1]
  exact W.bald hx hb c1 (am_arrOf hA c2 c4) c3 (by rw [c7]; exact x.1) (by rw [x.2]; exact q.1) rfl rfl hd K1
theorem am_s_aaload (hx : p.tables.exec = Jvm.exec) (hb : c.code = cc) {a i : Int} (hA : ArrOfT s (cid (mm a (-1))) (am_aty (mm a (-1)))) (ht : 44 ≤ mm a (-1) ∧ mm a (-1) ≤ 48) (hi : 0 ≤ i ∧ i < mm a (-2)) (hd : decode cc pc = .ok (.aaload, 1)) (K : am_S p l e R s m args below meth c s0 ad fm cid slo N ft Qf n0 s1 (pc + 1) L (.inr (.inr (.inl (mm a i))) :: r) mm) : am_S p l e R s m args below meth c s0 ad fm cid slo N ft Qf n0 s1 pc L (.inl i :: .inr (.inr (.inl a)) :: r) mm := by
  intro H locs ls hR hlo hL hS h0 h1
  have hh : mm a (-1) = 44 ∨ mm a (-1) = 45 ∨ mm a (-1) = 46 ∨ mm a (-1) = 47 ∨ mm a (-1) = 48 := by omega
  have hisA : am_isA (mm a (-1)) = true := by rcases hh with h | h | h | h | h <;> rw [h] <;> rfl
  have haw : am_aw (mm a (-1)) = 2 := by rcases hh with h | h | h | h | h <;> rw [h] <;> rfl
  have href : (am_aty (mm a (-1))).isReference = true := by rcases hh with h | h | h | h | h <;> rw [h] <;> rfl
  obtain ⟨cell, c1, c2, c3, c4, c5, c6, c7, c8, c9⟩ := hR.arr (a := a) hisA
  have q := c9 i.toNat (by omega)
  rw [haw, show ((i.toNat : Nat) : Int) = i by omega] at q
  have x := am_ix (am_vh hS) hi
  have K1 := K H locs ls hR hlo hL (am_vc trivial (am_vt (am_vt hS))) h0 h1
  rw [List.map_cons, List.map_cons, show am_c ad fm (.inr (.inr (.inl a))) = am_rv ad fm a from rfl, (hR.rv (by omega)).1]
  exact W.aald hx hb c1 (am_arrOf hA c2 c4) href c3 (by rw [c7]; exact x.1) (by rw [x.2]; exact q.1) rfl rfl hd K1
theorem am_s_iastore (hx : p.tables.exec = Jvm.exec) (hb : c.code = cc) (had : ∀ r, 0 < r → ad r = s0.heap.size + (r - 1).toNat) {a i v : Int} (hA : ArrOfT s (cid 40) .int) (ht : mm a (-1) = 40) (hi : 0 ≤ i ∧ i < mm a (-2)) (hmay : am_may mm a i) (hd : decode cc pc = .ok (.iastore, 1)) (K : am_S p l e R s m args below meth c s0 ad fm cid slo N ft Qf n0 s1 (pc + 1) L r (mS mm a i v)) : am_S p l e R s m args below meth c s0 ad fm cid slo N ft Qf n0 s1 pc L (.inl v :: .inl i :: .inr (.inr (.inl a)) :: r) mm := by
  intro H locs ls hR hlo hL hS h0 h1
  have ho : am_isA (mm a (-1)) = true := by rw [ht]; rfl
  have haw : am_aw (mm a (-1)) = 0 := by rw [ht]; rfl
  obtain ⟨cell, c1, c2, c3, c4, c5, c6, c7, c8, c9⟩ := hR.arr (a := a) ho
  have x := am_ix (am_vh (am_vt hS)) hi
  have e0 : ∀ j, mS mm a i v 0 j = mm 0 j := fun j => mS_a _ _ _ _ (by have := hmay.1; omega)
  rw [List.map_cons, List.map_cons, List.map_cons, show am_c ad fm (.inr (.inr (.inl a))) = am_rv ad fm a from rfl, (hR.rv (by rw [ht]; decide)).1]
  refine W.iast hx hb c1 (am_arrOf hA (by rw [c2, ht]) c4) c3 (by rw [c7]; exact x.1) rfl rfl hd (fun H1 g1 g2 g3 => ?_)
  rw [x.2] at g1 ⊢
  have hR1 : am_Rep s0 ad fm cid slo N ft (mS mm a i v) H1 := hR.put had hmay (am_wr_arr ho hi (by rw [haw]; exact am_vh hS) (by rw [haw]; exact g1) c2 c3 c4 c5 hmay.1 c7 c8 c9) g2 g3
  have K1 := K H1 (locs ++ [⟨ad a, i.toNat⟩]) ls hR1 (am_lo hlo (by have := had a hmay.1; show s0.heap.size ≤ ad a; omega)) hL (am_vt (am_vt (am_vt hS))) (by rw [e0]; exact h0) (by rw [e0]; exact h1)
  rw [e0, e0] at K1
  exact K1
theorem am_s_lastore (hx : p.tables.exec = Jvm.exec) (hb : c.code = cc) (had : ∀ r, 0 < r → ad r = s0.heap.size + (r - 1).toNat) {a i v : Int} (hA : ArrOfT s (cid 41) .long) (ht : mm a (-1) = 41) (hi : 0 ≤ i ∧ i < mm a (-2)) (hmay : am_may mm a i) (hd : decode cc pc = .ok (.lastore, 1)) (K : am_S p l e R s m args below meth c s0 ad fm cid slo N ft Qf n0 s1 (pc + 1) L r (mS mm a i v)) : am_S p l e R s m args below meth c s0 ad fm cid slo N ft Qf n0 s1 pc L (.inr (.inl v) :: .inl i :: .inr (.inr (.inl a)) :: r) mm := by
  intro H locs ls hR hlo hL hS h0 h1
  have ho : am_isA (mm a (-1)) = true := by rw [ht]; rfl
  have haw : am_aw (mm a (-1)) = 1 := by rw [ht]; rfl
  obtain ⟨cell, c1, c2, c3, c4, c5, c6, c7, c8, c9⟩ := hR.arr (a := a) ho
  have x := am_ix (am_vh (am_vt hS)) hi
  have e0 : ∀ j, mS mm a i v 0 j = mm 0 j := fun j => mS_a _ _ _ _ (by have := hmay.1; omega)
  rw [List.map_cons, List.map_cons, List.map_cons, show am_c ad fm (.inr (.inr (.inl a))) = am_rv ad fm a from rfl, (hR.rv (by rw [ht]; decide)).1]
  refine W.last hx hb c1 (am_arrOf hA (by rw [c2, ht]) c4) c3 (by rw [c7]; exact x.1) rfl rfl hd (fun H1 g1 g2 g3 => ?_)
  rw [x.2] at g1 ⊢
  have hR1 : am_Rep s0 ad fm cid slo N ft (mS mm a i v) H1 := hR.put had hmay (am_wr_arr ho hi (by rw [haw]; exact am_vh hS) (by rw [haw]; exact g1) c2 c3 c4 c5 hmay.1 c7 c8 c9) g2 g3
  have K1 := K H1 (locs ++ [⟨ad a, i.toNat⟩]) ls hR1 (am_lo hlo (by have := had a hmay.1; show s0.heap.size ≤ ad a; omega)) hL (am_vt (am_vt (am_vt hS))) (by rw [e0]; exact h0) (by rw [e0]; exact h1)
  rw [e0, e0] at K1
  exact K1
theorem am_s_bastore (hx : p.tables.exec = Jvm.exec) (hb : c.code = cc) (had : ∀ r, 0 < r → ad r = s0.heap.size + (r - 1).toNat) {a i v : Int} (hA : ArrOfT s (cid 42) .boolean) (ht : mm a (-1) = 42) (hi : 0 ≤ i ∧ i < mm a (-2)) (hmay : am_may mm a i) (hv : v = 0 ∨ v = 1) (hd : decode cc pc = .ok (.bastore, 1)) (K : am_S p l e R s m args below meth c s0 ad fm cid slo N ft Qf n0 s1 (pc + 1) L r (mS mm a i v)) : am_S p l e R s m args below meth c s0 ad fm cid slo N ft Qf n0 s1 pc L (.inl v :: .inl i :: .inr (.inr (.inl a)) :: r) mm := by
  intro H locs ls hR hlo hL hS h0 h1
  have ho : am_isA (mm a (-1)) = true := by rw [ht]; rfl
  have haw : am_aw (mm a (-1)) = 0 := by rw [ht]; rfl
  obtain ⟨cell, c1, c2, c3, c4, c5, c6, c7, c8, c9⟩ := hR.arr (a := a) ho
  have x := am_ix (am_vh (am_vt hS)) hi
  have e0 : ∀ j, mS mm a i v 0 j = mm 0 j := fun j => mS_a _ _ _ _ (by have := hmay.1; omega)
  rw [List.map_cons, List.map_cons, List.map_cons, show am_c ad fm (.inr (.inr (.inl a))) = am_rv ad fm a from rfl, (hR.rv (by rw [ht]; decide)).1]
  refine W.zast hx hb c1 (am_arrOf hA (by rw [c2, ht]) c4) c3 (by rw [c7]; exact x.1) rfl rfl hd (fun H1 g1 g2 g3 => ?_)
  have en : narrow .boolean (.int (Int32.ofInt v)) = .int (Int32.ofInt v) := by rcases hv with rfl | rfl <;> rfl
  rw [en] at g1
  rw [x.2] at g1 ⊢
  have hR1 : am_Rep s0 ad fm cid slo N ft (mS mm a i v) H1 := hR.put had hmay (am_wr_arr ho hi (by rw [haw]; exact am_vh hS) (by rw [haw]; exact g1) c2 c3 c4 c5 hmay.1 c7 c8 c9) g2 g3
  have K1 := K H1 (locs ++ [⟨ad a, i.toNat⟩]) ls hR1 (am_lo hlo (by have := had a hmay.1; show s0.heap.size ≤ ad a; omega)) hL (am_vt (am_vt (am_vt hS))) (by rw [e0]; exact h0) (by rw [e0]; exact h1)
  rw [e0, e0] at K1
  exact K1
theorem am_s_aastore (hx : p.tables.exec = Jvm.exec) (hb : c.code = cc) (had : ∀ r, 0 < r → ad r = s0.heap.size + (r - 1).toNat) {a i v : Int} {C : String} (hty : am_aty (mm a (-1)) = .object C) (hA : ArrOfT s (cid (mm a (-1))) (am_aty (mm a (-1)))) (hRA : va_RA s (cid (mm a (-1))) (am_aty (mm a (-1)))) (ht : 44 ≤ mm a (-1) ∧ mm a (-1) ≤ 48) (hi : 0 ≤ i ∧ i < mm a (-2)) (hmay : am_may mm a i) (hv : v = 0 ∨ (am_isO (mm v (-1)) = true ∧ ∃ kv, s.vm.classes[cid (mm v (-1))]? = some kv ∧ ∀ comp, s.vm.findClass C = some comp → s.vm.assignable (cid (mm v (-1))) comp = true ∧ ∃ kc, s.vm.classes[comp]? = some kc)) (hd : decode cc pc = .ok (.aastore, 1)) (K : am_S p l e R s m args below meth c s0 ad fm cid slo N ft Qf n0 s1 (pc + 1) L r (mS mm a i v)) : am_S p l e R s m args below meth c s0 ad fm cid slo N ft Qf n0 s1 pc L (.inr (.inr (.inl v)) :: .inl i :: .inr (.inr (.inl a)) :: r) mm := by
  intro H locs ls hR hlo hL hS h0 h1
  have hh : mm a (-1) = 44 ∨ mm a (-1) = 45 ∨ mm a (-1) = 46 ∨ mm a (-1) = 47 ∨ mm a (-1) = 48 := by omega
  have ho : am_isA (mm a (-1)) = true := by rcases hh with h | h | h | h | h <;> rw [h] <;> rfl
  have haw : am_aw (mm a (-1)) = 2 := by rcases hh with h | h | h | h | h <;> rw [h] <;> rfl
  obtain ⟨cell, c1, c2, c3, c4, c5, c6, c7, c8, c9⟩ := hR.arr (a := a) ho
  have x := am_ix (am_vh (am_vt hS)) hi
  have e0 : ∀ j, mS mm a i v 0 j = mm 0 j := fun j => mS_a _ _ _ _ (by have := hmay.1; omega)
  have key : ∀ H1 : Heap, H1[ad a]? = some (cell.setSlot (Int32.ofInt i).toNatClampNeg (am_rv ad fm v)) → H1.size = H.size → (∀ q, q ≠ ad a → H1[q]? = H[q]?) → W p l e R s m args below meth c H1 (locs ++ [⟨ad a, (Int32.ofInt i).toNatClampNeg⟩]) (mm 0 0 - n0).toNat (mm 0 1 - s1).toNat Qf (F0 m (pc + 1) ls (r.map (am_c ad fm))) := by
    intro H1 g1 g2 g3
    rw [x.2] at g1 ⊢
    have hR1 : am_Rep s0 ad fm cid slo N ft (mS mm a i v) H1 := hR.put had hmay (am_wr_arr ho hi (by rw [haw]; trivial) (by rw [haw]; exact g1) c2 c3 c4 c5 hmay.1 c7 c8 c9) g2 g3
    have K1 := K H1 (locs ++ [⟨ad a, i.toNat⟩]) ls hR1 (am_lo hlo (by have := had a hmay.1; show s0.heap.size ≤ ad a; omega)) hL (am_vt (am_vt (am_vt hS))) (by rw [e0]; exact h0) (by rw [e0]; exact h1)
    rw [e0, e0] at K1
    exact K1
  rw [List.map_cons, List.map_cons, List.map_cons, show am_c ad fm (.inr (.inr (.inl a))) = am_rv ad fm a from rfl, show am_c ad fm (.inr (.inr (.inl v))) = am_rv ad fm v from rfl, (hR.rv (a := a) (by omega)).1]
  rcases hv with hv | ⟨hv, kv, hkv, hasg⟩
  · have ev : am_rv ad fm v = .null := by unfold am_rv; rw [if_pos hv]
    rw [ev] at key ⊢
    rw [hty] at hA
    exact va_WaastN hx hb c1 (am_arrOf hA c2 c4) c3 (by rw [c7]; exact x.1) rfl rfl hd key
  · have ev := (hR.rv (am_isO_no hv).2.2).1
    rw [ev] at key ⊢
    obtain ⟨cv, d1, d2, d3, d4, -, -⟩ := hR.obj hv
    rw [hty] at hRA
    obtain ⟨kA, comp, r1, r2, r3, r4⟩ := hRA
    obtain ⟨as1, kc, hkc⟩ := hasg comp r3
    refine W.aast hx hb c1 (fun q h => ?_) c3 (by rw [c2]; exact r1) r2 rfl hkc ⟨fun z => x.1 (Or.inl z), by rw [c7]; exact Nat.lt_of_not_le (fun z => x.1 (Or.inr z))⟩ d1 (fun q h => ?_) (by rw [d2]; exact hkv) (by rw [d2]; exact as1) rfl rfl hd key
    · rw [h] at c4; cases c4
    · rw [h] at d4; cases d4
theorem am_s_alen (hx : p.tables.exec = Jvm.exec) (hb : c.code = cc) {a : Int} (hA : ArrOfT s (cid (mm a (-1))) (am_aty (mm a (-1)))) (ht : am_isA (mm a (-1)) = true) (hd : decode cc pc = .ok (.arraylength, 1)) (K : am_S p l e R s m args below meth c s0 ad fm cid slo N ft Qf n0 s1 (pc + 1) L (.inl (mm a (-2)) :: r) mm) : am_S p l e R s m args below meth c s0 ad fm cid slo N ft Qf n0 s1 pc L (.inr (.inr (.inl a)) :: r) mm := by
  intro H locs ls hR hlo hL hS h0 h1
  obtain ⟨cell, c1, c2, c3, c4, c5, c6, c7, c8, c9⟩ := hR.arr (a := a) ht
  have K1 := K H locs ls hR hlo hL (am_vc ⟨by omega, by omega⟩ (am_vt hS)) h0 h1
  rw [List.map_cons, show am_c ad fm (.inr (.inr (.inl a))) = am_rv ad fm a from rfl, (hR.rv (am_isA_no ht).2.2).1]
  refine W.alen (n := Int32.ofInt (mm a (-2))) hx hb c1 (am_arrOf hA c2 c4) ?_ rfl rfl hd K1
  rw [c7]
  show Int32.ofNat (mm a (-2)).toNat = Int32.ofInt (mm a (-2))
  rw [← Int32.ofInt_eq_ofNat]
  congr 1
  omega
end Arr
