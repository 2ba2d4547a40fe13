theorem am_isO_no {t : Int} (h : am_isO t = true) : am_isA t = false ∧ am_isX t = false ∧ t ≠ 0 := by
  unfold am_isO at h
  simp only [List.elem_eq_mem, List.mem_cons, List.not_mem_nil, or_false, decide_eq_true_eq] at h
  rcases h with rfl | rfl | rfl | rfl | rfl | rfl | rfl | rfl | rfl | rfl | rfl | rfl | rfl | rfl | rfl | rfl <;> decide
theorem am_isA_no {t : Int} (h : am_isA t = true) : am_isO t = false ∧ am_isX t = false ∧ t ≠ 0 := by
  unfold am_isA at h
  simp only [Bool.or_eq_true, Bool.and_eq_true, decide_eq_true_eq] at h
  refine ⟨?_, ?_, by omega⟩
  · cases hb : am_isO t with
    | false => rfl
    | true =>
      exfalso
      unfold am_isO at hb
      simp only [List.elem_eq_mem, List.mem_cons, List.not_mem_nil, or_false, decide_eq_true_eq] at hb
      omega
  · cases hb : am_isX t with
    | false => rfl
    | true =>
      exfalso
      unfold am_isX at hb
      simp only [Bool.or_eq_true, Bool.and_eq_true, decide_eq_true_eq] at hb
      omega
theorem am_aw2 {t : Int} (h : am_isA t = true) (h2 : am_aw t = 2) : t < 49 := by
  unfold am_isA at h
  simp only [Bool.or_eq_true, Bool.and_eq_true, decide_eq_true_eq] at h
  unfold am_aw at h2
  split at h2
  · cases h2
  · split at h2
    · cases h2
    · omega
/-- the link of a field, by the class itself or by a nest mate -/
def am_FL (s : State) (args : Array Value) (own : String) (idx : Nat) (T : String × String × String × Bool) : Prop :=
  (Jvm.Cond.fieldLink own idx T.1 T.2.1 T.2.2.1).before args s = true ∨ ∃ host, (Jvm.Cond.fieldLinkNest own idx T.1 T.2.1 T.2.2.1 host).before args s = true
section Heap
variable {p : Program} {l : Launch} {e : Env} {R : Room} {s : State} {m : MethodId} {args : Array Value} {below : List Frame} {meth : Method} {c : Code} {cc : ByteArray} {s0 : State} {ad : Int → Nat} {fm : Value} {cid : Int → ClassId} {slo : Int → Nat → Nat} {N : Int → Nat} {ft : Int → Nat → Nat} {Qf : State → Prop} {n0 s1 : Int} {pc : Nat} {L r : List aV} {mm : aM} {H : Heap}
theorem am_Rep.rv (hR : am_Rep s0 ad fm cid slo N ft mm H) {a : Int} (h : mm a (-1) ≠ 0) : am_rv ad fm a = .ref (ad a) ∧ a ≠ 0 := by
  obtain ⟨_, _, _, ⟨h0, h9⟩, _⟩ := hR
  have a0 : a ≠ 0 := fun e => h (by rw [e]; exact h0)
  have a9 : a ≠ -9 := fun e => h (by rw [e]; exact h9)
  exact ⟨by unfold am_rv; rw [if_neg a0, if_neg a9], a0⟩
/-- an object with fields -/
theorem am_Rep.obj (hR : am_Rep s0 ad fm cid slo N ft mm H) {a : Int} (ho : am_isO (mm a (-1)) = true) : ∃ cell : Cell, H[ad a]? = some cell ∧ cell.cls = cid (mm a (-1)) ∧ cell.vm ≠ .unknown ∧ cell.vm.isStatics = false ∧ (0 < a → cell.vm = .none) ∧ ∀ k, k < N (mm a (-1)) → cell.slots[slo (mm a (-1)) k]? = some (am_w ad fm (ft (mm a (-1)) k) (mm a k)) ∧ am_vok (am_mk (ft (mm a (-1)) k) (mm a k)) := by
  have hn := am_isO_no ho
  obtain ⟨_, _, _, _, _, hc, _⟩ := hR
  obtain ⟨cell, c1, c2, c3, c4, c5, _, c6⟩ := hc a hn.2.2
  refine ⟨cell, c1, c2, c3, c4, fun h => c5 h hn.2.1, ?_⟩
  rcases c6 with h | h | h
  · exact h.2
  · rw [hn.1] at h; exact absurd h.1 (by decide)
  · rw [hn.2.1] at h; exact absurd h.1 (by decide)
theorem am_Rep.arr (hR : am_Rep s0 ad fm cid slo N ft mm H) {a : Int} (ho : am_isA (mm a (-1)) = true) : ∃ cell : Cell, H[ad a]? = some cell ∧ cell.cls = cid (mm a (-1)) ∧ cell.vm ≠ .unknown ∧ cell.vm.isStatics = false ∧ (0 < a → cell.vm = .none) ∧ 0 ≤ mm a (-2) ∧ cell.slots.size = (mm a (-2)).toNat ∧ mm a (-2) ≤ 2147483647 ∧ ∀ j : Nat, (j : Int) < mm a (-2) → cell.slots[j]? = some (am_w ad fm (am_aw (mm a (-1))) (mm a j)) ∧ am_vok (am_mk (am_aw (mm a (-1))) (mm a j)) := by
  have hn := am_isA_no ho
  obtain ⟨_, _, _, _, _, hc, _⟩ := hR
  obtain ⟨cell, c1, c2, c3, c4, c5, _, c6⟩ := hc a hn.2.2
  refine ⟨cell, c1, c2, c3, c4, fun h => c5 h hn.2.1, ?_⟩
  rcases c6 with h | h | h
  · rw [hn.1] at h; exact absurd h.1 (by decide)
  · exact h.2
  · rw [hn.2.1] at h; exact absurd h.1 (by decide)
theorem am_s_getf (hx : p.tables.exec = Jvm.exec) (hb : c.code = cc) {own : String} {idx : Nat} (hown : s.vm.findClass own = some m.cls) {t a : Int} {k w : Nat} {C : String} {T : u_T} (hlink : am_FL s args own idx (T k)) (hKt : u_Kn s C T (N t) (cid t) (slo t))
    (hns : ∀ cf kf fi fd, s.fieldFound? (T k).1 (T k).2.1 (T k).2.2.1 = some (cf, kf, fi, fd) → fd.isStatic = false) (ht : mm a (-1) = t) (ho : am_isO t = true) (hk : k < N t) (hw : ft t k = w) (hd : decode cc pc = .ok (.getfield idx, 3))
    (K : am_S p l e R s m args below meth c s0 ad fm cid slo N ft Qf n0 s1 (pc + 3) L (am_mk w (mm a k) :: r) mm) : am_S p l e R s m args below meth c s0 ad fm cid slo N ft Qf n0 s1 pc L (.inr (.inr (.inl a)) :: r) mm := by
  intro H locs ls hR hlo hL hS h0 h1
  subst ht
  obtain ⟨cell, c1, c2, c3, c4, c5, c6⟩ := hR.obj ho
  have q := c6 k hk
  rw [hw] at q
  have K1 := K H locs ls hR hlo hL (am_vc q.2 (am_vt hS)) h0 h1
  have hrv := (hR.rv (am_isO_no ho).2.2).1
  obtain ⟨cf, kf, fi, fd, hi, hsl⟩ := hKt.1 k hk
  rw [← hsl] at q
  rw [List.map_cons, show am_c ad fm (.inr (.inr (.inl a))) = am_rv ad fm a from rfl, hrv]
  rcases hlink with hl | ⟨host, hl⟩
  · exact W.getf hx hb hown hl hi (hns _ _ _ _ hi) c1 c3 q.1 rfl rfl hd K1
  · exact va_Wgetf hx hb hown hl hi (hns _ _ _ _ hi) c1 c3 q.1 rfl rfl hd K1
/-- the cell behind a write of one field -/
theorem am_wr_obj {cell : Cell} {t a v : Int} {k w : Nat} (hap : ∀ x y, x < N t → y < N t → x ≠ y → slo t x ≠ slo t y) (ht : mm a (-1) = t) (ho : am_isO t = true) (hk : k < N t) (hw : ft t k = w) (hv : am_vok (am_mk w v))
    (c1 : H[ad a]? = some (cell.setSlot (slo t k) (am_w ad fm w v))) (c2 : cell.cls = cid t) (c3 : cell.vm ≠ .unknown) (c4 : cell.vm.isStatics = false) (c5 : 0 < a → cell.vm = .none) (ha : 0 < a)
    (c6 : ∀ j, j < N t → cell.slots[slo t j]? = some (am_w ad fm (ft t j) (mm a j)) ∧ am_vok (am_mk (ft t j) (mm a j))) : am_cell s0 ad fm cid slo N ft (mS mm a k v) H a := by
  have et : mS mm a k v a (-1) = t := by rw [mS_i _ _ _ _ (by omega)]; exact ht
  refine ⟨_, c1, by rw [et]; exact c2, c3, c4, fun h _ => c5 h, fun h => by omega, Or.inl ⟨by rw [et]; exact ho, fun j hj => ?_⟩⟩
  rw [et] at hj ⊢
  by_cases e : j = k
  · subst e
    rw [mS_eq, hw, Cell.slots_setSlot_self _ (k2_hasslot (c6 j hj).1)]
    exact ⟨rfl, hv⟩
  · rw [mS_i _ _ _ _ (by omega), slot_ne _ _ (hap k j hk hj (Ne.symm e))]
    exact c6 j hj
theorem am_lo {locs : List Loc} {q : Loc} (h : ∀ q ∈ locs, s0.heap.size ≤ q.base) (hq : s0.heap.size ≤ q.base) : ∀ x ∈ locs ++ [q], s0.heap.size ≤ x.base := by
  intro x hx
  rcases List.mem_append.mp hx with h1 | h1
  · exact h x h1
  · rw [List.mem_singleton.mp h1]; exact hq
/-- putfield of a field that isn't final -/
theorem am_s_putf (hx : p.tables.exec = Jvm.exec) (hb : c.code = cc) {own : String} {idx : Nat} (hown : s.vm.findClass own = some m.cls) (had : ∀ r, 0 < r → ad r = s0.heap.size + (r - 1).toNat) {t a v : Int} {k w : Nat} {C : String} {T : u_T} {ty : FieldType} (hlink : am_FL s args own idx (T k)) (hKt : u_Kn s C T (N t) (cid t) (slo t))
    (hns : (Jvm.Cond.lays C (T k).1 (T k).2.1 (T k).2.2.1).before args s = true) (hty : parseFieldDescriptor (T k).2.2.1 = some ty) (hn : narrow ty (am_w ad fm w v) = am_w ad fm w v ∧ fits ty (am_w ad fm w v) = true)
    (hap : ∀ x y, x < N t → y < N t → x ≠ y → slo t x ≠ slo t y) (ht : mm a (-1) = t) (ho : am_isO t = true) (hk : k < N t) (hw : ft t k = w) (hmay : am_may mm a k) (hd : decode cc pc = .ok (.putfield idx, 3))
    (K : am_S p l e R s m args below meth c s0 ad fm cid slo N ft Qf n0 s1 (pc + 3) L r (mS mm a k v)) : am_S p l e R s m args below meth c s0 ad fm cid slo N ft Qf n0 s1 pc L (am_mk w v :: .inr (.inr (.inl a)) :: r) mm := by
  intro H locs ls hR hlo hL hS h0 h1
  have ht0 := ht
  subst ht
  obtain ⟨cell, c1, c2, c3, c4, c5, c6⟩ := hR.obj ho
  have hrv := (hR.rv (am_isO_no ho).2.2).1
  obtain ⟨cf, kf, fi, fd, hi, hsl⟩ := hKt.1 k hk
  obtain ⟨hfc, kC, hkC, hkind⟩ := hKt.2
  have hSd : k2_Sd s fd cell.cls (am_w ad fm w v) := by
    rw [c2]
    exact u_store hfc hkC hkind hns hi hty hn.1 hn.2
  have hst : fd.isStatic = false := (u_facts hfc hkC (Or.inl hns) hi).1
  have hlt : fd.slot < cell.slots.size := by rw [hsl]; exact (Array.getElem?_eq_some_iff.mp (c6 k hk).1).1
  have e0 : ∀ j, mS mm a k v 0 j = mm 0 j := fun j => mS_a _ _ _ _ (by have := hmay.1; omega)
  rw [List.map_cons, List.map_cons, show am_c ad fm (.inr (.inr (.inl a))) = am_rv ad fm a from rfl, hrv]
  have key : ∀ H1 : Heap, H1[ad a]? = some (cell.setSlot fd.slot (am_w ad fm w v)) → H1.size = H.size → (∀ q, q ≠ ad a → H1[q]? = H[q]?) → W p l e R s m args below meth c H1 (locs ++ [⟨ad a, fd.slot⟩]) (mm 0 0 - n0).toNat (mm 0 1 - s1).toNat Qf (F0 m (pc + 3) ls (r.map (am_c ad fm))) := by
    intro H1 g1 g2 g3
    have hR1 : am_Rep s0 ad fm cid slo N ft (mS mm a k v) H1 := hR.put had hmay (am_wr_obj hap rfl ho hk hw (am_vh hS) (by rw [g1, hsl]) c2 c3 c4 c5 hmay.1 c6) g2 g3
    have K1 := K H1 (locs ++ [⟨ad a, fd.slot⟩]) ls hR1 (am_lo hlo (by have := had a hmay.1; show s0.heap.size ≤ ad a; omega)) hL (am_vt (am_vt hS)) (by rw [e0]; exact h0) (by rw [e0]; exact h1)
    rw [e0, e0] at K1
    exact K1
  rcases hlink with hl | ⟨host, hl⟩
  · exact W.putK hx hb ⟨hown, hl, ⟨cf, kf, fi, hi⟩, hst⟩ hSd c1 (c5 hmay.1) hlt rfl rfl hd key
  · exact va_WputK hx hb hown hl hi hst hSd c1 (c5 hmay.1) hlt rfl rfl hd key
/-- putfield of a final field in the constructor -/
theorem am_s_putF (hx : p.tables.exec = Jvm.exec) (hb : c.code = cc) {own : String} {idx : Nat} (hown : s.vm.findClass own = some m.cls) (hin : meth.name = "<init>") (had : ∀ r, 0 < r → ad r = s0.heap.size + (r - 1).toNat) {t a v : Int} {k w : Nat} {C : String} {T : u_T} {ty : FieldType} (hlink : (Jvm.Cond.fieldLink own idx (T k).1 (T k).2.1 (T k).2.2.1).before args s = true) (hKt : u_Kn s C T (N t) (cid t) (slo t))
    (hcl : (T k).1 = own) (hns : (Jvm.Cond.laysFinal C (T k).1 (T k).2.1 (T k).2.2.1).before args s = true) (hty : parseFieldDescriptor (T k).2.2.1 = some ty) (hn : narrow ty (am_w ad fm w v) = am_w ad fm w v ∧ fits ty (am_w ad fm w v) = true)
    (hap : ∀ x y, x < N t → y < N t → x ≠ y → slo t x ≠ slo t y) (ht : mm a (-1) = t) (ho : am_isO t = true) (hk : k < N t) (hw : ft t k = w) (hmay : am_may mm a k) (hd : decode cc pc = .ok (.putfield idx, 3))
    (K : am_S p l e R s m args below meth c s0 ad fm cid slo N ft Qf n0 s1 (pc + 3) L r (mS mm a k v)) : am_S p l e R s m args below meth c s0 ad fm cid slo N ft Qf n0 s1 pc L (am_mk w v :: .inr (.inr (.inl a)) :: r) mm := by
  intro H locs ls hR hlo hL hS h0 h1
  subst ht
  obtain ⟨cell, c1, c2, c3, c4, c5, c6⟩ := hR.obj ho
  have hrv := (hR.rv (am_isO_no ho).2.2).1
  obtain ⟨cf, kf, fi, fd, hi, hsl⟩ := hKt.1 k hk
  obtain ⟨hfc, kC, hkC, hkind⟩ := hKt.2
  have hSd : narrow fd.type (am_w ad fm w v) = am_w ad fm w v ∧ s.fitsSlot cell.cls .none fd.slot (am_w ad fm w v) = true := by
    rw [c2]
    exact u_fits hfc hkC hkind (Or.inr hns) hi hty hn.1 hn.2
  have hst : fd.isStatic = false := (u_facts hfc hkC (Or.inr hns) hi).1
  have hcf : m.cls = cf := by
    obtain ⟨_, _, c', k', i', f', _, _, q3, _, _, _, q7, _⟩ := Cond.laysFinal_spec hns
    rw [hi] at q3
    cases q3
    rw [hcl, hown] at q7
    exact Option.some.inj q7
  have hlt : fd.slot < cell.slots.size := by rw [hsl]; exact (Array.getElem?_eq_some_iff.mp (c6 k hk).1).1
  have e0 : ∀ j, mS mm a k v 0 j = mm 0 j := fun j => mS_a _ _ _ _ (by have := hmay.1; omega)
  rw [List.map_cons, List.map_cons, show am_c ad fm (.inr (.inr (.inl a))) = am_rv ad fm a from rfl, hrv]
  refine W.putFinK hx hb hown hlink hi hst hcf hin hSd c1 (c5 hmay.1) hlt rfl rfl hd (fun H1 g1 g2 g3 => ?_)
  have hR1 : am_Rep s0 ad fm cid slo N ft (mS mm a k v) H1 := hR.put had hmay (am_wr_obj hap rfl ho hk hw (am_vh hS) (by rw [g1, hsl]) c2 c3 c4 c5 hmay.1 c6) g2 g3
  have K1 := K H1 (locs ++ [⟨ad a, fd.slot⟩]) ls hR1 (am_lo hlo (by have := had a hmay.1; show s0.heap.size ≤ ad a; omega)) hL (am_vt (am_vt hS)) (by rw [e0]; exact h0) (by rw [e0]; exact h1)
  rw [e0, e0] at K1
  exact K1
end Heap
