/-! STRINGS, STATIC FIELDS, LOOKUPSWITCH -/
section Steps2
variable {p : Program} {l : Launch} {e : Env} {R : Room} {s : State} {m : MethodId} {args : Array Value} {below : List Frame} {meth : Method} {c : Code} {cc : ByteArray} {s0 : State} {ad : Int → Nat} {fm : Value} {cid : Int → ClassId} {slo : Int → Nat → Nat} {N : Int → Nat} {ft : Int → Nat → Nat} {Qf : State → Prop} {n0 s1 : Int} {pc : Nat} {L r : List aV} {mm : aM} {H : Heap}
theorem am_ldcwS {T : State} {locs : List Loc} {cells slots : Nat} (X : Stand p l e R s m args below meth c T locs cells slots) (hexec : p.tables.exec = Jvm.exec) {own text : String} {index : Nat} {a : Addr} (hown : s.vm.findClass own = some m.cls) (hZ : vk_R own index text a s) {g : JFrame} (hg : g.method = m) (hdg : decode c.code g.pc = .ok (.ldc_w index, 3)) :
    ∀ target, Steps p.tables e below (T.setTop { g with pc := g.pc + 3, stack := .ref a :: g.stack }) target → Steps p.tables e below (T.setTop g) target := by
  obtain ⟨k, cf, i, a', hk, hcf, hcp, -, hr, hev'⟩ := Cond.stringRef_spec hown hZ.1
  cases hZ.2.symm.trans hev'
  obtain ⟨k', hk', he⟩ := X.warmed.alike.2.2 _ _ hk
  have hr' : k'.resolved[index]? = some (some (.string a)) := by
    rcases X.warmed.entry hk hk' index with h | ⟨h, -⟩
    · rw [h]; exact hr
    · rw [hr] at h; cases h
  intro target hrest
  subst hg
  jvm_step X.here [hexec, hdg, ldc_w.wp_string (e := e) (s := T) (f := g) X.here.top hk' (by rw [he]; exact hcf) hcp hr']
  exact hrest
theorem am_s_ldcwS (hx : p.tables.exec = Jvm.exec) (hb : c.code = cc) {own text : String} {idx : Nat} {y : Int} (hown : s.vm.findClass own = some m.cls) (hy : y < -9) (hZ : vk_R own idx text (ad y) s) (hd : decode cc pc = .ok (.ldc_w idx, 3)) (K : am_S p l e R s m args below meth c s0 ad fm cid slo N ft Qf n0 s1 (pc + 3) L (.inr (.inr (.inl y)) :: r) mm) : am_S p l e R s m args below meth c s0 ad fm cid slo N ft Qf n0 s1 pc L r mm := by
  intro H locs ls hR hlo hL hS h0 h1 T hT X
  have er : am_rv ad fm y = .ref (ad y) := by unfold am_rv; rw [if_neg (by omega), if_neg (by omega)]
  have K1 := K H locs ls hR hlo hL (am_vc trivial hS) h0 h1
  rw [List.map_cons, show am_c ad fm (.inr (.inr (.inl y))) = am_rv ad fm y from rfl, er] at K1
  obtain ⟨t, a1, b1⟩ := K1 T hT X
  exact ⟨t, am_ldcwS X hx hown hZ (g := F0 m pc ls (r.map (am_c ad fm))) rfl (by rw [hb]; exact hd) t a1, b1⟩
theorem am_s_gets (hx : p.tables.exec = Jvm.exec) (hb : c.code = cc) {own C n d : String} {idx : Nat} {v : aV} (hown : s.vm.findClass own = some m.cls) (hl : (Jvm.Cond.fieldLink own idx C n d).before args s = true ∨ ∃ host, (Jvm.Cond.fieldLinkNest own idx C n d host).before args s = true) (hZ : va_Z C n d (am_c ad fm v) (fun a => s0.heap.size ≤ a) s s0.heap) (hv : am_vok v) (hd : decode cc pc = .ok (.getstatic idx, 3)) (K : am_S p l e R s m args below meth c s0 ad fm cid slo N ft Qf n0 s1 (pc + 3) L (v :: r) mm) : am_S p l e R s m args below meth c s0 ad fm cid slo N ft Qf n0 s1 pc L r mm := by
  intro H locs ls hR hlo hL hS h0 h1
  have K1 := K H locs ls hR hlo hL (am_vc hv hS) h0 h1
  obtain ⟨cf, kf, fi, f, a, cell, g1, g2, g3, g4, g5, g6, g7, g8⟩ := hZ
  have hlt := (Array.getElem?_eq_some_iff.mp g5).1
  have hH : H[a]? = some cell := by
    obtain ⟨_, _, _, _, _, _, h7, _⟩ := hR
    rw [h7 a hlt]
    exact g5
  rcases hl with hl | ⟨host, hl⟩
  · exact W.gets hx hb hown hl g1 g2 g3 g4 hH (fun q => by rw [q] at g6; cases g6) g7 rfl hd K1
  · exact va_WgetsN hx hb hown hl g1 g2 g3 g4 hH (fun q => by rw [q] at g6; cases g6) g7 rfl hd K1
theorem am_swl_off {a d : Int} {J : Nat → Prop} : ∀ (ps : List (Int × Int)), am_swl pc a J ps → (am_none a ps → J ((pc : Int) + d).toNat) → J ((pc : Int) + Op.lookupswitch.offset ps d a).toNat := by
  intro ps
  induction ps with
  | nil => intro _ h; exact h trivial
  | cons q r ih =>
    obtain ⟨k, o⟩ := q
    intro h g
    rw [Op.lookupswitch.offset_cons]
    by_cases hk : k = a
    · rw [if_pos hk]
      exact h.1 hk.symm
    · rw [if_neg hk]
      exact ih h.2 (fun w => g ⟨fun z => hk z.symm, w⟩)
theorem am_off_mem {a d : Int} : ∀ (ps : List (Int × Int)), Op.lookupswitch.offset ps d a ∈ d :: ps.map (·.2) := by
  intro ps
  induction ps with
  | nil => exact List.mem_cons_self
  | cons q r ih =>
    obtain ⟨k, o⟩ := q
    rw [Op.lookupswitch.offset_cons]
    by_cases hk : k = a
    · rw [if_pos hk]
      simp
    · rw [if_neg hk]
      rcases List.mem_cons.mp ih with h | h
      · rw [h]; exact List.mem_cons_self
      · exact List.mem_cons_of_mem _ (List.mem_cons_of_mem _ h)
theorem am_s_lookup (hx : p.tables.exec = Jvm.exec) (hb : c.code = cc) {d a : Int} {ps : Array (Int × Int)} {len : Nat} (hd : decode cc pc = .ok (.lookupswitch d ps, len)) (hp : (ps.toList.zip (ps.toList.drop 1)).all (fun (a, next) => a.1 < next.1) = true) (hpos : ∀ o ∈ d :: ps.toList.map (·.2), 0 ≤ (pc : Int) + o) (K1 : am_swl pc a (fun t => am_S p l e R s m args below meth c s0 ad fm cid slo N ft Qf n0 s1 t L r mm) ps.toList) (K2 : am_none a ps.toList → am_S p l e R s m args below meth c s0 ad fm cid slo N ft Qf n0 s1 ((pc : Int) + d).toNat L r mm) : am_S p l e R s m args below meth c s0 ad fm cid slo N ft Qf n0 s1 pc L (.inl a :: r) mm := by
  intro H locs ls hR hlo hL hS h0 h1
  have ha := am_i32 (am_vh hS)
  have k := am_swl_off (pc := pc) (a := a) (d := d) ps.toList K1 K2
  have hm := hpos _ (am_off_mem (a := a) (d := d) ps.toList)
  rw [List.map_cons, show am_c ad fm (.inl a) = .int (Int32.ofInt a) from rfl]
  refine lv_lookup hx hb hd hp (off := Op.lookupswitch.offset ps.toList d a) (by rw [ha]) (tgt := ((pc : Int) + Op.lookupswitch.offset ps.toList d a).toNat) (by omega) (k H locs ls hR hlo hL (am_vt hS) h0 h1)
end Steps2
