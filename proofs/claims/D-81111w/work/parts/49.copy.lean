/-! arraycopy; the constructor of Failure -/
set_option maxRecDepth 100000
theorem am_failW : (am_fwA "ArmsHouse$Failure" ["java/lang/RuntimeException", "java/lang/Exception"]).all (fun w => decide (w ∈ lw_all) || am_xk w) = true := by decide +kernel
theorem am_cpW : Jvm.Cond.native arraycopyName ∈ lw_all ∧ Jvm.Cond.static arraycopyName ∈ lw_all ∧ Jvm.Cond.initialized "java/lang/System" ∈ lw_all := by decide +kernel
theorem mC_b {m : aM} {a sp b dp n r j : Int} (h : r ≠ b) : mC m a sp b dp n r j = m r j := by
  unfold mC
  rw [if_neg h]
theorem mC_neg {m : aM} {a sp b dp n r j : Int} (h : j < dp) : mC m a sp b dp n r j = m r j := by
  unfold mC
  split
  · rw [if_neg (by omega)]
  · rfl
section Copy
variable {s0 : State} {ad : Int → Nat} {fm : Value} {cid : Int → ClassId} {slo : Int → Nat → Nat} {N : Int → Nat} {ft : Int → Nat → Nat}
/-- one array is written over a stretch -/
theorem am_Rep.copy (had : ∀ r, 0 < r → ad r = s0.heap.size + (r - 1).toNat) {m : aM} {H H' : Heap} (hR : am_Rep s0 ad fm cid slo N ft m H) {a sp b dp n : Int} (hb : 0 < b) (hd : 0 ≤ dp) (ht : am_isA (m b (-1)) = true) (hcell : am_cell s0 ad fm cid slo N ft (mC m a sp b dp n) H' b) (hsz : H'.size = H.size) (hH : ∀ q, q ≠ ad b → H'[q]? = H[q]?) : am_Rep s0 ad fm cid slo N ft (mC m a sp b dp n) H' := by
  have hR0 := hR
  obtain ⟨h1, h2, h3, h4, h5, h6, h7, h8, h9, h10⟩ := hR
  have k0 : ∀ j, mC m a sp b dp n 0 j = m 0 j := fun j => mC_b (by omega)
  have kn : ∀ r j, j < 0 → mC m a sp b dp n r j = m r j := fun r j hj => mC_neg (by omega)
  have sf : ∀ l, am_sf l m → am_sf l (mC m a sp b dp n) := fun l h q hq => by
    rw [kn _ _ (by decide), kn _ _ (by decide)]
    exact h q hq
  refine ⟨by rw [k0]; exact h1, by rw [k0]; exact h2, by rw [k0, hsz]; exact h3, ⟨by rw [k0]; exact h4.1, by rw [kn _ _ (by decide)]; exact h4.2⟩, fun r hr => ?_, fun r hr => ?_, fun q hq => ?_, sf _ h8, fun g => ?_, fun g => ?_⟩
  · rw [k0] at hr
    rw [kn _ _ (by decide)]
    exact h5 r hr
  · rw [kn _ _ (by decide)] at hr
    by_cases e : r = b
    · rw [e]; exact hcell
    · exact (h6 r hr).kept (fun j => mC_b e) (hH _ (am_apart had hR0 hb hr e))
  · rw [hH q (by have := had b hb; omega)]
    exact h7 q hq
  · rw [k0] at g
    obtain ⟨g1, g2, g3⟩ := h9 g
    refine ⟨sf _ g1, fun q hq => ?_, by rw [k0]; exact g3⟩
    have z := g1 _ (am_fA_t q hq).1
    have z1 : m q.1 (-1) = am_tr q.1 := z.1
    have z2 := (am_fA_t q hq).2
    rw [mC_b (fun e => by
      rw [e] at z1 z2
      rw [z1] at ht
      rcases z2 with w | w <;> rw [w] at ht <;> exact absurd ht (by decide))]
    exact g2 q hq
  · rw [k0] at g
    obtain ⟨g1, g2, g3⟩ := h10 g
    refine ⟨sf _ g1, fun q hq => ?_, by rw [k0]; exact g3⟩
    have z := g1 _ (am_fM_t q hq).1
    have z1 : m q.1 (-1) = am_tr q.1 := z.1
    have z2 := (am_fM_t q hq).2
    rw [mC_b (fun e => by
      rw [e] at z1 z2
      rw [z1, z2] at ht
      exact absurd ht (by decide))]
    exact g2 q hq
end Copy
section Copy2
variable {p : Program} {l : Launch} {e : Env} {R : Room} {s : State} {m : MethodId} {args : Array Value} {below : List Frame} {meth : Method} {c : Code} {cc : ByteArray} {s0 : State} {ad : Int → Nat} {fm : Value} {cid : Int → ClassId} {slo : Int → Nat → Nat} {Qf : State → Prop} {n0 s1 : Int} {pc len : Nat} {x y : Int} {z : Nat} {L S : List aV} {mm : aM} {G : Nat → aM → Prop} {ca : aC} {hs : aH} {Q : aO → aM → Prop} {nx : List aV → List aV → aM → Prop} {jp : Nat → List aV → List aV → aM → Prop} {o idx : Nat} {r : List aV}
theorem am_clamp {i : Int} (hi : -2147483648 ≤ i ∧ i ≤ 2147483647) (h : 0 ≤ i) : (Int32.ofInt i).toNatClampNeg = i.toNat ∧ ¬ Int32.ofInt i < 0 := by
  refine ⟨?_, ?_⟩
  · show (Int32.ofInt i).toInt.toNat = i.toNat
    rw [am_i32 hi]
  · rw [Int32.lt_iff_toInt_lt, am_i32 hi]
    have z0 : (0 : Int32).toInt = 0 := rfl
    rw [z0]
    omega
theorem am_s_copy (hx : p.tables.exec = Jvm.exec) (hb : c.code = cc) (X : am_Wd s0 ad fm cid slo s) (hown : s.vm.findClass (am_on o) = some m.cls) (hlink : Jvm.Cond.methodLink (am_on o) idx arraycopyName ∈ lw_all) (hRf : 8 < R.frames) (hRl : 10300 ≤ R.locals) (hml : c.maxLocals = L.length) (hSl : r.length ≤ 24)
    {a sp b dp n t : Int} {ty : FieldType} {kA : Class} {comp : ClassId} (hA : am_isA t = true) (hkA : s.vm.classes[cid t]? = some kA) (hkind : kA.kind = .array comp ty)
    (h : 0 < b ∧ a ≠ b ∧ mm a (-1) = t ∧ mm b (-1) = t ∧ 0 ≤ sp ∧ 0 ≤ dp ∧ 0 ≤ n ∧ sp + n ≤ mm a (-2) ∧ dp + n ≤ mm b (-2))
    (hval : ∀ H, am_Rep s0 ad fm cid slo am_cF am_ft mm H → ∀ T : State, T.heap = H → ∀ vm', s.vm.Alike vm' → ∀ j : Int, sp ≤ j → j < sp + n → fits ty (am_w ad fm (am_aw t) (mm a j)) = true ∧ (T.setVm vm').takes comp (am_w ad fm (am_aw t) (mm a j)))
    (hd : decode cc pc = .ok (.invokestatic idx, 3)) (K : am_S p l e R s m args below meth c s0 ad fm cid slo am_cF am_ft Qf n0 s1 (pc + 3) L r (mC mm a sp b dp n)) :
    am_S p l e R s m args below meth c s0 ad fm cid slo am_cF am_ft Qf n0 s1 pc L (aI n :: aI dp :: aR b :: aI sp :: aR a :: r) mm := by
  intro H locs ls hR hlo hL hS h0 h1 T hT Y
  obtain ⟨hb0, hab, hta, htb, hsp, hdp, hn, hsa, hsb⟩ := h
  obtain ⟨cs, c1, c2, c3, c4, c5, c6, c7, c8, c9⟩ := hR.arr (a := a) (by rw [hta]; exact hA)
  obtain ⟨cd, d1, d2, d3, d4, d5, d6, d7, d8, d9⟩ := hR.arr (a := b) (by rw [htb]; exact hA)
  rw [hta] at c2 c9
  rw [htb] at d2 d9
  have vn : -2147483648 ≤ n ∧ n ≤ 2147483647 := hS (aI n) (by simp)
  have vdp : -2147483648 ≤ dp ∧ dp ≤ 2147483647 := hS (aI dp) (by simp)
  have vsp : -2147483648 ≤ sp ∧ sp ≤ 2147483647 := hS (aI sp) (by simp)
  obtain ⟨en, pn⟩ := am_clamp vn hn
  obtain ⟨edp, pdp⟩ := am_clamp vdp hdp
  obtain ⟨esp, psp⟩ := am_clamp vsp hsp
  have hval2 := hval H hR T hT
  have hget : ∀ i, i < n.toNat → cs.slots.getD (sp.toNat + i) .null = am_w ad fm (am_aw t) (mm a (sp + i)) := by
    intro i hi
    have q := (c9 (sp.toNat + i) (by omega)).1
    rw [show ((sp.toNat + i : Nat) : Int) = sp + i by omega] at q
    rw [Array.getD_eq_getD_getElem?, q]
    rfl
  have hcat := am_cats (ad := ad) (fm := fm) r
  have st0 : (aI n :: aI dp :: aR b :: aI sp :: aR a :: r).map (am_c ad fm) = .int (Int32.ofInt n) :: .int (Int32.ofInt dp) :: .ref (ad b) :: .int (Int32.ofInt sp) :: .ref (ad a) :: r.map (am_c ad fm) := by
    have ea := (hR.rv (a := a) (by rw [hta]; exact (am_isA_no hA).2.2)).1
    have eb := (hR.rv (a := b) (by rw [htb]; exact (am_isA_no hA).2.2)).1
    rw [List.map_cons, List.map_cons, List.map_cons, List.map_cons, List.map_cons, show am_c ad fm (aR b) = am_rv ad fm b from rfl, show am_c ad fm (aR a) = am_rv ad fm a from rfl, ea, eb]
    rfl
  obtain ⟨vm', Y', st⟩ := Y.arraycopy hx hown (X.words args _ hlink) (X.words args _ am_cpW.1) (X.words args _ am_cpW.2.1) (X.words args _ am_cpW.2.2) (src := ad a) (dst := ad b) (srcPos := Int32.ofInt sp) (destPos := Int32.ofInt dp) (n := Int32.ofInt n) (cs := cs) (cd := cd) (ks := kA) (kd := kA) (sComp := comp) (dComp := comp) (sType := ty) (dType := ty)
    (by rw [hT]; exact c1) (by rw [hT]; exact d1) (fun k z => by rw [z] at c4; cases c4) (fun k z => by rw [z] at d4; cases d4) c3 d3 (by rw [c2]; exact hkA) (by rw [d2]; exact hkA) hkind hkind (by simp) psp pdp pn (by rw [am_i32 vsp, am_i32 vn, c7]; omega) (by rw [am_i32 vdp, am_i32 vn, d7]; omega)
    (fun vm2 hal i hi => by
      rw [en] at hi
      rw [esp, hget i hi]
      exact hval2 vm2 hal _ (by omega) (by omega))
    (g := F0 m pc ls ((aI n :: aI dp :: aR b :: aI sp :: aR a :: r).map (am_c ad fm))) rfl (hL.1.trans hml.symm) (rest := r.map (am_c ad fm)) st0 (by rw [hb]; exact hd) (by omega) (by
      show 2 * 0 + ((r.map (am_c ad fm)).map fun v => v.category).sum + (nativeFrameWords "java/lang/System" "arraycopy" 5 + 11) ≤ R.locals
      have : nativeFrameWords "java/lang/System" "arraycopy" 5 ≤ 100 := by decide
      omega)
  obtain ⟨f1, f2, f3, -, -⟩ := Cell.storeRun_facts cd (Int32.ofInt dp).toNatClampNeg (cs.stretch (Int32.ofInt sp).toNatClampNeg (Int32.ofInt n).toNatClampNeg)
  have hlen : (cs.stretch (Int32.ofInt sp).toNatClampNeg (Int32.ofInt n).toNatClampNeg).length = n.toNat := by rw [Cell.stretch_length, en]
  have hbl := (Array.getElem?_eq_some_iff.mp d1).1
  have hheap : (((T.setVm vm').setCell (ad b) (copied cs cd (Int32.ofInt sp) (Int32.ofInt dp) (Int32.ofInt n)))).heap = H.setIfInBounds (ad b) (copied cs cd (Int32.ofInt sp) (Int32.ofInt dp) (Int32.ofInt n)) := by
    rw [← hT]; rfl
  have em1 : mC mm a sp b dp n b (-1) = t := by rw [mC_neg (by omega)]; exact htb
  have em2 : mC mm a sp b dp n b (-2) = mm b (-2) := mC_neg (by omega)
  have hcell : am_cell s0 ad fm cid slo am_cF am_ft (mC mm a sp b dp n) (H.setIfInBounds (ad b) (copied cs cd (Int32.ofInt sp) (Int32.ofInt dp) (Int32.ofInt n))) b := by
    refine ⟨copied cs cd (Int32.ofInt sp) (Int32.ofInt dp) (Int32.ofInt n), by rw [Array.getElem?_setIfInBounds_self_of_lt hbl], by rw [em1]; exact f1.trans d2, by rw [f2]; exact d3, by rw [f2]; exact d4, fun w _ => by rw [f2]; exact d5 w, fun w => by omega, Or.inr (Or.inl ⟨by rw [em1]; exact hA, by rw [em2]; exact d6, by rw [em2, f3]; exact d7, by rw [em2]; exact d8, fun j hj => ?_⟩)⟩
    rw [em2] at hj
    rw [em1, Cell.storeRun_get _ _ _ _ (by rw [hlen, edp, d7]; omega), hlen, edp]
    by_cases hin : dp.toNat ≤ j ∧ j < dp.toNat + n.toNat
    · have q := c9 (sp.toNat + (j - dp.toNat)) (by omega)
      have ej : mC mm a sp b dp n b j = mm a (sp + ((j : Int) - dp)) := by
        unfold mC
        rw [if_pos rfl, if_pos (by omega)]
      rw [if_pos hin, ej]
      rw [show ((sp.toNat + (j - dp.toNat) : Nat) : Int) = sp + ((j : Int) - dp) by omega] at q
      refine ⟨?_, q.2⟩
      rw [en, esp]
      unfold Cell.stretch
      rw [List.getElem?_map, List.getElem?_range (by omega), Option.map_some, hget _ (by omega), show sp + ((j - dp.toNat : Nat) : Int) = sp + ((j : Int) - dp) by omega]
    · have ej : mC mm a sp b dp n b j = mm b j := by
        unfold mC
        rw [if_pos rfl, if_neg (by omega)]
      rw [if_neg hin, ej]
      exact d9 j hj
  have hR1 := hR.copy X.had hb0 hdp (by rw [htb]; exact hA) hcell (by simp) (fun q hq => by rw [Array.getElem?_setIfInBounds_ne (Ne.symm hq)])
  have k0 : ∀ j, mC mm a sp b dp n 0 j = mm 0 j := fun j => mC_b (by omega)
  have hadb : s0.heap.size ≤ ad b := by rw [X.had b hb0]; omega
  have K1 := K _ (locs ++ (cs.stretch (Int32.ofInt sp).toNatClampNeg (Int32.ofInt n).toNatClampNeg).zipIdx.map fun q => ⟨ad b, (Int32.ofInt dp).toNatClampNeg + q.2⟩) ls hR1 (fun q hq => by
    rcases List.mem_append.mp hq with w | w
    · exact hlo q w
    · obtain ⟨u, -, rfl⟩ := List.mem_map.mp w
      exact hadb) hL (fun v hv => hS v (by simp [hv])) (by rw [k0]; exact h0) (by rw [k0]; exact h1)
  rw [k0, k0] at K1
  obtain ⟨t2, a1, b1⟩ := K1 _ hheap Y'
  exact ⟨t2, st t2 a1, b1⟩
end Copy2
section Copy3
variable {p : Program} {l : Launch} {e : Env} {R : Room} {s : State} {m : MethodId} {args : Array Value} {below : List Frame} {meth : Method} {c : Code} {cc : ByteArray} {s0 : State} {ad : Int → Nat} {fm : Value} {cid : Int → ClassId} {slo : Int → Nat → Nat} {Qf : State → Prop} {n0 s1 : Int} {pc len : Nat} {x y : Int} {z : Nat} {L S : List aV} {mm : aM} {G : Nat → aM → Prop} {ca : aC} {hs : aH} {Q : aO → aM → Prop} {nx : List aV → List aV → aM → Prop} {jp : Nat → List aV → List aV → aM → Prop} {o idx : Nat}
theorem am_e_copy40 (hx : p.tables.exec = Jvm.exec) (hb : c.code = cc) (hl : len = 3) (X : am_Wd s0 ad fm cid slo s) (hown : s.vm.findClass (am_on o) = some m.cls) (hRf : 8 < R.frames) (hRl : 10300 ≤ R.locals) (hml : c.maxLocals = L.length) (hSl : S.length ≤ 24) (hxw : x = -1) (hlw : Jvm.Cond.methodLink (am_on o) idx arraycopyName ∈ lw_all) (hd : decode cc pc = .ok (.invokestatic idx, len)) (hnx : ∀ L S mm, nx L S mm → am_S p l e R s m args below meth c s0 ad fm cid slo am_cF am_ft Qf n0 s1 (pc + len) L S mm) (h : am_istep G ca hs Q nx jp (pc, .invokestatic idx, len, x, y, z) L S mm) : am_S p l e R s m args below meth c s0 ad fm cid slo am_cF am_ft Qf n0 s1 pc L S mm := by
  subst hl
  subst hxw
  rcases S with _ | ⟨v0, S⟩
  · exact False.elim h
  · rcases v0 with v0 | v0 | v0 | v0
    · rcases S with _ | ⟨v1, S⟩
      · exact False.elim h
      · rcases v1 with v1 | v1 | v1 | v1
        · rcases S with _ | ⟨v2, S⟩
          · exact False.elim h
          · rcases v2 with v2 | v2 | v2 | v2
            · exact False.elim h
            · exact False.elim h
            · rcases S with _ | ⟨v3, S⟩
              · exact False.elim h
              · rcases v3 with v3 | v3 | v3 | v3
                · rcases S with _ | ⟨v4, S⟩
                  · exact False.elim h
                  · rcases v4 with v4 | v4 | v4 | v4
                    · exact False.elim h
                    · exact False.elim h
                    · obtain ⟨kA, hkA, comp, hkind⟩ := ((X.arr 40 rfl).1 0 (fun _ => .null)).2
                      exact am_s_copy hx hb X hown hlw hRf hRl hml (by simp only [List.length_cons] at hSl; omega) (t := 40) rfl hkA hkind h.1 (fun H hR T hT vm2 hal j j1 j2 => ⟨rfl, trivial⟩) hd (hnx _ _ _ h.2)
                    · exact False.elim h
                · exact False.elim h
                · exact False.elim h
                · exact False.elim h
            · exact False.elim h
        · exact False.elim h
        · exact False.elim h
        · exact False.elim h
    · exact False.elim h
    · exact False.elim h
    · exact False.elim h
theorem am_e_copy45 (hx : p.tables.exec = Jvm.exec) (hb : c.code = cc) (hl : len = 3) (X : am_Wd s0 ad fm cid slo s) (hown : s.vm.findClass (am_on o) = some m.cls) (hRf : 8 < R.frames) (hRl : 10300 ≤ R.locals) (hml : c.maxLocals = L.length) (hSl : S.length ≤ 24) (hxw : x = -2) (hlw : Jvm.Cond.methodLink (am_on o) idx arraycopyName ∈ lw_all) (hd : decode cc pc = .ok (.invokestatic idx, len)) (hnx : ∀ L S mm, nx L S mm → am_S p l e R s m args below meth c s0 ad fm cid slo am_cF am_ft Qf n0 s1 (pc + len) L S mm) (h : am_istep G ca hs Q nx jp (pc, .invokestatic idx, len, x, y, z) L S mm) : am_S p l e R s m args below meth c s0 ad fm cid slo am_cF am_ft Qf n0 s1 pc L S mm := by
  subst hl
  subst hxw
  rcases S with _ | ⟨v0, S⟩
  · exact False.elim h
  · rcases v0 with v0 | v0 | v0 | v0
    · rcases S with _ | ⟨v1, S⟩
      · exact False.elim h
      · rcases v1 with v1 | v1 | v1 | v1
        · rcases S with _ | ⟨v2, S⟩
          · exact False.elim h
          · rcases v2 with v2 | v2 | v2 | v2
            · exact False.elim h
            · exact False.elim h
            · rcases S with _ | ⟨v3, S⟩
              · exact False.elim h
              · rcases v3 with v3 | v3 | v3 | v3
                · rcases S with _ | ⟨v4, S⟩
                  · exact False.elim h
                  · rcases v4 with v4 | v4 | v4 | v4
                    · exact False.elim h
                    · exact False.elim h
                    · obtain ⟨kA, comp, hkA, hkind, hfc, -⟩ := (X.arr 45 rfl).2 (by decide)
                      obtain ⟨⟨w1, w2, w3, w4, w5, w6, w7, w8, w9, w10⟩, hn⟩ := h
                      refine am_s_copy hx hb X hown hlw hRf hRl hml (by simp only [List.length_cons] at hSl; omega) (t := 45) rfl hkA hkind ⟨w1, w2, w3, w4, w5, w6, w7, w8, w9⟩ (fun H hR T hT vm2 hal j j1 j2 => ?_) hd (hnx _ _ _ hn)
                      rw [show am_aw 45 = 2 from rfl]
                      rcases w10 j j1 j2 with e0 | ⟨e0, e7⟩
                      · rw [e0, am_w2]
                        exact ⟨rfl, trivial⟩
                      · have hne : mm (mm v4 j) (-1) ≠ 0 := by rw [e7]; decide
                        rw [show am_w ad fm 2 (mm v4 j) = am_rv ad fm (mm v4 j) from rfl, (hR.rv hne).1]
                        obtain ⟨cell, c1, c2, c3⟩ := hR.of hne
                        rw [e7] at c3
                        have h7 := (X.kn 7 rfl).2
                        have ec : comp = cid 7 := Option.some.inj (hfc.symm.trans h7.1)
                        obtain ⟨k7, hk7⟩ := am_clsAt h7.1
                        obtain ⟨k7', hk7', -⟩ := hal.2.2 _ _ hk7
                        have ns : ∀ k, cell.vm ≠ VmData.statics k := fun k z => by
                          rw [z] at c2
                          cases c2
                        refine ⟨rfl, ⟨cell, ?_, ⟨ns, ⟨⟨k7', by rw [c3]; exact hk7'⟩, ⟨⟨k7', by rw [ec]; exact hk7'⟩, ?_⟩⟩⟩⟩⟩
                        · show T.heap[_]? = _
                          rw [hT]
                          exact c1
                        · rw [c3, ec]
                          show vm2.assignable (cid 7) (cid 7) = true
                          rw [hal.assignable]
                          exact va_assign h7
                    · exact False.elim h
                · exact False.elim h
                · exact False.elim h
                · exact False.elim h
            · exact False.elim h
        · exact False.elim h
        · exact False.elim h
        · exact False.elim h
    · exact False.elim h
    · exact False.elim h
    · exact False.elim h
theorem am_e_failinit (hx : p.tables.exec = Jvm.exec) (hb : c.code = cc) (hl : len = 3) (X : am_Wd s0 ad fm cid slo s) (hown : s.vm.findClass (am_on o) = some m.cls) (hRf : 8 < R.frames) (hRl : 10300 ≤ R.locals) (hml : c.maxLocals = L.length) (hSl : S.length ≤ 24) (htr : e.platform.stackTraces = false) (hxw : x = -2) (ho : o = 1) (hi : idx = 486) (hd : decode cc pc = .ok (.invokespecial idx, len)) (hnx : ∀ L S mm, nx L S mm → am_S p l e R s m args below meth c s0 ad fm cid slo am_cF am_ft Qf n0 s1 (pc + len) L S mm) (h : am_istep G ca hs Q nx jp (pc, .invokespecial idx, len, x, y, z) L S mm) : am_S p l e R s m args below meth c s0 ad fm cid slo am_cF am_ft Qf n0 s1 pc L S mm := by
  subst hl
  subst hxw
  subst ho
  subst hi
  rcases S with _ | ⟨v0, S⟩
  · exact False.elim h
  · rcases v0 with v0 | v0 | v0 | v0
    · exact False.elim h
    · exact False.elim h
    · obtain ⟨⟨ha, ht, hz0⟩, hn⟩ := h
      intro H locs ls hR hlo hL hS h0 h1 T hT Y
      have hne : mm v0 (-1) ≠ 0 := by rw [ht]; decide
      have hR0 := hR
      obtain ⟨-, -, -, -, -, hc, -⟩ := hR0
      obtain ⟨cell, c1, c2, c3, c4, c5, c6, c7⟩ := hc v0 hne
      rw [ht] at c2 c7
      have hfr : ∃ k, s0.vm.classes[cid 3]? = some k ∧ cell = freshCell (cid 3) k := by
        rcases c7 with w | w | w
        · exact absurd w.1 (by decide)
        · exact absurd w.1 (by decide)
        · exact w.2 rfl hz0
      obtain ⟨k0, hk0, ec⟩ := hfr
      obtain ⟨kX, hkX⟩ := (X.exc 3 rfl).2
      obtain ⟨k1, hk1, hty⟩ := am_alkT X.alk hkX
      cases hk0.symm.trans hk1
      have ef : freshCell (cid 3) k0 = freshCell (cid 3) kX := by
        show ({ cls := cid 3, slots := k0.instanceTypes.map defaultValue, vm := .none } : Cell) = { cls := cid 3, slots := kX.instanceTypes.map defaultValue, vm := .none }
        rw [hty]
      have hcat := am_cats (ad := ad) (fm := fm) S
      have hadv : s0.heap.size ≤ ad v0 := by rw [X.had v0 ha]; omega
      obtain ⟨vm', ce, Lo, Y', z1, z2, z3, st⟩ := am_fail (B := s0.heap.size) Y hx htr (names := ["java/lang/RuntimeException", "java/lang/Exception"]) hown (by decide +kernel) (by decide +kernel) (am_atoms X am_failW) (va_Nw.use rfl X.nX) hlo (am_xlt X) (a := ad v0) (X.exc 3 rfl).1 hkX (by rw [hT, c1, ec, ef]) hadv (g := F0 m pc ls ((aR v0 :: S).map (am_c ad fm))) rfl (hL.1.trans hml.symm) (rest := S.map (am_c ad fm)) (by rw [List.map_cons, show am_c ad fm (aR v0) = am_rv ad fm v0 from rfl, (hR.rv hne).1]) (by rw [hb]; exact hd) (by simp only [List.length_cons, List.length_nil]; omega) (by
          show 2 * 0 + ((S.map (am_c ad fm)).map fun v => v.category).sum + (13 * (2 + 1) + 41) ≤ R.locals
          simp only [List.length_cons] at hSl
          omega)
      have hbl := (Array.getElem?_eq_some_iff.mp c1).1
      have hheap : ((T.setVm vm').setCell (ad v0) ce).heap = H.setIfInBounds (ad v0) ce := by
        rw [← hT]; rfl
      have em1 : mS mm v0 0 1 v0 (-1) = 3 := by rw [mS_i _ _ _ _ (by decide)]; exact ht
      have hcell : am_cell s0 ad fm cid slo am_cF am_ft (mS mm v0 0 1) (H.setIfInBounds (ad v0) ce) v0 := by
        refine ⟨ce, by rw [Array.getElem?_setIfInBounds_self_of_lt hbl], by rw [em1]; exact z2, by rw [z3]; simp, by rw [z3]; rfl, fun _ _ => z3, fun w => by omega, Or.inr (Or.inr ⟨by rw [em1]; rfl, fun _ w => ?_⟩)⟩
        rw [mS_eq] at w
        exact absurd w (by decide)
      have hR1 := hR.put X.had (hR.may ha (by decide) (am_fin_no (by rw [ht]; decide))) hcell (by simp) (fun q hq => by rw [Array.getElem?_setIfInBounds_ne (Ne.symm hq)])
      have k0 : ∀ j, mS mm v0 0 1 0 j = mm 0 j := fun j => mS_a _ _ _ _ (by omega)
      have K1 := hnx _ _ _ hn _ (locs ++ Lo) ls hR1 (fun q hq => by
        rcases List.mem_append.mp hq with w | w
        · exact hlo q w
        · rw [z1 q w]; exact hadv) hL (am_vt hS) (by rw [k0]; exact h0) (by rw [k0]; exact h1)
      rw [k0, k0] at K1
      obtain ⟨t2, a1, b1⟩ := K1 _ hheap Y'
      exact ⟨t2, st t2 a1, b1⟩
    · exact False.elim h
end Copy3
