theorem mN_b {m : aM} {t n b j : Int} (h : b ≠ m 0 0 + 1) (h0 : b ≠ 0) : mN m t n b j = m b j := by simp [mN, h, h0]
theorem mA_b {m : aM} {t n b j : Int} (h : b ≠ m 0 0 + 1) (h0 : b ≠ 0) : mA m t n b j = m b j := by simp [mA, h, h0]
theorem mX_b {m : aM} {t k n b j : Int} (h : b ≠ m 0 0 + k) (h0 : b ≠ 0) : mX m t k n b j = m b j := by simp [mX, h, h0]
theorem mN_0 {m : aM} {t n : Int} (hm : 0 ≤ m 0 0) : mN m t n 0 0 = m 0 0 + 1 ∧ mN m t n 0 1 = m 0 1 + n ∧ ∀ j, j ≠ 0 → j ≠ 1 → mN m t n 0 j = m 0 j := by
  have h : (0 : Int) ≠ m 0 0 + 1 := by omega
  refine ⟨by simp [mN, h], by simp [mN, h], fun j h1 h2 => by simp [mN, h, h1, h2]⟩
theorem mA_0 {m : aM} {t n : Int} (hm : 0 ≤ m 0 0) : mA m t n 0 0 = m 0 0 + 1 ∧ mA m t n 0 1 = m 0 1 + n ∧ ∀ j, j ≠ 0 → j ≠ 1 → mA m t n 0 j = m 0 j := by
  have h : (0 : Int) ≠ m 0 0 + 1 := by omega
  refine ⟨by simp [mA, h], by simp [mA, h], fun j h1 h2 => by simp [mA, h, h1, h2]⟩
theorem mX_0 {m : aM} {t k n : Int} (hm : 0 ≤ m 0 0) (hk : 0 < k) : mX m t k n 0 0 = m 0 0 + k ∧ mX m t k n 0 1 = m 0 1 + n ∧ ∀ j, j ≠ 0 → j ≠ 1 → mX m t k n 0 j = m 0 j := by
  have h : (0 : Int) ≠ m 0 0 + k := by omega
  refine ⟨by simp [mX, h], by simp [mX, h], fun j h1 h2 => by simp [mX, h, h1, h2]⟩
theorem mN_n {m : aM} {t n j : Int} : mN m t n (m 0 0 + 1) j = if j = -1 then t else 0 := by simp [mN]
theorem mA_n {m : aM} {t n j : Int} : mA m t n (m 0 0 + 1) j = if j = -1 then t else if j = -2 then n else 0 := by simp [mA]
theorem mX_n {m : aM} {t k n j : Int} : mX m t k n (m 0 0 + k) j = if j = -1 then t else 0 := by simp [mX]
section New
variable {p : Program} {l : Launch} {e : Env} {R : Room} {s : State} {m : MethodId} {args : Array Value} {below : List Frame} {meth : Method} {c : Code} {cc : ByteArray} {s0 : State} {ad : Int → Nat} {fm : Value} {cid : Int → ClassId} {slo : Int → Nat → Nat} {N : Int → Nat} {ft : Int → Nat → Nat} {Qf : State → Prop} {n0 s1 : Int} {pc : Nat} {L r : List aV} {mm : aM} {H : Heap}
theorem am_s_new (hx : p.tables.exec = Jvm.exec) (hb : c.code = cc) {own : String} {idx : Nat} (hown : s.vm.findClass own = some m.cls) (had : ∀ r, 0 < r → ad r = s0.heap.size + (r - 1).toNat) (hRc : (amC - n0).toNat ≤ R.cells) (hRs : (amS - s1).toNat ≤ R.slots)
    {t y : Int} {n : Nat} {C : String} {T : u_T} (ty : Nat → FieldType) {Ts : List Jvm.Cond} (hts : ∀ w ∈ Ts, w.before args s = true) (hy : y = n) (hclink : (Jvm.Cond.classLink own idx C).before args s = true) (hins : (Jvm.Cond.instantiable C n).before args s = true) (hinit : (Jvm.Cond.initialized C).before args s = true) (hcid : s.vm.findClass C = some (cid t))
    (hk : (am_isO t = true ∧ u_Kn s C T (N t) (cid t) (slo t) ∧ (∀ w ∈ u_ws C T (N t), w ∈ Ts) ∧ (∀ k, k < N t → parseFieldDescriptor (T k).2.2.1 = some (ty k)) ∧ ∀ k, k < N t → defaultValue (ty k) = am_w ad fm (ft t k) 0) ∨ (am_isX t = true ∧ (t = 3 → ∀ kC, s.vm.classes[cid 3]? = some kC → ∃ k0, s0.vm.classes[cid 3]? = some k0 ∧ kC.instanceTypes = k0.instanceTypes)))
    (hroom : mm 0 0 + 1 ≤ amC ∧ mm 0 1 + y ≤ amS) (hd : decode cc pc = .ok (.new idx, 3))
    (K : am_S p l e R s m args below meth c s0 ad fm cid slo N ft Qf n0 s1 (pc + 3) L (.inr (.inr (.inl (mm 0 0 + 1))) :: r) (mN mm t y)) : am_S p l e R s m args below meth c s0 ad fm cid slo N ft Qf n0 s1 pc L r mm := by
  intro H locs ls hR hlo hL hS h0 h1
  have hR0 := hR
  obtain ⟨z0, z1, z2, -⟩ := hR0
  obtain ⟨e0, e1, e2⟩ := mN_0 (t := t) (n := y) z0
  have ea : ad (mm 0 0 + 1) = H.size := by rw [had _ (by omega), z2]; omega
  refine W.newc hx hb hown hclink hins hinit rfl hd (by omega) (by omega) (fun cC kC q1 q2 q3 q4 => ?_)
  have ec : cC = cid t := Option.some.inj (q1.symm.trans hcid)
  subst ec
  have hpush : (H.push { cls := cid t, slots := kC.instanceTypes.map defaultValue, vm := .none })[ad (mm 0 0 + 1)]? = some { cls := cid t, slots := kC.instanceTypes.map defaultValue, vm := .none } := by rw [ea]; simp
  have hcell : am_cell s0 ad fm cid slo N ft (mN mm t y) (H.push { cls := cid t, slots := kC.instanceTypes.map defaultValue, vm := .none }) (mm 0 0 + 1) := by
    have et : mN mm t y (mm 0 0 + 1) (-1) = t := by rw [mN_n]; rfl
    refine ⟨_, hpush, by rw [et], by simp, rfl, fun _ _ => rfl, fun h => by omega, ?_⟩
    rcases hk with ⟨ho, hKt, hin, hty, hdef⟩ | hk
    · refine Or.inl ⟨by rw [et]; exact ho, fun k hkk => ?_⟩
      rw [et] at hkk ⊢
      obtain ⟨cell, d1, d2, d3, d4⟩ := u_born (H := H.push { cls := cid t, slots := kC.instanceTypes.map defaultValue, vm := .none }) (o := ad (mm 0 0 + 1)) ty hts hin hKt q2 hpush hty
      rw [hpush] at d1
      cases d1
      have ek : mN mm t y (mm 0 0 + 1) k = 0 := by rw [mN_n, if_neg (by omega)]
      rw [ek, d4 k hkk]
      refine ⟨congrArg some (hdef k hkk), ?_⟩
      rcases ft t k with _ | _ | _
      · exact ⟨by decide, by decide⟩
      · exact ⟨by decide, by decide⟩
      · trivial
    · refine Or.inr (Or.inr ⟨by rw [et]; exact hk.1, fun z _ => ?_⟩)
      rw [et] at z
      subst z
      obtain ⟨k0, z1, z2⟩ := hk.2 rfl kC q2
      refine ⟨k0, z1, ?_⟩
      show ({ cls := cid 3, slots := kC.instanceTypes.map defaultValue, vm := .none } : Cell) = { cls := cid 3, slots := k0.instanceTypes.map defaultValue, vm := .none }
      rw [z2]
  have hR1 : am_Rep s0 ad fm cid slo N ft (mN mm t y) (H.push { cls := cid t, slots := kC.instanceTypes.map defaultValue, vm := .none }) :=
    hR.grow had (k := 1) (by decide) (fun b j hb hb0 => mN_b hb hb0) e0 (by rw [e1]; omega) e2 (by simp) (fun a ha => by rw [Array.getElem?_push_lt ha]; simp [ha]) hcell
  have K1 := K _ locs ls hR1 hlo hL (am_vc trivial hS) (by rw [e0]; omega) (by rw [e1]; omega)
  rw [e0, e1, show (mm 0 0 + 1 - n0).toNat = (mm 0 0 - n0).toNat + 1 by omega, show (mm 0 1 + y - s1).toNat = (mm 0 1 - s1).toNat + n by omega, List.map_cons, show am_c ad fm (.inr (.inr (.inl (mm 0 0 + 1)))) = am_rv ad fm (mm 0 0 + 1) from rfl] at K1
  have er : am_rv ad fm (mm 0 0 + 1) = .ref H.size := by unfold am_rv; rw [if_neg (by omega), if_neg (by omega), ea]
  rw [er] at K1
  exact K1
theorem am_newarr {cA : ClassId} {t n : Int} {d : Value} (had : ∀ r, 0 < r → ad r = s0.heap.size + (r - 1).toNat) (hR : am_Rep s0 ad fm cid slo N ft mm H) (hA : am_isA t = true) (hc : cA = cid t) (hn : 0 ≤ n ∧ n ≤ 1000000) (hdv : d = am_w ad fm (am_aw t) 0) {sz : Nat} (hsz : sz = n.toNat) :
    am_Rep s0 ad fm cid slo N ft (mA mm t n) (H.push { cls := cA, slots := Array.replicate sz d, vm := .none }) ∧ ad (mm 0 0 + 1) = H.size ∧ am_rv ad fm (mm 0 0 + 1) = .ref H.size := by
  have hR0 := hR
  obtain ⟨z0, z1, z2, -⟩ := hR0
  obtain ⟨e0, e1, e2⟩ := mA_0 (t := t) (n := n) z0
  have ea : ad (mm 0 0 + 1) = H.size := by rw [had _ (by omega), z2]; omega
  subst hc
  subst hsz
  have hpush : (H.push { cls := cid t, slots := Array.replicate n.toNat d, vm := .none })[ad (mm 0 0 + 1)]? = some { cls := cid t, slots := Array.replicate n.toNat d, vm := .none } := by rw [ea]; simp
  refine ⟨hR.grow had (k := 1) (by decide) (fun b j hb hb0 => mA_b hb hb0) e0 (by rw [e1]; omega) e2 (by simp) (fun a ha => by rw [Array.getElem?_push_lt ha]; simp [ha]) ?_, ea, ?_⟩
  · have et : mA mm t n (mm 0 0 + 1) (-1) = t := by rw [mA_n]; rfl
    have el : mA mm t n (mm 0 0 + 1) (-2) = n := by rw [mA_n]; rfl
    refine ⟨_, hpush, by rw [et], by simp, rfl, fun _ _ => rfl, fun h => by omega, Or.inr (Or.inl ⟨by rw [et]; exact hA, by rw [el]; exact hn.1, by rw [el]; simp, by rw [el]; omega, fun j hj => ?_⟩)⟩
    rw [el] at hj
    rw [et]
    have ek : mA mm t n (mm 0 0 + 1) j = 0 := by rw [mA_n, if_neg (by omega), if_neg (by omega)]
    rw [ek]
    refine ⟨?_, ?_⟩
    · have : j < n.toNat := by omega
      simp [this, hdv]
    · rcases am_aw t with _ | _ | _
      · exact ⟨by decide, by decide⟩
      · exact ⟨by decide, by decide⟩
      · trivial
  · unfold am_rv
    rw [if_neg (by omega), if_neg (by omega), ea]
theorem am_s_newarray (hx : p.tables.exec = Jvm.exec) (hb : c.code = cc) (had : ∀ r, 0 < r → ad r = s0.heap.size + (r - 1).toNat) (hRc : (amC - n0).toNat ≤ R.cells) (hRs : (amS - s1).toNat ≤ R.slots)
    {t n : Int} {aty : ArrayType} (harr : (Jvm.Cond.arrayClass (newarray.typeOf aty)).before args s = true) (hA : am_isA t = true) (hcid : s.vm.findClass ("[" ++ (newarray.typeOf aty).toString) = some (cid t)) (hby : componentBytes (newarray.typeOf aty) ≤ 8) (hdv : defaultValue (newarray.typeOf aty) = am_w ad fm (am_aw t) 0)
    (hroom : 0 ≤ n ∧ n ≤ 1000000 ∧ mm 0 0 + 1 ≤ amC ∧ mm 0 1 + n ≤ amS) (hd : decode cc pc = .ok (.newarray aty, 2))
    (K : am_S p l e R s m args below meth c s0 ad fm cid slo N ft Qf n0 s1 (pc + 2) L (.inr (.inr (.inl (mm 0 0 + 1))) :: r) (mA mm t n)) : am_S p l e R s m args below meth c s0 ad fm cid slo N ft Qf n0 s1 pc L (.inl n :: r) mm := by
  intro H locs ls hR hlo hL hS h0 h1
  obtain ⟨e0, e1, -⟩ := mA_0 (t := t) (n := n) hR.1
  have en : (Int32.ofInt n).toNatClampNeg = n.toNat := by
    show (Int32.ofInt n).toInt.toNat = n.toNat
    rw [am_i32 (am_vh hS)]
  have hneg : ¬ Int32.ofInt n < 0 := by
    rw [Int32.lt_iff_toInt_lt, am_i32 (am_vh hS)]
    have z0 : (0 : Int32).toInt = 0 := rfl
    rw [z0]
    omega
  have hby2 : n.toNat * componentBytes (newarray.typeOf aty) ≤ 1000000 * 8 := Nat.mul_le_mul (by omega) hby
  refine W.newa hx hb harr rfl hd (n := Int32.ofInt n) (rest := r.map (am_c ad fm)) rfl hneg (by rw [en]; omega) (by omega) (by rw [en]; omega) (fun cA kA comp q1 q2 q3 => ?_)
  obtain ⟨hR1, ea, er⟩ := am_newarr had hR hA (Option.some.inj (q1.symm.trans hcid)) ⟨hroom.1, hroom.2.1⟩ hdv en
  have K1 := K _ locs ls hR1 hlo hL (am_vc trivial (am_vt hS)) (by rw [e0]; omega) (by rw [e1]; omega)
  rw [e0, e1, show (mm 0 0 + 1 - n0).toNat = (mm 0 0 - n0).toNat + 1 by omega, show (mm 0 1 + n - s1).toNat = (mm 0 1 - s1).toNat + n.toNat by omega, List.map_cons, show am_c ad fm (.inr (.inr (.inl (mm 0 0 + 1)))) = am_rv ad fm (mm 0 0 + 1) from rfl, er] at K1
  rw [en] at K1 ⊢
  exact K1
theorem am_s_anewarray (hx : p.tables.exec = Jvm.exec) (hb : c.code = cc) {own : String} {idx : Nat} (hown : s.vm.findClass own = some m.cls) (had : ∀ r, 0 < r → ad r = s0.heap.size + (r - 1).toNat) (hRc : (amC - n0).toNat ≤ R.cells) (hRs : (amS - s1).toNat ≤ R.slots)
    {t n : Int} {C : String} (hclink : (Jvm.Cond.classLink own idx C).before args s = true) (hover : (Jvm.Cond.arrayOver (.object C)).before args s = true) (hA : am_isA t = true) (hcid : s.vm.findClass ("[" ++ (FieldType.object C).toString) = some (cid t)) (hdv : Value.null = am_w ad fm (am_aw t) 0)
    (hroom : 0 ≤ n ∧ n ≤ 1000000 ∧ mm 0 0 + 1 ≤ amC ∧ mm 0 1 + n ≤ amS) (hd : decode cc pc = .ok (.anewarray idx, 3))
    (K : am_S p l e R s m args below meth c s0 ad fm cid slo N ft Qf n0 s1 (pc + 3) L (.inr (.inr (.inl (mm 0 0 + 1))) :: r) (mA mm t n)) : am_S p l e R s m args below meth c s0 ad fm cid slo N ft Qf n0 s1 pc L (.inl n :: r) mm := by
  intro H locs ls hR hlo hL hS h0 h1
  obtain ⟨e0, e1, -⟩ := mA_0 (t := t) (n := n) hR.1
  have en : (Int32.ofInt n).toNatClampNeg = n.toNat := by
    show (Int32.ofInt n).toInt.toNat = n.toNat
    rw [am_i32 (am_vh hS)]
  have hneg : ¬ Int32.ofInt n < 0 := by
    rw [Int32.lt_iff_toInt_lt, am_i32 (am_vh hS)]
    have z0 : (0 : Int32).toInt = 0 := rfl
    rw [z0]
    omega
  refine W.anew hx hb hown hclink hover rfl hd (n := Int32.ofInt n) (rest := r.map (am_c ad fm)) rfl hneg (by rw [en]; omega) (by omega) (by rw [en]; omega) (fun cA kA comp q1 q2 q3 q4 => ?_)
  obtain ⟨hR1, ea, er⟩ := am_newarr had hR hA (Option.some.inj (q1.symm.trans hcid)) ⟨hroom.1, hroom.2.1⟩ hdv en
  have K1 := K _ locs ls hR1 hlo hL (am_vc trivial (am_vt hS)) (by rw [e0]; omega) (by rw [e1]; omega)
  rw [e0, e1, show (mm 0 0 + 1 - n0).toNat = (mm 0 0 - n0).toNat + 1 by omega, show (mm 0 1 + n - s1).toNat = (mm 0 1 - s1).toNat + n.toNat by omega, List.map_cons, show am_c ad fm (.inr (.inr (.inl (mm 0 0 + 1)))) = am_rv ad fm (mm 0 0 + 1) from rfl, er] at K1
  rw [en] at K1 ⊢
  exact K1
end New
