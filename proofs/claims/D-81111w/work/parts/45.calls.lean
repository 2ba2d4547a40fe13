/-! A CALL: from the abstract callee's answer to the machine's -/
/-- the room that a method at depth d has -/
def am_R (d : Nat) (m : aM) : Room := { frames := d + 9, cells := (amC - m 0 0).toNat, slots := (amS - m 0 1).toNat, locals := 10300 + 75 * d }
/-- every method goes well at depth d -/
def am_IH (p : Program) (l : Launch) (e : Env) (s0 : State) (ad : Int → Nat) (fm : Value) (cid : Int → ClassId) (slo : Int → Nat → Nat) (d : Nat) : Prop :=
  ∀ (y : Nat) (s : State) (mk : MethodId) (below : List Frame) (methk : Method) (ck : Code) (as : List aV) (m : aM) (Qc : aO → aM → Prop), y ∈ am_ys → am_Wd s0 ad fm cid slo s → am_MX cid s y mk methk ck → (∀ v ∈ as, am_vok v) → am_Rep s0 ad fm cid slo am_cF am_ft m s.heap → m 0 0 ≤ amC ∧ m 0 1 ≤ amS → am_gd (am_md y) m → am_wpc am_G am_T d y as m Qc →
    W p l e (am_R d m) s mk (as.map (am_c ad fm)).toArray below methk ck s.heap [] 0 0 (am_Post s0 ad fm cid slo am_cF am_ft s below Qc (m 0 0) (m 0 1) (m 0 2 = 1) (m 0 3 = 1)) (entryFrame mk (as.map (am_c ad fm)).toArray ck.maxLocals)
theorem am_pop_eq : ∀ (n : Nat) (acc st as r : List aV), am_pop n acc st = some (as, r) → ∃ q, q.length = n ∧ st = q ++ r ∧ as = q.reverse ++ acc := by
  intro n
  induction n with
  | zero =>
    intro acc st as r h
    cases h
    exact ⟨[], rfl, rfl, rfl⟩
  | succ n ih =>
    intro acc st as r h
    match st, h with
    | [], h => cases h
    | v :: st, h =>
      obtain ⟨q, h1, h2, h3⟩ := ih (v :: acc) st as r h
      exact ⟨v :: q, by simp [h1], by simp [h2], by simp [h3]⟩
theorem am_mxl : ∀ y ∈ am_ys, (am_T y).1 ≤ 13 := by decide +kernel
section Docall
variable {p : Program} {l : Launch} {e : Env} {R : Room} {s : State} {m : MethodId} {args : Array Value} {below : List Frame} {meth : Method} {c : Code} {cc : ByteArray} {s0 : State} {ad : Int → Nat} {fm : Value} {cid : Int → ClassId} {slo : Int → Nat → Nat} {n0 s1 : Int} {pc len : Nat} {L S : List aV} {mm : aM} {hs : aH} {Q : aO → aM → Prop} {nx : List aV → List aV → aM → Prop} {jp : Nat → List aV → List aV → aM → Prop} {o d : Nat} {b2 b3 : Prop}
theorem am_docall (IH : am_IH p l e s0 ad fm cid slo d) (X : am_Wd s0 ad fm cid slo s) (hlocks : meth.locks = false) (hown : s.vm.findClass (am_on o) = some m.cls) (hHR : am_HR s args (am_on o) am_xn cid hs c.exceptionTable.toList) (hRf : d + 10 ≤ R.frames) (hRl : 10375 + 75 * d ≤ R.locals) (hRc : (amC - n0).toNat ≤ R.cells) (hRs : (amS - s1).toNat ≤ R.slots) (hml : c.maxLocals = L.length) (hg2 : b2 → mm 0 2 = 1) (hg3 : b3 → mm 0 3 = 1) (hroom : mm 0 0 ≤ amC ∧ mm 0 1 ≤ amS)
    {y : Nat} (hy : y ∈ am_ys) (hgd : am_gd (am_md y) mm) {as r : List aV} (hr : r.length ≤ 24)
    (hinv : ∀ mk methk ck, am_MX cid s y mk methk ck → ∀ (H : Heap) (ls : Array Slot), am_Rep s0 ad fm cid slo am_cF am_ft mm H → am_Inv p l e R s m args below meth c H (F0 m pc ls (S.map (am_c ad fm))) pc ls (r.map (am_c ad fm)) mk (as.map (am_c ad fm)).toArray)
    (has : (∀ v ∈ S, am_vok v) → ∀ v ∈ as, am_vok v) (hrv : (∀ v ∈ S, am_vok v) → ∀ v ∈ r, am_vok v) {ig : Instr} (hdg : decode c.code pc = .ok (ig, len))
    (hnx : ∀ L S mm, nx L S mm → am_S p l e R s m args below meth c s0 ad fm cid slo am_cF am_ft (am_Post s0 ad fm cid slo am_cF am_ft s below Q n0 s1 b2 b3) n0 s1 (pc + len) L S mm)
    (hjp : ∀ t L S mm, jp t L S mm → am_S p l e R s m args below meth c s0 ad fm cid slo am_cF am_ft (am_Post s0 ad fm cid slo am_cF am_ft s below Q n0 s1 b2 b3) n0 s1 t L S mm)
    (h : am_wpc am_G am_T d y as mm (am_ret hs Q nx jp pc L r)) :
    am_S p l e R s m args below meth c s0 ad fm cid slo am_cF am_ft (am_Post s0 ad fm cid slo am_cF am_ft s below Q n0 s1 b2 b3) n0 s1 pc L S mm := by
  intro H locs ls hR hlo hL hS h0 h1
  obtain ⟨mk, methk, ck, hM⟩ := am_meth X hy
  obtain ⟨⟨m1, m2, m3, m4, m5, m6, m7, m8⟩, m9, m10, m11⟩ := hM
  have hM : am_MX cid s y mk methk ck := ⟨⟨m1, m2, m3, m4, m5, m6, m7, m8⟩, m9, m10, m11⟩
  have hcat := am_cats (ad := ad) (fm := fm) r
  have hmx := am_mxl y hy
  refine am_call (s0 := s0) (ad := ad) (fm := fm) (cid := cid) (slo := slo) (N := am_cF) (ft := am_ft) (mm := mm) (R' := am_R d mm) (ig := ig) (len := len) (Qc := am_ret hs Q nx jp pc L r) (fun T hT Y => hinv mk methk ck hM H ls hR locs _ _ T hT Y) hdg (hL.1.trans hml.symm) m2 m3 m7 m10 ?_ ?_ ?_ ?_ (fun s' hs' hW => ?_) (fun v m' hQ hv h7 h8 h11 h12 H' Lo hR' hLo => ?_) (fun ci q m' hQ hc h7 h8 h11 h12 T' Lo hR' hLo Y' => ?_)
  · show d + 9 + 1 ≤ R.frames
    omega
  · show _ + (ck.maxLocals + 11) + (10300 + 75 * d) ≤ R.locals
    rw [m5]
    omega
  · show _ + (amC - mm 0 0).toNat ≤ R.cells
    omega
  · show _ + (amS - mm 0 1).toNat ≤ R.slots
    omega
  · have hold : ∀ a, a < s0.heap.size → s'.heap[a]? = s0.heap[a]? := by
      rw [hs']
      obtain ⟨_, _, _, _, _, _, h7, _⟩ := hR
      exact h7
    have X' := X.moved hW hold
    have k := IH y s' mk (.java (F0 m pc ls (r.map (am_c ad fm))) :: below) methk ck as mm (am_ret hs Q nx jp pc L r) hy X' (hM.moved X' hy hW) (has hS) (by rw [hs']; exact hR) hroom hgd h
    rw [hs'] at k
    exact k
  · have e0 : (mm 0 0 - n0).toNat + (m' 0 0 - mm 0 0).toNat = (m' 0 0 - n0).toNat := by omega
    have e1 : (mm 0 1 - s1).toNat + (m' 0 1 - mm 0 1).toNat = (m' 0 1 - s1).toNat := by omega
    rw [e0, e1]
    have hlo2 : ∀ q ∈ locs ++ Lo, s0.heap.size ≤ q.base := fun q hq => by
      rcases List.mem_append.mp hq with w | w
      · exact hlo q w
      · exact hLo q w
    match v, hQ, hv with
    | none, hQ, _ => exact hnx _ _ _ hQ H' _ ls hR' hlo2 hL (hrv hS) (by omega) (by omega)
    | some w, hQ, hv => exact hnx _ _ _ hQ H' _ ls hR' hlo2 hL (am_vc (hv w rfl) (hrv hS)) (by omega) (by omega)
  · have hlo2 : ∀ q ∈ locs ++ Lo, s0.heap.size ≤ q.base := fun q hq => by
      rcases List.mem_append.mp hq with w | w
      · exact hlo q w
      · exact hLo q w
    exact am_thr (pc := pc) (rest := r.map (am_c ad fm)) X hlocks hown hHR hR' hc (by omega) (by omega) hlo2 (fun w => h11 (hg2 w)) (fun w => h12 (hg3 w)) (by omega) (by omega) Y' hL hjp hQ
/-- a ghost is set or asked -/
theorem am_S_ghost {Qf : State → Prop} {k : Int} (hk : k = 2 ∨ k = 3) (hG : (k = 2 → am_GA mm) ∧ (k = 3 → am_GM mm)) (K : am_S p l e R s m args below meth c s0 ad fm cid slo am_cF am_ft Qf n0 s1 pc L S (mS mm 0 k 1)) : am_S p l e R s m args below meth c s0 ad fm cid slo am_cF am_ft Qf n0 s1 pc L S mm := by
  intro H locs ls hR hlo hL hS h0 h1
  have e0 : mS mm 0 k 1 0 0 = mm 0 0 := mS_i _ _ _ _ (by omega)
  have e1 : mS mm 0 k 1 0 1 = mm 0 1 := mS_i _ _ _ _ (by omega)
  have K1 := K H locs ls (hR.ghost k hk hG) hlo hL hS (by rw [e0]; exact h0) (by rw [e1]; exact h1)
  rw [e0, e1] at K1
  exact K1
end Docall
/-- the mode behind a call's ghost; the callee's against it -/
def am_m2 (md g : Nat) : Nat := bif Nat.beq g 0 then md else bif Nat.beq g 1 || Nat.beq g 3 then 1 else 2
def am_mg (md g y : Nat) : Bool := Nat.beq (am_md y) 0 || Nat.beq (am_md y) (am_m2 md g)
/-- what a call sees behind the ghosts -/
def am_Gh (g : Nat) (mm m' : aM) : Prop := (g = 1 ∧ am_GA mm ∧ m' = mS mm 0 2 1) ∨ (g = 2 ∧ am_GM mm ∧ m' = mS mm 0 3 1) ∨ (m' = mm ∧ (g = 0 ∨ (g = 3 ∧ mm 0 2 = 1) ∨ (4 ≤ g ∧ mm 0 3 = 1)))
theorem am_gh_out {g : Nat} {mm : aM} {k : aM → Prop} (h : am_gh am_G g mm k) : ∃ m', am_Gh g mm m' ∧ k m' := by
  unfold am_gh at h
  split at h
  · exact ⟨mm, Or.inr (Or.inr ⟨rfl, Or.inl rfl⟩), h⟩
  · exact ⟨_, Or.inl ⟨rfl, h.1, rfl⟩, h.2⟩
  · exact ⟨_, Or.inr (Or.inl ⟨rfl, h.1, rfl⟩), h.2⟩
  · exact ⟨mm, Or.inr (Or.inr ⟨rfl, Or.inr (Or.inl ⟨rfl, h.1⟩)⟩), h.2⟩
  · next h0 h1 h2 h3 => exact ⟨mm, Or.inr (Or.inr ⟨rfl, Or.inr (Or.inr ⟨by
    have a0 : g ≠ 0 := h0
    have a1 : g ≠ 1 := h1
    have a2 : g ≠ 2 := h2
    have a3 : g ≠ 3 := h3
    omega, h.1⟩)⟩), h.2⟩
theorem am_Gh.at {g : Nat} {mm m' : aM} (h : am_Gh g mm m') : (∀ b j, j < 2 → m' b j = mm b j) ∧ (mm 0 2 = 1 → m' 0 2 = 1) ∧ (mm 0 3 = 1 → m' 0 3 = 1) := by
  rcases h with ⟨-, -, rfl⟩ | ⟨-, -, rfl⟩ | ⟨rfl, -⟩
  · refine ⟨fun b j hj => mS_i _ _ _ _ (by omega), fun _ => mS_eq _ _ _ _, fun q => ?_⟩
    rw [mS_i _ _ _ _ (by decide)]
    exact q
  · refine ⟨fun b j hj => mS_i _ _ _ _ (by omega), fun q => ?_, fun _ => mS_eq _ _ _ _⟩
    rw [mS_i _ _ _ _ (by decide)]
    exact q
  · exact ⟨fun _ _ _ => rfl, id, id⟩
theorem am_m2_ok {md g : Nat} {mm m' : aM} (h : am_Gh g mm m') (hgd : am_gd md mm) : am_gd (am_m2 md g) m' := by
  unfold am_m2
  rcases h with ⟨rfl, -, rfl⟩ | ⟨rfl, -, rfl⟩ | ⟨rfl, g0⟩
  · exact ⟨fun _ => mS_eq _ _ _ _, fun z => absurd (show (1 : Nat) = 2 from z) (by decide)⟩
  · exact ⟨fun z => absurd (show (2 : Nat) = 1 from z) (by decide), fun _ => mS_eq _ _ _ _⟩
  · rcases g0 with rfl | ⟨rfl, g0⟩ | ⟨g4, g0⟩
    · exact hgd
    · exact ⟨fun _ => g0, fun z => absurd (show (1 : Nat) = 2 from z) (by decide)⟩
    · have e0 : Nat.beq g 0 = false := by
        cases hb : Nat.beq g 0 with
        | false => rfl
        | true => have := Nat.eq_of_beq_eq_true hb; omega
      have e1 : Nat.beq g 1 = false := by
        cases hb : Nat.beq g 1 with
        | false => rfl
        | true => have := Nat.eq_of_beq_eq_true hb; omega
      have e3 : Nat.beq g 3 = false := by
        cases hb : Nat.beq g 3 with
        | false => rfl
        | true => have := Nat.eq_of_beq_eq_true hb; omega
      rw [e0, e1, e3]
      exact ⟨fun z => absurd (show (2 : Nat) = 1 from z) (by decide), fun _ => g0⟩
theorem am_mg_ok {md g y : Nat} {mm m' : aM} (hm : am_mg md g y = true) (h : am_Gh g mm m') (hgd : am_gd md mm) : am_gd (am_md y) m' := by
  unfold am_mg at hm
  simp only [Bool.or_eq_true] at hm
  rcases hm with hm | hm
  · have := Nat.eq_of_beq_eq_true hm
    exact ⟨fun z => by omega, fun z => by omega⟩
  · rw [Nat.eq_of_beq_eq_true hm]
    exact am_m2_ok h hgd
section Gh
variable {p : Program} {l : Launch} {e : Env} {R : Room} {s : State} {m : MethodId} {args : Array Value} {below : List Frame} {meth : Method} {c : Code} {s0 : State} {ad : Int → Nat} {fm : Value} {cid : Int → ClassId} {slo : Int → Nat → Nat} {n0 s1 : Int} {pc : Nat} {L S : List aV} {mm : aM} {Qf : State → Prop}
theorem am_Gh_S {g : Nat} {m' : aM} (h : am_Gh g mm m') (K : am_S p l e R s m args below meth c s0 ad fm cid slo am_cF am_ft Qf n0 s1 pc L S m') : am_S p l e R s m args below meth c s0 ad fm cid slo am_cF am_ft Qf n0 s1 pc L S mm := by
  rcases h with ⟨-, hG, rfl⟩ | ⟨-, hG, rfl⟩ | ⟨rfl, -⟩
  · exact am_S_ghost (Or.inl rfl) ⟨fun _ => hG, fun z => absurd z (by decide)⟩ K
  · exact am_S_ghost (Or.inr rfl) ⟨fun z => absurd z (by decide), fun _ => hG⟩ K
  · exact K
end Gh
