/-! GHOSTS ARE KEPT: every instruction keeps 'cells made ≥ 0' and what the two ghosts say -/
def am_kp (m m' : aM) : Prop := 0 ≤ m 0 0 → 0 ≤ m' 0 0 ∧ (m 0 2 = 1 → m' 0 2 = 1) ∧ (m 0 3 = 1 → m' 0 3 = 1) ∧ (m 0 0 ≤ amC ∧ m 0 1 ≤ amS → m' 0 0 ≤ amC ∧ m' 0 1 ≤ amS)
theorem am_kp.rfl (m : aM) : am_kp m m := fun h => ⟨h, id, id, id⟩
theorem am_kp.trans {a b c : aM} (h : am_kp a b) (g : am_kp b c) : am_kp a c := fun z => by
  obtain ⟨h0, h1, h2, h3⟩ := h z
  obtain ⟨g0, g1, g2, g3⟩ := g h0
  exact ⟨g0, fun q => g1 (h1 q), fun q => g2 (h2 q), fun q => g3 (h3 q)⟩
theorem am_kp_of {m m' : aM} (e : ∀ j, m' 0 j = m 0 j) : am_kp m m' := fun z => by
  simp only [e]
  exact ⟨z, id, id, id⟩
theorem am_kp_mS {m : aM} {a i v : Int} (h : a ≠ 0) : am_kp m (mS m a i v) := am_kp_of (fun _ => mS_a _ _ _ _ (Ne.symm h))
theorem am_kp_mN {m : aM} {t n : Int} (hr : m 0 0 + 1 ≤ amC ∧ m 0 1 + n ≤ amS) : am_kp m (mN m t n) := fun z => by
  obtain ⟨e0, e1, e2⟩ := mN_0 (t := t) (n := n) z
  rw [e0, e1, e2 2 (by decide) (by decide), e2 3 (by decide) (by decide)]
  exact ⟨by omega, id, id, fun _ => hr⟩
theorem am_kp_mA {m : aM} {t n : Int} (hr : m 0 0 + 1 ≤ amC ∧ m 0 1 + n ≤ amS) : am_kp m (mA m t n) := fun z => by
  obtain ⟨e0, e1, e2⟩ := mA_0 (t := t) (n := n) z
  rw [e0, e1, e2 2 (by decide) (by decide), e2 3 (by decide) (by decide)]
  exact ⟨by omega, id, id, fun _ => hr⟩
theorem am_kp_mX {m : aM} {t n k : Int} (hk : 0 < k) (hr : m 0 0 + k ≤ amC ∧ m 0 1 + n ≤ amS) : am_kp m (mX m t k n) := fun z => by
  obtain ⟨e0, e1, e2⟩ := mX_0 (t := t) (n := n) z hk
  rw [e0, e1, e2 2 (by decide) (by decide), e2 3 (by decide) (by decide)]
  exact ⟨by omega, id, id, fun _ => hr⟩
theorem am_kp_mC {m : aM} {a sp b dp n : Int} (h : 0 < b) : am_kp m (mC m a sp b dp n) := am_kp_of (fun j => by
  unfold mC
  rw [if_neg (by omega)])
def am_pos (e : aE) : Bool := match e with
  | (_, i, _, x, _, z) => match i with
    | .putfield _ => !(decide (x = 0))
    | .iastore => Nat.beq z 0 || !(decide (x = 0))
    | .lastore => Nat.beq z 0 || !(decide (x = 0))
    | .bastore => Nat.beq z 0 || !(decide (x = 0))
    | .aastore => Nat.beq z 0 || !(decide (x = 0))
    | _ => true
set_option maxHeartbeats 4000000 in
theorem am_pst_kp {pc len : Nat} {i : Instr} {x y : Int} {z : Nat} {ls st : List aV} {m : aM} {P : Option Prop} {st' : List aV} {m' : aM} (hp : am_pos (pc, i, len, x, y, z) = true) (h : am_pst i x y z ls st m = some (P, st', m')) (hP : ∀ q, P = some q → q) : am_kp m m' := by
  unfold am_pst at h
  simp only [am_ld, am_ldl, am_lda, am_xld, am_xst] at h
  split at h
  all_goals (repeat' split at h)
  all_goals (try cases h)
  all_goals first
    | exact am_kp.rfl _
    | exact am_kp_mN (hP _ rfl)
    | exact am_kp_mA (hP _ rfl).2.2
    | (have q := hP _ rfl; refine am_kp_mS ?_; omega)
    | exact am_kp_mS (fun hx0 => by subst hx0; exact absurd hp (by simp [am_pos, Nat.beq]))
theorem am_gh_kp {G : Nat → aM → Prop} {z : Nat} {m : aM} {k k' : aM → Prop} (hk : ∀ m', am_kp m m' → k m' → k' m') (h : am_gh G z m k) : am_gh G z m k' := by
  have h2 : ∀ j, j = 2 ∨ j = 3 → am_kp m (mS m 0 j 1) := fun j hj z => by
    have e : ∀ i, mS m 0 j 1 0 i = if i = j then 1 else m 0 i := fun i => by rw [mS_iff]; simp
    have e0 : mS m 0 j 1 0 0 = m 0 0 := by rw [e, if_neg (by omega)]
    have e1 : mS m 0 j 1 0 1 = m 0 1 := by rw [e, if_neg (by omega)]
    rw [e0, e1, e, e]
    refine ⟨z, fun q => ?_, fun q => ?_, id⟩
    · split
      · rfl
      · exact q
    · split
      · rfl
      · exact q
  unfold am_gh at *
  split at h
  · exact hk _ (am_kp.rfl _) h
  · exact ⟨h.1, hk _ (h2 2 (Or.inl rfl)) h.2⟩
  · exact ⟨h.1, hk _ (h2 3 (Or.inr rfl)) h.2⟩
  · exact ⟨h.1, hk _ (am_kp.rfl _) h.2⟩
  · exact ⟨h.1, hk _ (am_kp.rfl _) h.2⟩
theorem am_exc_kp {hs : aH} {Q : aO → aM → Prop} {jp : Nat → List aV → List aV → aM → Prop} {pc : Nat} {ls : List aV} {c q : Int} {m0 m : aM} (k : am_kp m0 m) (h : am_exc hs Q jp pc ls c q m) : am_exc hs (fun o m => Q o m ∧ am_kp m0 m) (fun t ls st m => jp t ls st m ∧ am_kp m0 m) pc ls c q m := by
  unfold am_exc at *
  cases hh : am_hnd hs pc c with
  | none => rw [hh] at h; exact ⟨h, k⟩
  | some w => rw [hh] at h; exact ⟨h, k⟩
theorem am_vmx_kp {hs : aH} {Q : aO → aM → Prop} {jp : Nat → List aV → List aV → aM → Prop} {pc : Nat} {ls : List aV} {c k : Int} {m : aM} (hk : 0 < k) (h : am_vmx hs Q jp pc ls c k m) : am_vmx hs (fun o m' => Q o m' ∧ am_kp m m') (fun t ls st m' => jp t ls st m' ∧ am_kp m m') pc ls c k m := ⟨h.1, am_exc_kp (am_kp_mX hk h.1) h.2⟩
theorem am_ret_kp {hs : aH} {Q : aO → aM → Prop} {nx : List aV → List aV → aM → Prop} {jp : Nat → List aV → List aV → aM → Prop} {pc : Nat} {ls r : List aV} {m0 : aM} : ∀ (o : aO) (m : aM), am_ret hs Q nx jp pc ls r o m ∧ am_kp m0 m → am_ret hs (fun o m => Q o m ∧ am_kp m0 m) (fun ls st m => nx ls st m ∧ am_kp m0 m) (fun t ls st m => jp t ls st m ∧ am_kp m0 m) pc ls r o m := by
  intro o m h
  match o, h with
  | .inl none, h => exact h
  | .inl (some v), h => exact h
  | .inr (c, q), h => exact am_exc_kp h.2 h.1
/-- calls keep -/
def am_ck0 (ca : aC) : Prop := ∀ y as m Q, ca y as m Q → ca y as m (fun o m' => Q o m' ∧ am_kp m m')
set_option maxHeartbeats 4000000 in
theorem am_rst_kp {G : Nat → aM → Prop} {ca : aC} (hc : am_cm ca) (hc0 : am_ck0 ca) {hs : aH} {Q : aO → aM → Prop} {nx : List aV → List aV → aM → Prop} {jp : Nat → List aV → List aV → aM → Prop} {e : aE} {ls st : List aV} {m : aM} (h : am_rst G ca hs Q nx jp e ls st m) : am_rst G ca hs (fun o m' => Q o m' ∧ am_kp m m') (fun ls st m' => nx ls st m' ∧ am_kp m m') (fun t ls st m' => jp t ls st m' ∧ am_kp m m') e ls st m := by
  obtain ⟨pc, i, len, x, y, z⟩ := e
  have k0 := am_kp.rfl m
  have hr : ∀ (l r : List aV) (y : Nat) (as : List aV) (m1 : aM), am_kp m m1 → ca y as m1 (am_ret hs Q nx jp pc l r) → ca y as m1 (am_ret hs (fun o m' => Q o m' ∧ am_kp m m') (fun ls st m' => nx ls st m' ∧ am_kp m m') (fun t ls st m' => jp t ls st m' ∧ am_kp m m') pc l r) := fun l r y as m1 k1 w => hc _ _ _ _ _ (fun o m' q => am_ret_kp o m' ⟨q.1, k1.trans q.2⟩) (hc0 _ _ _ _ w)
  have hx1 : ∀ (l : List aV) (c : Int), am_vmx hs Q jp pc l c 1 m → am_vmx hs (fun o m' => Q o m' ∧ am_kp m m') (fun t ls st m' => jp t ls st m' ∧ am_kp m m') pc l c 1 m := fun l c => am_vmx_kp (by decide)
  have hx3 : ∀ (l : List aV) (c : Int), am_vmx hs Q jp pc l c 3 m → am_vmx hs (fun o m' => Q o m' ∧ am_kp m m') (fun t ls st m' => jp t ls st m' ∧ am_kp m m') pc l c 3 m := fun l c => am_vmx_kp (by decide)
  unfold am_rst at h ⊢
  dsimp only at h ⊢
  split at h
  all_goals (try exact h.elim)
  all_goals (try exact ⟨h, k0⟩)
  all_goals (repeat' split at h)
  all_goals (try exact h.elim)
  all_goals first
    | exact ⟨h, k0⟩
    | exact ⟨h.1, h.2, k0⟩
    | exact ⟨h.1, h.2.1, h.2.2, k0⟩
    | exact ⟨h.1, h.2, am_kp_mC h.1.1⟩
    | exact ⟨h.1, h.2, am_kp_mS (by have := h.1.1; omega)⟩
    | exact ⟨h.1, fun q => ⟨h.2.1 q, k0⟩, fun q => ⟨h.2.2 q, k0⟩⟩
    | exact ⟨fun q => ⟨h.1 q, k0⟩, fun q => hx1 _ _ (h.2 q)⟩
    | exact ⟨fun q => ⟨h.1 q, k0⟩, fun q => hx3 _ _ (h.2 q)⟩
    | exact ⟨fun q => ⟨(h.1 q).1, (h.1 q).2, k0⟩, fun q => hx1 _ _ (h.2 q)⟩
    | exact ⟨h.1, fun q => ⟨h.2.1 q, k0⟩, fun q => hx3 _ _ (h.2.2 q)⟩
    | exact ⟨h.1, fun q => ⟨h.2.1 q, k0⟩, fun q => ⟨(h.2.2 q).1, hx3 _ _ (h.2.2 q).2⟩⟩
    | exact ⟨h.1, fun q => ⟨h.2.1 q, k0⟩, fun q => ⟨(h.2.2 q).1, (h.2.2 q).2, k0⟩⟩
    | exact ⟨h.1, am_swt_mono (fun t w => ⟨w, k0⟩) _ _ h.2.1, fun q => ⟨h.2.2 q, k0⟩⟩
    | exact ⟨am_swl_mono (fun t w => ⟨w, k0⟩) _ h.1, fun q => ⟨h.2 q, k0⟩⟩
    | exact am_gh_kp (fun m1 k1 w => hr _ _ _ _ _ k1 w) h
    | exact ⟨h.1, am_gh_kp (fun m1 k1 w => hr _ _ _ _ _ k1 w) h.2⟩
    | exact ⟨h.1, hr _ _ _ _ _ k0 h.2⟩
    | exact ⟨fun q => ⟨(h.1 q).1, hr _ _ _ _ _ k0 (h.1 q).2⟩, fun q => hx1 _ _ (h.2 q)⟩
theorem am_istep_kp {G : Nat → aM → Prop} {ca : aC} (hc : am_cm ca) (hc0 : am_ck0 ca) {hs : aH} {Q : aO → aM → Prop} {nx : List aV → List aV → aM → Prop} {jp : Nat → List aV → List aV → aM → Prop} {e : aE} (hp : am_pos e = true) {ls st : List aV} {m : aM} (h : am_istep G ca hs Q nx jp e ls st m) : am_istep G ca hs (fun o m' => Q o m' ∧ am_kp m m') (fun ls st m' => nx ls st m' ∧ am_kp m m') (fun t ls st m' => jp t ls st m' ∧ am_kp m m') e ls st m := by
  obtain ⟨pc, i, len, x, y, z⟩ := e
  unfold am_istep at h ⊢
  simp only [am_fL_eq] at h ⊢
  split at h
  · next st' m' hq => exact ⟨h, am_pst_kp hp hq (fun q e => by cases e)⟩
  · next P st' m' hq => exact ⟨h.1, h.2, am_pst_kp hp hq (fun q e => by cases e; exact h.1)⟩
  · split at h
    · exact ⟨h, am_kp.rfl _⟩
    · exact ⟨h.1, h.2, am_kp.rfl _⟩
    · split at h
      · exact ⟨fun q => ⟨h.1 q, am_kp.rfl _⟩, fun q => ⟨h.2 q, am_kp.rfl _⟩⟩
      · exact am_rst_kp hc hc0 h
/-- a whole method keeps -/
theorem am_WP_kp {G : Nat → aM → Prop} {ca : aC} (hc : am_cm ca) (hc0 : am_ck0 ca) {hs : aH} {code : List aE} (hp : ∀ e ∈ code, am_pos e = true) {Q : aO → aM → Prop} {pc : Nat} {ls st : List aV} {m : aM} (h : am_WP G ca hs code Q pc ls st m) : am_WP G ca hs code (fun o m' => Q o m' ∧ am_kp m m') pc ls st m := by
  have key := h (fun pc ls st m => ∀ m0, am_kp m0 m → am_WP G ca hs code (fun o m' => Q o m' ∧ am_kp m0 m') pc ls st m) ?_
  · exact key m (am_kp.rfl m)
  · intro pc ls st m hr m0 h0
    apply am_WP.fold hc
    unfold am_run at hr ⊢
    split at hr
    · exact hr.elim
    · next e tl hs1 =>
      have he : e ∈ code := by
        obtain ⟨pre, hpre⟩ := am_seek_is pc code
        rw [hs1] at hpre
        rw [hpre]
        exact List.mem_append_right _ List.mem_cons_self
      cases hbl : Nat.ble st.length 24 with
      | false => rw [hbl] at hr; exact hr.elim
      | true =>
      simp only [hbl, cond_true] at hr ⊢
      refine am_istep_mono hc (fun o m' q => ⟨q.1, h0.trans q.2⟩) (fun ls st m' q => q.1 m0 (h0.trans q.2)) (fun t ls st m' q => q.1 m0 (h0.trans q.2)) (am_istep_kp hc hc0 (hp e he) hr)
theorem am_wpc_kp {G : Nat → aM → Prop} {T : aT} (hp : ∀ y, ∀ e ∈ (T y).2.2, am_pos e = true) : ∀ d, am_ck0 (am_wpc G T d) := by
  intro d
  induction d with
  | zero => intro y as m Q h; exact h.elim
  | succ d ih =>
    intro y as m Q h
    unfold am_wpc at h ⊢
    cases hb : Nat.ble (am_wd as) (T y).1 with
    | false => rw [hb] at h; exact h.elim
    | true =>
      rw [hb] at h
      exact am_WP_kp (am_wpc_cm G T d) ih (hp y) h
