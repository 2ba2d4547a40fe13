/-! THE LOCALS KEEP THEIR NUMBER -/
theorem am_slen (L : List aV) : ∀ (i : Nat) (v : aV), (am_set L i v).length = L.length := by
  induction L with
  | nil => intro i v; rfl
  | cons w l ih =>
    intro i v
    match i with
    | 0 => rfl
    | n + 1 => simp [am_set, ih]
theorem am_exc_len {hs : aH} {Q : aO → aM → Prop} {jp : Nat → List aV → List aV → aM → Prop} {pc : Nat} {ls : List aV} {c q : Int} {m : aM} (h : am_exc hs Q jp pc ls c q m) : am_exc hs Q (fun t l st m => jp t l st m ∧ l.length = ls.length) pc ls c q m := by
  unfold am_exc at *
  cases hh : am_hnd hs pc c with
  | none => rw [hh] at h; exact h
  | some w => rw [hh] at h; exact ⟨h, rfl⟩
theorem am_vmx_len {hs : aH} {Q : aO → aM → Prop} {jp : Nat → List aV → List aV → aM → Prop} {pc : Nat} {ls : List aV} {c k : Int} {m : aM} (h : am_vmx hs Q jp pc ls c k m) : am_vmx hs Q (fun t l st m => jp t l st m ∧ l.length = ls.length) pc ls c k m := ⟨h.1, am_exc_len h.2⟩
theorem am_ret_len {hs : aH} {Q : aO → aM → Prop} {nx : List aV → List aV → aM → Prop} {jp : Nat → List aV → List aV → aM → Prop} {pc : Nat} {ls r : List aV} : ∀ (o : aO) (m : aM), am_ret hs Q nx jp pc ls r o m → am_ret hs Q (fun l st m => nx l st m ∧ l.length = ls.length) (fun t l st m => jp t l st m ∧ l.length = ls.length) pc ls r o m := by
  intro o m h
  match o, h with
  | .inl none, h => exact ⟨h, rfl⟩
  | .inl (some v), h => exact ⟨h, rfl⟩
  | .inr (c, q), h => exact am_exc_len h
set_option maxHeartbeats 4000000 in
theorem am_rst_len {G : Nat → aM → Prop} {ca : aC} (hc : am_cm ca) {hs : aH} {Q : aO → aM → Prop} {nx : List aV → List aV → aM → Prop} {jp : Nat → List aV → List aV → aM → Prop} {e : aE} {ls st : List aV} {m : aM} (h : am_rst G ca hs Q nx jp e ls st m) : am_rst G ca hs Q (fun l st m => nx l st m ∧ l.length = ls.length) (fun t l st m => jp t l st m ∧ l.length = ls.length) e ls st m := by
  obtain ⟨pc, i, len, x, y, z⟩ := e
  have hr : ∀ (r : List aV) (o : aO) (m : aM), am_ret hs Q nx jp pc ls r o m → am_ret hs Q (fun l st m => nx l st m ∧ l.length = ls.length) (fun t l st m => jp t l st m ∧ l.length = ls.length) pc ls r o m := fun r => am_ret_len
  have hx : ∀ (c k : Int) (m : aM), am_vmx hs Q jp pc ls c k m → am_vmx hs Q (fun t l st m => jp t l st m ∧ l.length = ls.length) pc ls c k m := fun c k m => am_vmx_len
  unfold am_rst at h ⊢
  dsimp only at h ⊢
  split at h
  all_goals (try exact h.elim)
  all_goals (try exact ⟨h, rfl⟩)
  all_goals (repeat' split at h)
  all_goals (try exact h.elim)
  all_goals first
    | exact h
    | exact ⟨h, rfl⟩
    | exact ⟨h.1, h.2, rfl⟩
    | exact ⟨h.1, fun q => ⟨h.2.1 q, rfl⟩, fun q => ⟨h.2.2 q, rfl⟩⟩
    | exact ⟨fun q => ⟨h.1 q, rfl⟩, fun q => hx _ _ _ (h.2 q)⟩
    | exact ⟨fun q => ⟨(h.1 q).1, (h.1 q).2, rfl⟩, fun q => hx _ _ _ (h.2 q)⟩
    | exact ⟨h.1, fun q => ⟨h.2.1 q, rfl⟩, fun q => hx _ _ _ (h.2.2 q)⟩
    | exact ⟨h.1, fun q => ⟨h.2.1 q, rfl⟩, fun q => ⟨(h.2.2 q).1, hx _ _ _ (h.2.2 q).2⟩⟩
    | exact ⟨h.1, fun q => ⟨h.2.1 q, rfl⟩, fun q => ⟨(h.2.2 q).1, (h.2.2 q).2, rfl⟩⟩
    | exact ⟨h.1, am_swt_mono (fun t w => ⟨w, rfl⟩) _ _ h.2.1, fun q => ⟨h.2.2 q, rfl⟩⟩
    | exact ⟨am_swl_mono (fun t w => ⟨w, rfl⟩) _ h.1, fun q => ⟨h.2 q, rfl⟩⟩
    | exact am_gh_mono (fun m => hc _ _ _ _ _ (hr _)) h
    | exact ⟨h.1, am_gh_mono (fun m => hc _ _ _ _ _ (hr _)) h.2⟩
    | exact ⟨h.1, hc _ _ _ _ _ (hr _) h.2⟩
    | exact ⟨fun q => ⟨(h.1 q).1, hc _ _ _ _ _ (hr _) (h.1 q).2⟩, fun q => hx _ _ _ (h.2 q)⟩
set_option maxHeartbeats 4000000 in
theorem am_sto_len {i : Instr} {y : Int} {ls st : List aV} {P : Option Prop} {ls' st' : List aV} (h : am_sto i y ls st = some (P, ls', st')) : ls'.length = ls.length := by
  unfold am_sto at h
  dsimp only at h
  split at h
  all_goals (repeat' split at h)
  all_goals (try cases h)
  all_goals (
    simp only [cond_eq_ite] at h
    split at h
    · cases h
      simp only [am_slen]
    · cases h)
theorem am_istep_len {G : Nat → aM → Prop} {ca : aC} (hc : am_cm ca) {hs : aH} {Q : aO → aM → Prop} {nx : List aV → List aV → aM → Prop} {jp : Nat → List aV → List aV → aM → Prop} {e : aE} {ls st : List aV} {m : aM} (h : am_istep G ca hs Q nx jp e ls st m) : am_istep G ca hs Q (fun l st m => nx l st m ∧ l.length = ls.length) (fun t l st m => jp t l st m ∧ l.length = ls.length) e ls st m := by
  obtain ⟨pc, i, len, x, y, z⟩ := e
  unfold am_istep at h ⊢
  simp only [am_fL_eq] at h ⊢
  split at h
  · exact ⟨h, trivial⟩
  · exact ⟨h.1, h.2, trivial⟩
  · split at h
    · next hq => exact ⟨h, am_sto_len hq⟩
    · next hq => exact ⟨h.1, h.2, am_sto_len hq⟩
    · split at h
      · exact ⟨fun q => ⟨h.1 q, trivial⟩, fun q => ⟨h.2 q, trivial⟩⟩
      · exact am_rst_len hc h
