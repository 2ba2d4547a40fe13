/-! needs: a00 -/
/-! CONTRACTS: fields of blazons, of the house; by tools/gena1.py -/
set_option maxRecDepth 100000
/-- reading a text: c cells, s slots more at the most; what stood ahead stands, but for the text's own places -/
def fr_P (c s : Int) (m m' : aM) : Prop := (m 0 0 ≤ m' 0 0 ∧ m' 0 0 ≤ m 0 0 + c) ∧ (m 0 1 ≤ m' 0 1 ∧ m' 0 1 ≤ m 0 1 + s) ∧ (∀ x j, x ≠ 0 → x ≤ m 0 0 → (x ≠ 13 ∨ (j ≠ 5 ∧ j ≠ 6 ∧ j ≠ 7)) → m' x j = m x j) ∧ (∀ j, j ≠ 0 → j ≠ 1 → m' 0 j = m 0 j)
theorem fr_P.rfl (m : aM) : fr_P 0 0 m m := ⟨by omega, by omega, fun _ _ _ _ _ => Eq.refl _, fun _ _ _ => Eq.refl _⟩
theorem fr_P.trans {c s c' s' : Int} {a b e : aM} (h : fr_P c s a b) (g : fr_P c' s' b e) : fr_P (c + c') (s + s') a e := by
  obtain ⟨h1, h2, h3, h4⟩ := h
  obtain ⟨g1, g2, g3, g4⟩ := g
  exact ⟨by omega, by omega, fun x j a b c => (g3 x j a (by omega) c).trans (h3 x j a b c), fun j a b => (g4 j a b).trans (h4 j a b)⟩
theorem fr_P.mono {c s c' s' : Int} {a b : aM} (h : fr_P c s a b) (hc : c ≤ c') (hs : s ≤ s') : fr_P c' s' a b := ⟨by have := h.1; omega, by have := h.2.1; omega, h.2.2⟩
theorem fr_t.P {m m' : aM} (h : fr_t m m') : fr_P 0 0 m m' := ⟨by rw [h 0 0 (by omega)]; omega, by rw [h 0 1 (by omega)]; omega, fun x j _ _ c => h x j c, fun j _ _ => h 0 j (by omega)⟩
theorem hTx.keep {m m' : aM} {K A V : Int → Int} {N q f p : Int} (h : hTx m K A V N q f p) (e : ∀ x j, 13 ≤ x → x ≤ 17 → m' x j = m x j) : hTx m' K A V N q f p := by
  obtain ⟨h1, h2, h3, h4, h5, h6⟩ := h
  exact ⟨fun i a b => by rw [e 15 i (by omega) (by omega), e 16 i (by omega) (by omega), e 17 i (by omega) (by omega)]; exact h1 i a b, by rw [e 13 5 (by omega) (by omega)]; exact h2, h3, by rw [e 13 6 (by omega) (by omega)]; exact h4, h5, fun z => by rw [e 13 7 (by omega) (by omega)]; exact h6 z⟩
theorem p_want_y {K A : Int → Int} {l n q : Int} (h : l ≤ K q ∧ K q < l + n) : p_want K A l n q = .inr (q + 1, K q - l) := by unfold p_want; rw [if_pos h]
theorem p_want_n {K A : Int → Int} {l n q : Int} (h : ¬ (l ≤ K q ∧ K q < l + n)) : p_want K A l n q = .inl (x_wr (K q), A q) := by unfold p_want p_wr; rw [if_neg h]
/-- a Field that was made -/
def hNF (m m' : aM) (r : Int) (w : Int → Int) : Prop := hFld m' (m 0 0 + 1) (m' 0 0) r w
