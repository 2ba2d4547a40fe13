/-! needs: 97 -/
/-! CONTRACTS: lines, numbers, attitudes of blazons; by tools/gen98.py -/
set_option maxRecDepth 100000
theorem ct_47 {d : Nat} {m : aM} {Q : aO → aM → Prop} {K A V : Int → Int} {N q f p : Int} (hd : 3 ≤ d) (hT : xT K A V N) (hx : hTx m K A V N q f p) (hQf : f ≠ 0 → Q (.inl (some (aI 0))) m) (hQ : f = 0 → ∀ m', fr_t m m' → hTx m' K A V N (p_ln K q).1 0 p → Q (.inl (some (aI (p_ln K q).2))) m') : am_wpc am_G am_T d 47 [aR 13] m Q := by
  have r1 : K q = 41 → p_ln K q = (q + 1, 1) := fun h => by unfold p_ln; rw [if_pos h]
  have r2 : K q = 42 → p_ln K q = (q + 1, 2) := fun h => by unfold p_ln; rw [if_neg (by omega), if_pos h]
  have r3 : K q ≠ 41 → K q ≠ 42 → p_ln K q = (q, 0) := fun h g => by unfold p_ln; rw [if_neg h, if_neg g]
  refine am_in rfl hd (fun d hd => ?_)
  refine am_go 400 [] (am_wpc_cm _ _ _) wf_47 ?_
  refine And.intro (rfl) ?_
  refine ct_157 (by omega) hT hx (by omega) (fun h1 h2 mw3 h4 h5 => ?_) (fun h1 => ?_)
  · have f0 := h1
    have kq := h2
    have fz := h4
    have hz := h5
    refine And.intro (fun h => absurd h (by decide)) (fun _ => ?_)
    have e := r1 kq
    rw [e] at hQ
    exact hQ f0 _ fz hz
  · refine And.intro (fun _ => ?_) (fun h => absurd h (by decide))
    refine And.intro (rfl) ?_
    refine ct_157 (by omega) hT hx (by omega) (fun h6 h7 mw8 h9 h10 => ?_) (fun h6 => ?_)
    · have f0 := h6
      have kq := h7
      have fz := h9
      have hz := h10
      refine And.intro (fun h => absurd h (by decide)) (fun _ => ?_)
      have e := r2 kq
      rw [e] at hQ
      exact hQ f0 _ fz hz
    · refine And.intro (fun _ => ?_) (fun h => absurd h (by decide))
      by_cases f0 : f = 0
      · have e := r3 (by omega) (by omega)
        rw [e] at hQ
        subst f0
        exact hQ rfl m (fr_t.rfl m) hx
      · exact hQf f0
theorem ct_48 {d : Nat} {m : aM} {Q : aO → aM → Prop} {K A V : Int → Int} {N q f p : Int} (hd : 5 ≤ d) (hT : xT K A V N) (hx : hTx m K A V N q f p) {l v : Int} (hl : 0 ≤ l ∧ l ≤ 12) (hv : v = 0 ∨ v = 1) (hQf : f ≠ 0 → ∀ x, Q (.inl (some (aI x))) m) (hQe : f = 0 → ∀ c w, p_num K A V l v q = .inl (c, w) → ∀ m' x q', fr_t m m' → hTx m' K A V N q' c w → c ≠ 0 → Q (.inl (some (aI x))) m') (hQ : f = 0 → ∀ q' x, p_num K A V l v q = .inr (q', x) → ∀ m', fr_t m m' → hTx m' K A V N q' 0 p → Q (.inl (some (aI x))) m') : am_wpc am_G am_T d 48 [aR 13, aI l, aI v] m Q := by
  obtain ⟨x1, x2, x3, x4, x5, x6⟩ := id hx
  obtain ⟨k1, k2, k3⟩ := x1 q x3.1 x3.2
  obtain ⟨t1, t2, t3⟩ := hT.2.2.2 q x3.1 x3.2
  have t0 := hT.1
  have e6 : m 16 (m 13 5) = A q := by rw [x2]; exact k2
  have e7 : m 17 (m 13 5) = V q := by rw [x2]; exact k3
  have tm : (m 17 (m 13 5)).tmod 2 = V q % 2 := by rw [e7]; exact Int.tmod_eq_emod_of_nonneg t3.1
  have n1 : K q ≠ 70 → p_num K A V l v q = .inl (x_wr (K q), A q) := fun h => by unfold p_num p_wr; rw [if_neg h]
  have n2 : K q = 70 → (V q < l ∨ 12 < V q ∨ (v = 1 ∧ V q % 2 = 1)) → p_num K A V l v q = .inl (3, A q) := fun h g => by unfold p_num; rw [if_pos h, if_pos g]
  have n3 : K q = 70 → ¬ (V q < l ∨ 12 < V q ∨ (v = 1 ∧ V q % 2 = 1)) → p_num K A V l v q = .inr (q + 1, V q) := fun h g => by unfold p_num; rw [if_pos h, if_neg g]
  have wb : 1 ≤ x_wr (K q) ∧ x_wr (K q) ≤ 2 := by unfold x_wr; omega
  refine am_in rfl hd (fun d hd => ?_)
  refine am_go 400 [] (am_wpc_cm _ _ _) wf_48 ?_
  refine And.intro (rfl) ?_
  refine And.intro (rfl) ?_
  refine And.intro (⟨rfl, by first | omega | (simp only [mS_iff, eq_self, Int.reduceEq, true_and, and_true, false_and, and_false, and_self, ↓reduceIte]; omega) | (simp only [mS_iff, eq_self, Int.reduceEq, true_and, and_true, false_and, and_false, and_self, ↓reduceIte] at *; omega)⟩) ?_
  refine And.intro (rfl) ?_
  refine And.intro (rfl) ?_
  refine And.intro (⟨rfl, by first | omega | (simp only [mS_iff, eq_self, Int.reduceEq, true_and, and_true, false_and, and_false, and_self, ↓reduceIte]; omega) | (simp only [mS_iff, eq_self, Int.reduceEq, true_and, and_true, false_and, and_false, and_self, ↓reduceIte] at *; omega)⟩) ?_
  refine And.intro (rfl) ?_
  refine ct_159 (by omega) hT hx (by omega) (fun h1 => ?_) (fun h1 h2 mw3 h4 h5 => ?_) (fun h1 h2 mw6 h4 h5 => ?_)
  · have ff := h1
    refine And.intro (rfl) ?_
    refine And.intro (fun _ => ?_) (fun h => absurd h (by omega))
    exact hQf ff _
  · have f0 := h1
    have kq := h2
    have fz := h4
    have hz := h5
    have z6 := h5.2.2.2.1
    refine And.intro (rfl) ?_
    refine And.intro (fun h => absurd h (by omega)) (fun _ => ?_)
    refine And.intro (fun h7 => ?_) (fun h7 => ?_)
    · refine And.intro (rfl) ?_
      refine ct_156 (by omega) hT hz (by omega) (fun mw8 h9 h10 => ?_)
      have fy := fz.trans h9
      have hy := h10
      first
        | exact hQe f0 3 (A q) (n2 kq (by omega)) _ _ _ fy (by rw [if_pos (by omega), if_pos (by omega), e6] at hy; exact hy) (by omega)
        | exact hQe f0 _ _ (n1 kn) _ _ _ fz hz (by omega)
        | (rw [e7]; exact hQ f0 _ _ (n3 kq (by omega)) _ fz hz)
    · refine And.intro (fun h11 => ?_) (fun h11 => ?_)
      · refine And.intro (rfl) ?_
        refine ct_156 (by omega) hT hz (by omega) (fun mw12 h13 h14 => ?_)
        have fy := fz.trans h13
        have hy := h14
        first
          | exact hQe f0 3 (A q) (n2 kq (by omega)) _ _ _ fy (by rw [if_pos (by omega), if_pos (by omega), e6] at hy; exact hy) (by omega)
          | exact hQe f0 _ _ (n1 kn) _ _ _ fz hz (by omega)
          | (rw [e7]; exact hQ f0 _ _ (n3 kq (by omega)) _ fz hz)
      · refine And.intro (fun h15 => ?_) (fun h15 => ?_)
        · first
            | exact hQe f0 3 (A q) (n2 kq (by omega)) _ _ _ fy (by rw [if_pos (by omega), if_pos (by omega), e6] at hy; exact hy) (by omega)
            | exact hQe f0 _ _ (n1 kn) _ _ _ fz hz (by omega)
            | (rw [e7]; exact hQ f0 _ _ (n3 kq (by omega)) _ fz hz)
        · refine And.intro (show 0 < 2 by first | omega | (simp only [mS_iff, eq_self, Int.reduceEq, true_and, and_true, false_and, and_false, and_self, ↓reduceIte]; omega) | (simp only [mS_iff, eq_self, Int.reduceEq, true_and, and_true, false_and, and_false, and_self, ↓reduceIte] at *; omega)) ?_
          refine And.intro (fun h16 => ?_) (fun h16 => ?_)
          · first
              | exact hQe f0 3 (A q) (n2 kq (by omega)) _ _ _ fy (by rw [if_pos (by omega), if_pos (by omega), e6] at hy; exact hy) (by omega)
              | exact hQe f0 _ _ (n1 kn) _ _ _ fz hz (by omega)
              | (rw [e7]; exact hQ f0 _ _ (n3 kq (by omega)) _ fz hz)
          · refine And.intro (rfl) ?_
            refine ct_156 (by omega) hT hz (by omega) (fun mw17 h18 h19 => ?_)
            have fy := fz.trans h18
            have hy := h19
            first
              | exact hQe f0 3 (A q) (n2 kq (by omega)) _ _ _ fy (by rw [if_pos (by omega), if_pos (by omega), e6] at hy; exact hy) (by omega)
              | exact hQe f0 _ _ (n1 kn) _ _ _ fz hz (by omega)
              | (rw [e7]; exact hQ f0 _ _ (n3 kq (by omega)) _ fz hz)
  · have f0 := h1
    have kn := h2
    have fz := h4
    have hz := h5
    have z6 := h5.2.2.2.1
    refine And.intro (rfl) ?_
    refine And.intro (fun _ => ?_) (fun h => absurd h (by omega))
    first
      | exact hQe f0 3 (A q) (n2 kq (by omega)) _ _ _ fy (by rw [if_pos (by omega), if_pos (by omega), e6] at hy; exact hy) (by omega)
      | exact hQe f0 _ _ (n1 kn) _ _ _ fz hz (by omega)
      | (rw [e7]; exact hQ f0 _ _ (n3 kq (by omega)) _ fz hz)
theorem ct_53 {d : Nat} {m : aM} {Q : aO → aM → Prop} {t a : Int} (hd : 2 ≤ d) (hQ1 : s_ms t a → Q (.inl (some (aI 1))) m) (hQ0 : ¬ s_ms t a → Q (.inl (some (aI 0))) m) : am_wpc am_G am_T d 53 [aI t, aI a] m Q := by
  refine am_in rfl hd (fun d hd => ?_)
  refine am_go 400 [] (am_wpc_cm _ _ _) wf_53 ?_
  refine ct_52 (by omega) (fun v1 h2 => ?_)
  refine And.intro (fun h3 => ?_) (fun h3 => ?_)
  · refine And.intro (by first | omega | (simp only [mS_iff, eq_self, Int.reduceEq, true_and, and_true, false_and, and_false, and_self, ↓reduceIte]; omega) | (simp only [mS_iff, eq_self, Int.reduceEq, true_and, and_true, false_and, and_false, and_self, ↓reduceIte] at *; omega)) ?_
    exact hQ1 (by unfold s_ms; omega)
  · refine And.intro (fun h4 => ?_) (fun h4 => ?_)
    · refine And.intro (fun h5 => ?_) (fun h5 => ?_)
      · refine And.intro (fun h6 => ?_) (fun h6 => ?_)
        · refine And.intro (fun h7 => ?_) (fun h7 => ?_)
          · refine And.intro (by first | omega | (simp only [mS_iff, eq_self, Int.reduceEq, true_and, and_true, false_and, and_false, and_self, ↓reduceIte]; omega) | (simp only [mS_iff, eq_self, Int.reduceEq, true_and, and_true, false_and, and_false, and_self, ↓reduceIte] at *; omega)) ?_
            exact hQ0 (by unfold s_ms; omega)
          · refine And.intro (by first | omega | (simp only [mS_iff, eq_self, Int.reduceEq, true_and, and_true, false_and, and_false, and_self, ↓reduceIte]; omega) | (simp only [mS_iff, eq_self, Int.reduceEq, true_and, and_true, false_and, and_false, and_self, ↓reduceIte] at *; omega)) ?_
            exact hQ1 (by unfold s_ms; omega)
        · refine And.intro (fun h8 => ?_) (fun h8 => ?_)
          · refine And.intro (fun h9 => ?_) (fun h9 => ?_)
            · refine And.intro (by first | omega | (simp only [mS_iff, eq_self, Int.reduceEq, true_and, and_true, false_and, and_false, and_self, ↓reduceIte]; omega) | (simp only [mS_iff, eq_self, Int.reduceEq, true_and, and_true, false_and, and_false, and_self, ↓reduceIte] at *; omega)) ?_
              exact hQ0 (by unfold s_ms; omega)
            · refine And.intro (by first | omega | (simp only [mS_iff, eq_self, Int.reduceEq, true_and, and_true, false_and, and_false, and_self, ↓reduceIte]; omega) | (simp only [mS_iff, eq_self, Int.reduceEq, true_and, and_true, false_and, and_false, and_self, ↓reduceIte] at *; omega)) ?_
              exact hQ1 (by unfold s_ms; omega)
          · refine And.intro (fun h10 => ?_) (fun h10 => ?_)
            · refine And.intro (by first | omega | (simp only [mS_iff, eq_self, Int.reduceEq, true_and, and_true, false_and, and_false, and_self, ↓reduceIte]; omega) | (simp only [mS_iff, eq_self, Int.reduceEq, true_and, and_true, false_and, and_false, and_self, ↓reduceIte] at *; omega)) ?_
              exact hQ0 (by unfold s_ms; omega)
            · refine And.intro (by first | omega | (simp only [mS_iff, eq_self, Int.reduceEq, true_and, and_true, false_and, and_false, and_self, ↓reduceIte]; omega) | (simp only [mS_iff, eq_self, Int.reduceEq, true_and, and_true, false_and, and_false, and_self, ↓reduceIte] at *; omega)) ?_
              exact hQ1 (by unfold s_ms; omega)
      · refine And.intro (fun h11 => ?_) (fun h11 => ?_)
        · refine And.intro (by first | omega | (simp only [mS_iff, eq_self, Int.reduceEq, true_and, and_true, false_and, and_false, and_self, ↓reduceIte]; omega) | (simp only [mS_iff, eq_self, Int.reduceEq, true_and, and_true, false_and, and_false, and_self, ↓reduceIte] at *; omega)) ?_
          exact hQ0 (by unfold s_ms; omega)
        · refine And.intro (by first | omega | (simp only [mS_iff, eq_self, Int.reduceEq, true_and, and_true, false_and, and_false, and_self, ↓reduceIte]; omega) | (simp only [mS_iff, eq_self, Int.reduceEq, true_and, and_true, false_and, and_false, and_self, ↓reduceIte] at *; omega)) ?_
          exact hQ1 (by unfold s_ms; omega)
    · refine And.intro (fun h12 => ?_) (fun h12 => ?_)
      · refine And.intro (by first | omega | (simp only [mS_iff, eq_self, Int.reduceEq, true_and, and_true, false_and, and_false, and_self, ↓reduceIte]; omega) | (simp only [mS_iff, eq_self, Int.reduceEq, true_and, and_true, false_and, and_false, and_self, ↓reduceIte] at *; omega)) ?_
        exact hQ0 (by unfold s_ms; omega)
      · refine And.intro (by first | omega | (simp only [mS_iff, eq_self, Int.reduceEq, true_and, and_true, false_and, and_false, and_self, ↓reduceIte]; omega) | (simp only [mS_iff, eq_self, Int.reduceEq, true_and, and_true, false_and, and_false, and_self, ↓reduceIte] at *; omega)) ?_
        exact hQ1 (by unfold s_ms; omega)
theorem ct_214 {d : Nat} {m : aM} {Q : aO → aM → Prop} {t a : Int} (hd : 1 ≤ d) (ht : 0 ≤ t ∧ t ≤ 11) (ha : 1 ≤ a ∧ a ≤ 4) (hQ1 : s_ms t a → Q (.inl (some (aI 1))) m) (hQ0 : ¬ s_ms t a → Q (.inl (some (aI 0))) m) : am_wpc am_G am_T d 214 [aI t, aI a] m Q := by
  refine am_in rfl hd (fun d hd => ?_)
  refine am_go 400 [] (am_wpc_cm _ _ _) wf_214 ?_
  refine And.intro (fun h1 => ?_) (fun h1 => ?_)
  · refine And.intro (fun h2 => ?_) (fun h2 => ?_)
    · refine And.intro (fun h3 => ?_) (fun h3 => ?_)
      · refine And.intro (fun h4 => ?_) (fun h4 => ?_)
        · refine And.intro (by first | omega | (simp only [mS_iff, eq_self, Int.reduceEq, true_and, and_true, false_and, and_false, and_self, ↓reduceIte]; omega) | (simp only [mS_iff, eq_self, Int.reduceEq, true_and, and_true, false_and, and_false, and_self, ↓reduceIte] at *; omega)) ?_
          exact hQ0 (by unfold s_ms s_fa; omega)
        · refine And.intro (fun h5 => ?_) (fun h5 => ?_)
          · refine And.intro (by first | omega | (simp only [mS_iff, eq_self, Int.reduceEq, true_and, and_true, false_and, and_false, and_self, ↓reduceIte]; omega) | (simp only [mS_iff, eq_self, Int.reduceEq, true_and, and_true, false_and, and_false, and_self, ↓reduceIte] at *; omega)) ?_
            exact hQ0 (by unfold s_ms s_fa; omega)
          · refine And.intro (by first | omega | (simp only [mS_iff, eq_self, Int.reduceEq, true_and, and_true, false_and, and_false, and_self, ↓reduceIte]; omega) | (simp only [mS_iff, eq_self, Int.reduceEq, true_and, and_true, false_and, and_false, and_self, ↓reduceIte] at *; omega)) ?_
            exact hQ1 (by unfold s_ms s_fa; omega)
      · refine And.intro (fun h6 => ?_) (fun h6 => ?_)
        · refine And.intro (by first | omega | (simp only [mS_iff, eq_self, Int.reduceEq, true_and, and_true, false_and, and_false, and_self, ↓reduceIte]; omega) | (simp only [mS_iff, eq_self, Int.reduceEq, true_and, and_true, false_and, and_false, and_self, ↓reduceIte] at *; omega)) ?_
          exact hQ0 (by unfold s_ms s_fa; omega)
        · refine And.intro (by first | omega | (simp only [mS_iff, eq_self, Int.reduceEq, true_and, and_true, false_and, and_false, and_self, ↓reduceIte]; omega) | (simp only [mS_iff, eq_self, Int.reduceEq, true_and, and_true, false_and, and_false, and_self, ↓reduceIte] at *; omega)) ?_
          exact hQ1 (by unfold s_ms s_fa; omega)
    · refine And.intro (fun h7 => ?_) (fun h7 => ?_)
      · refine And.intro (by first | omega | (simp only [mS_iff, eq_self, Int.reduceEq, true_and, and_true, false_and, and_false, and_self, ↓reduceIte]; omega) | (simp only [mS_iff, eq_self, Int.reduceEq, true_and, and_true, false_and, and_false, and_self, ↓reduceIte] at *; omega)) ?_
        exact hQ1 (by unfold s_ms s_fa; omega)
      · refine And.intro (fun h8 => ?_) (fun h8 => ?_)
        · refine And.intro (by first | omega | (simp only [mS_iff, eq_self, Int.reduceEq, true_and, and_true, false_and, and_false, and_self, ↓reduceIte]; omega) | (simp only [mS_iff, eq_self, Int.reduceEq, true_and, and_true, false_and, and_false, and_self, ↓reduceIte] at *; omega)) ?_
          exact hQ0 (by unfold s_ms s_fa; omega)
        · refine And.intro (by first | omega | (simp only [mS_iff, eq_self, Int.reduceEq, true_and, and_true, false_and, and_false, and_self, ↓reduceIte]; omega) | (simp only [mS_iff, eq_self, Int.reduceEq, true_and, and_true, false_and, and_false, and_self, ↓reduceIte] at *; omega)) ?_
          exact hQ1 (by unfold s_ms s_fa; omega)
  · refine And.intro (fun h9 => ?_) (fun h9 => ?_)
    · refine And.intro (by first | omega | (simp only [mS_iff, eq_self, Int.reduceEq, true_and, and_true, false_and, and_false, and_self, ↓reduceIte]; omega) | (simp only [mS_iff, eq_self, Int.reduceEq, true_and, and_true, false_and, and_false, and_self, ↓reduceIte] at *; omega)) ?_
      exact hQ0 (by unfold s_ms s_fa; omega)
    · refine And.intro (by first | omega | (simp only [mS_iff, eq_self, Int.reduceEq, true_and, and_true, false_and, and_false, and_self, ↓reduceIte]; omega) | (simp only [mS_iff, eq_self, Int.reduceEq, true_and, and_true, false_and, and_false, and_self, ↓reduceIte] at *; omega)) ?_
      exact hQ1 (by unfold s_ms s_fa; omega)
