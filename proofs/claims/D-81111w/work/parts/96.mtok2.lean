/-! needs: 95 -/
/-! CONTRACTS: words in rows, of the reference; by tools/gen96.py -/
set_option maxRecDepth 100000
theorem ct_200 {d : Nat} {m : aM} {Q : aO → aM → Prop} {v a c : Int} (hd : 1 ≤ d) (ht : m a (-1) = 41 ∧ c ≤ m a (-2)) (hc : 0 ≤ c ∧ c ≤ 100) (hQ1 : ∀ k, 0 ≤ k → k < c → m a k = v → v ≠ 0 → Q (.inl (some (aI k))) m) (hQ0 : (∀ k, 0 ≤ k → k < c → ¬ (m a k = v ∧ v ≠ 0)) → Q (.inl (some (aI (-1)))) m) : am_wpc am_G am_T d 200 [aL v, aR a, aI c] m Q := by
  refine am_in rfl hd (fun d hd => ?_)
  have K3 : ∀ (N : Nat), ∀ (k : Int), (c - k).toNat = N → (0 ≤ k ∧ k ≤ c) → (∀ i, 0 ≤ i → i < k → ¬ (m a i = v ∧ v ≠ 0)) → am_WP am_G (am_wpc am_G am_T d) [] cd_200 Q 3 [aL v, aU, aR a, aI c, aI k] [] m := by
    intro N
    induction N using Nat.strongRecOn with
    | _ N ih3 =>
      intro k hN i0 i1
      refine am_go 400 [3] (am_wpc_cm _ _ _) wf_200 ?_
      refine And.intro (fun h1 => ?_) (fun h1 => ?_)
      · exact hQ0 (fun i x y => i1 i x (by omega))
      · refine And.intro (⟨by first | assumption | omega | (simp only [mS_iff, eq_self, Int.reduceEq, true_and, and_true, false_and, and_false, and_self, ↓reduceIte]; omega), by first | omega | (simp only [mS_iff, eq_self, Int.reduceEq, true_and, and_true, false_and, and_false, and_self, ↓reduceIte]; omega) | (simp only [mS_iff, eq_self, Int.reduceEq, true_and, and_true, false_and, and_false, and_self, ↓reduceIte] at *; omega)⟩) ?_
        refine And.intro (fun h2 => ?_) (fun h2 => ?_)
        · replace h2 := am_lc_ne.mp h2
          refine And.intro (show -2147483648 ≤ k + 1 ∧ k + 1 ≤ 2147483647 by first | omega | (simp only [mS_iff, eq_self, Int.reduceEq, true_and, and_true, false_and, and_false, and_self, ↓reduceIte]; omega) | (simp only [mS_iff, eq_self, Int.reduceEq, true_and, and_true, false_and, and_false, and_self, ↓reduceIte] at *; omega)) ?_
          refine ih3 _ ?_ _ (Eq.refl _) ?_ ?_
          · omega
          · first | omega | (simp only [mS_iff, eq_self, Int.reduceEq, true_and, and_true, false_and, and_false, and_self, ↓reduceIte]; omega) | (simp only [mS_iff, eq_self, Int.reduceEq, true_and, and_true, false_and, and_false, and_self, ↓reduceIte] at *; omega)
          · intro i x y
            by_cases e : i = k
            · subst e; omega
            · exact i1 i x (by omega)
        · replace h2 := am_lc_eq.mp h2
          refine And.intro (fun h3 => ?_) (fun h3 => ?_)
          · replace h3 := am_lc_eq.mp h3
            refine And.intro (show -2147483648 ≤ k + 1 ∧ k + 1 ≤ 2147483647 by first | omega | (simp only [mS_iff, eq_self, Int.reduceEq, true_and, and_true, false_and, and_false, and_self, ↓reduceIte]; omega) | (simp only [mS_iff, eq_self, Int.reduceEq, true_and, and_true, false_and, and_false, and_self, ↓reduceIte] at *; omega)) ?_
            refine ih3 _ ?_ _ (Eq.refl _) ?_ ?_
            · omega
            · first | omega | (simp only [mS_iff, eq_self, Int.reduceEq, true_and, and_true, false_and, and_false, and_self, ↓reduceIte]; omega) | (simp only [mS_iff, eq_self, Int.reduceEq, true_and, and_true, false_and, and_false, and_self, ↓reduceIte] at *; omega)
            · intro i x y
              by_cases e : i = k
              · subst e; omega
              · exact i1 i x (by omega)
          · replace h3 := am_lc_ne.mp h3
            exact hQ1 k (by omega) (by omega) (by omega) (by omega)
  refine am_go 400 [3] (am_wpc_cm _ _ _) wf_200 ?_
  refine K3 _ _ (Eq.refl _) ?_ ?_
  · first | omega | (simp only [mS_iff, eq_self, Int.reduceEq, true_and, and_true, false_and, and_false, and_self, ↓reduceIte]; omega) | (simp only [mS_iff, eq_self, Int.reduceEq, true_and, and_true, false_and, and_false, and_self, ↓reduceIte] at *; omega)
  · intro i x y
    omega
/-- the row a of the reference has the words W from l on, c in all *
-/
def mAr (m : aM) (a l c : Int) (W : Int → Int) : Prop := (m a (-1) = 41 ∧ c ≤ m a (-2)) ∧ (0 ≤ l ∧ l ≤ c ∧ c ≤ 100) ∧ (∀ k, l ≤ k → k < c → m a k = s_cd (W k) ∧ 0 ≤ W k ∧ W k < 67) ∧ (∀ k, 0 ≤ k → k < l → m a k = 0) ∧ (∀ i j, l ≤ i → i < c → l ≤ j → j < c → W i = W j → i = j)
theorem mAr.keep {m m' : aM} {a l c : Int} {W : Int → Int} (h : mAr m a l c W) (e : m' a = m a) : mAr m' a l c W := by unfold mAr at *; rw [e]; exact h
theorem s_cd_ne {w : Int} (h : 0 ≤ w ∧ w < 67) : s_cd w ≠ 0 := by have := (s_dgi h).1; omega
theorem ct_213 {d : Nat} {m : aM} {Q : aO → aM → Prop} {n : Int} {K A V E : Int → Int} {N q f p : Int} (hd : 2 ≤ d) (hx : mTx m n K A V E N q f p) {a l c : Int} {W : Int → Int} (hA : mAr m a l c W) (hQ1 : f = 0 → ∀ k, l ≤ k → k < c → K q = W k → Q (.inl (some (aI 1))) m) (hQ0 : ¬ (f = 0 ∧ ∃ k, l ≤ k ∧ k < c ∧ K q = W k) → Q (.inl (some (aI 0))) m) : am_wpc am_G am_T d 213 [aR 41, aR a, aI c] m Q := by
  obtain ⟨x1, x2, x3, x4, x5, x55, x6, x7⟩ := id hx
  obtain ⟨a1, a2, a3, a4, a5⟩ := id hA
  have x6a := fun z => (x6 z).1
  have x7a := fun z => (x7 z).1
  refine am_in rfl hd (fun d hd => ?_)
  refine am_go 400 [] (am_wpc_cm _ _ _) wf_213 ?_
  refine And.intro (rfl) ?_
  refine And.intro (fun h1 => ?_) (fun h1 => ?_)
  · refine And.intro (by first | omega | (simp only [mS_iff, eq_self, Int.reduceEq, true_and, and_true, false_and, and_false, and_self, ↓reduceIte]; omega) | (simp only [mS_iff, eq_self, Int.reduceEq, true_and, and_true, false_and, and_false, and_self, ↓reduceIte] at *; omega)) ?_
    refine hQ0 (fun z => ?_)
    obtain ⟨z1, k, z2, z3, z4⟩ := z
    have z5 := a3 k z2 z3
    have z6 := ((x6 z1).2.2.1.2.2.2.2.1 _ z5.2.1 z5.2.2).mp z4
    have z7 := x6a z1
    have z8 := s_cd_ne z5.2
    first | omega | exact kn k (by omega) z3 ⟨by omega, by omega⟩
  · refine And.intro (rfl) ?_
    refine And.intro (fun h2 => ?_) (fun h2 => ?_)
    · refine And.intro (by first | omega | (simp only [mS_iff, eq_self, Int.reduceEq, true_and, and_true, false_and, and_false, and_self, ↓reduceIte]; omega) | (simp only [mS_iff, eq_self, Int.reduceEq, true_and, and_true, false_and, and_false, and_self, ↓reduceIte] at *; omega)) ?_
      refine hQ0 (fun z => ?_)
      obtain ⟨z1, k, z2, z3, z4⟩ := z
      have z5 := a3 k z2 z3
      have z6 := ((x6 z1).2.2.1.2.2.2.2.1 _ z5.2.1 z5.2.2).mp z4
      have z7 := x6a z1
      have z8 := s_cd_ne z5.2
      first | omega | exact kn k (by omega) z3 ⟨by omega, by omega⟩
    · refine And.intro (rfl) ?_
      refine ct_200 (by omega) a1 (by omega) (fun k3 h4 h5 h6 h7 => ?_) (fun h4 => ?_)
      · have kl : l ≤ k3 := by
          by_cases e : l ≤ k3
          · exact e
          · have := a4 k3 (by omega) (by omega); omega
        have kw := a3 k3 kl (by omega)
        have kv := h6
        skip
        refine And.intro (fun h8 => ?_) (fun h8 => ?_)
        · refine And.intro (by first | omega | (simp only [mS_iff, eq_self, Int.reduceEq, true_and, and_true, false_and, and_false, and_self, ↓reduceIte]; omega) | (simp only [mS_iff, eq_self, Int.reduceEq, true_and, and_true, false_and, and_false, and_self, ↓reduceIte] at *; omega)) ?_
          refine hQ0 (fun z => ?_)
          obtain ⟨z1, k, z2, z3, z4⟩ := z
          have z5 := a3 k z2 z3
          have z6 := ((x6 z1).2.2.1.2.2.2.2.1 _ z5.2.1 z5.2.2).mp z4
          have z7 := x6a z1
          have z8 := s_cd_ne z5.2
          first | omega | exact kn k (by omega) z3 ⟨by omega, by omega⟩
        · refine And.intro (by first | omega | (simp only [mS_iff, eq_self, Int.reduceEq, true_and, and_true, false_and, and_false, and_self, ↓reduceIte]; omega) | (simp only [mS_iff, eq_self, Int.reduceEq, true_and, and_true, false_and, and_false, and_self, ↓reduceIte] at *; omega)) ?_
          have f0 : f = 0 := by
            by_cases z : f = 0
            · exact z
            · have := x7a z; omega
          exact hQ1 f0 _ kl (by omega) (((x6 f0).2.2.1.2.2.2.2.1 _ kw.2.1 kw.2.2).mpr ⟨by omega, by omega⟩)
      · have kn := h4
        refine And.intro (fun _ => ?_) (fun h => absurd h (by decide))
        refine And.intro (by first | omega | (simp only [mS_iff, eq_self, Int.reduceEq, true_and, and_true, false_and, and_false, and_self, ↓reduceIte]; omega) | (simp only [mS_iff, eq_self, Int.reduceEq, true_and, and_true, false_and, and_false, and_self, ↓reduceIte] at *; omega)) ?_
        refine hQ0 (fun z => ?_)
        obtain ⟨z1, k, z2, z3, z4⟩ := z
        have z5 := a3 k z2 z3
        have z6 := ((x6 z1).2.2.1.2.2.2.2.1 _ z5.2.1 z5.2.2).mp z4
        have z7 := x6a z1
        have z8 := s_cd_ne z5.2
        first | omega | exact kn k (by omega) z3 ⟨by omega, by omega⟩
theorem ct_205 {d : Nat} {m : aM} {Q : aO → aM → Prop} {n : Int} {K A V E : Int → Int} {N q f p : Int} (hd : 4 ≤ d) (hx : mTx m n K A V E N q f p) {w v : Int} (hw : 0 ≤ w ∧ w < 67) (hv : v = s_cd w) (hQf : f ≠ 0 → ∀ m', fr_M m m' → mTx m' n K A V E N q f p → Q (.inl none) m') (hQ1 : f = 0 → K q = w → ∀ m', fr_M m m' → mTx m' n K A V E N (q + 1) 0 p → Q (.inl none) m') (hQ0 : f = 0 → K q ≠ w → ∀ m', fr_M m m' → mTx m' n K A V E N q (x_wr (K q)) (A q) → Q (.inl none) m') : am_wpc am_G am_T d 205 [aR 41, aL v] m Q := by
  obtain ⟨x1, x2, x3, x4, x5, x55, x6, x7⟩ := id hx
  refine am_in rfl hd (fun d hd => ?_)
  refine am_go 400 [] (am_wpc_cm _ _ _) wf_205 ?_
  refine And.intro (rfl) ?_
  refine ct_198 (by omega) hx hw hv (fun h1 h2 => ?_) (fun h1 => ?_)
  · have y0 := h1
    have y1 := h2
    refine And.intro (fun _ => ?_) (fun h => absurd h (by decide))
    refine And.intro (rfl) ?_
    refine ct_199 (by omega) hx (fun _ => by omega) (fun h4 => ?_) (fun h4 mw3 h5 h6 => ?_)
    · have ff := h4
      first
        | exact hQ1 y0 y1 _ fy hy
        | exact absurd y0 ff
        | (by_cases f0 : f = 0
           · exact hQ0 f0 (by omega) _ fz (by rw [if_pos f0, if_pos f0] at hz; exact hz)
           · rw [if_neg f0, if_neg f0] at hz; exact hQf f0 _ fz hz)
    · have f0 := h4
      have fy := h5
      have hy := h6
      first
        | exact hQ1 y0 y1 _ fy hy
        | exact absurd y0 ff
        | (by_cases f0 : f = 0
           · exact hQ0 f0 (by omega) _ fz (by rw [if_pos f0, if_pos f0] at hz; exact hz)
           · rw [if_neg f0, if_neg f0] at hz; exact hQf f0 _ fz hz)
  · have nn := h1
    refine And.intro (fun h => absurd h (by decide)) (fun _ => ?_)
    refine And.intro (rfl) ?_
    refine ct_201 (by omega) hx (by omega) (fun mw7 h8 h9 => ?_)
    have fz := h8
    have hz := h9
    refine And.intro (rfl) ?_
    refine ct_199 (by omega) hz (fun e => by split at e <;> (try split at e) <;> omega) (fun h11 => ?_) (fun h11 mw10 h12 h13 => ?_)
    · have ff := h11
      first
        | exact hQ1 y0 y1 _ fy hy
        | exact absurd y0 ff
        | (by_cases f0 : f = 0
           · exact hQ0 f0 (by omega) _ fz (by rw [if_pos f0, if_pos f0] at hz; exact hz)
           · rw [if_neg f0, if_neg f0] at hz; exact hQf f0 _ fz hz)
    · have f0 := h11
      exfalso
      split at f0 <;> (try split at f0) <;> omega
theorem ct_294 {d : Nat} {m : aM} {Q : aO → aM → Prop} {n : Int} {K A V E : Int → Int} {N q f p : Int} (hd : 4 ≤ d) (hx : mTx m n K A V E N q f p) {c : Int} (hc : x_sg c) (hQf : f ≠ 0 → ∀ m', fr_M m m' → mTx m' n K A V E N q f p → Q (.inl none) m') (hQ1 : f = 0 → K q = 100 + c → ∀ m', fr_M m m' → mTx m' n K A V E N (q + 1) 0 p → Q (.inl none) m') (hQ0 : f = 0 → K q ≠ 100 + c → ∀ m', fr_M m m' → mTx m' n K A V E N q (x_wr (K q)) (A q) → Q (.inl none) m') : am_wpc am_G am_T d 294 [aR 41, aI c] m Q := by
  obtain ⟨x1, x2, x3, x4, x5, x55, x6, x7⟩ := id hx
  have hc2 := hc
  unfold x_sg at hc2
  refine am_in rfl hd (fun d hd => ?_)
  refine am_go 400 [] (am_wpc_cm _ _ _) wf_294 ?_
  refine And.intro (rfl) ?_
  refine ct_206 (by omega) hx hc (fun h1 h2 => ?_) (fun h1 => ?_)
  · have y0 := h1
    have y1 := h2
    refine And.intro (fun _ => ?_) (fun h => absurd h (by decide))
    refine And.intro (rfl) ?_
    refine ct_199 (by omega) hx (fun _ => by omega) (fun h4 => ?_) (fun h4 mw3 h5 h6 => ?_)
    · have ff := h4
      first
        | exact hQ1 y0 y1 _ fy hy
        | exact absurd y0 ff
        | (by_cases f0 : f = 0
           · exact hQ0 f0 (by omega) _ fz (by rw [if_pos f0, if_pos f0] at hz; exact hz)
           · rw [if_neg f0, if_neg f0] at hz; exact hQf f0 _ fz hz)
    · have f0 := h4
      have fy := h5
      have hy := h6
      first
        | exact hQ1 y0 y1 _ fy hy
        | exact absurd y0 ff
        | (by_cases f0 : f = 0
           · exact hQ0 f0 (by omega) _ fz (by rw [if_pos f0, if_pos f0] at hz; exact hz)
           · rw [if_neg f0, if_neg f0] at hz; exact hQf f0 _ fz hz)
  · have nn := h1
    refine And.intro (fun h => absurd h (by decide)) (fun _ => ?_)
    refine And.intro (rfl) ?_
    refine ct_201 (by omega) hx (by omega) (fun mw7 h8 h9 => ?_)
    have fz := h8
    have hz := h9
    refine And.intro (rfl) ?_
    refine ct_199 (by omega) hz (fun e => by split at e <;> (try split at e) <;> omega) (fun h11 => ?_) (fun h11 mw10 h12 h13 => ?_)
    · have ff := h11
      first
        | exact hQ1 y0 y1 _ fy hy
        | exact absurd y0 ff
        | (by_cases f0 : f = 0
           · exact hQ0 f0 (by omega) _ fz (by rw [if_pos f0, if_pos f0] at hz; exact hz)
           · rw [if_neg f0, if_neg f0] at hz; exact hQf f0 _ fz hz)
    · have f0 := h11
      exfalso
      split at f0 <;> (try split at f0) <;> omega
theorem ct_204 {d : Nat} {m : aM} {Q : aO → aM → Prop} {n : Int} {K A V E : Int → Int} {N q f p : Int} (hd : 4 ≤ d) (hx : mTx m n K A V E N q f p) {a l c : Int} {W : Int → Int} (hA : mAr m a l c W) (hQf : f ≠ 0 → ∀ k m', fr_M m m' → mTx m' n K A V E N q f p → Q (.inl (some (aI k))) m') (hQ1 : f = 0 → ∀ k, l ≤ k → k < c → K q = W k → ∀ m', fr_M m m' → mTx m' n K A V E N (q + 1) 0 p → Q (.inl (some (aI k))) m') (hQ0 : f = 0 → (∀ k, l ≤ k → k < c → K q ≠ W k) → ∀ m', fr_M m m' → mTx m' n K A V E N q (x_wr (K q)) (A q) → Q (.inl (some (aI (-1)))) m') : am_wpc am_G am_T d 204 [aR 41, aR a, aI c] m Q := by
  obtain ⟨x1, x2, x3, x4, x5, x55, x6, x7⟩ := id hx
  obtain ⟨a1, a2, a3, a4, a5⟩ := id hA
  refine am_in rfl hd (fun d hd => ?_)
  refine am_go 400 [] (am_wpc_cm _ _ _) wf_204 ?_
  refine And.intro (rfl) ?_
  refine And.intro (fun h1 => ?_) (fun h1 => ?_)
  · refine And.intro (fun h => absurd h (by decide)) (fun _ => ?_)
    refine And.intro (rfl) ?_
    refine ct_201 (by omega) hx (by omega) (fun mw2 h3 h4 => ?_)
    have fz := h3
    have hz := h4
    refine And.intro (rfl) ?_
    refine ct_199 (by omega) hz (fun e => by split at e <;> (try split at e) <;> omega) (fun h10 => ?_) (fun h10 mw9 h11 h12 => ?_)
    · have ff := h10
      first
        | (exfalso; omega)
        | exact hQ1 f0 _ kl (by omega) (((x6 f0).2.2.1.2.2.2.2.1 _ kw.2.1 kw.2.2).mpr ⟨by omega, by omega⟩) _ fy hy
        | (by_cases f0 : f = 0
           · rw [if_pos f0, if_pos f0] at hz
             have nk : ∀ k, l ≤ k → k < c → K q ≠ W k := by
               intro k z2 z3 z4
               have z5 := a3 k z2 z3
               have z6 := ((x6 f0).2.2.1.2.2.2.2.1 _ z5.2.1 z5.2.2).mp z4
               have z8 := s_cd_ne z5.2
               first | omega | exact kn k (by omega) z3 ⟨by omega, by omega⟩
             exact hQ0 f0 nk _ fz hz
           · rw [if_neg f0, if_neg f0] at hz; exact hQf f0 _ _ fz hz)
    · have f0 := h10
      exfalso
      split at f0 <;> (try split at f0) <;> omega
  · refine And.intro (rfl) ?_
    refine ct_200 (by omega) a1 (by omega) (fun k13 h14 h15 h16 h17 => ?_) (fun h14 => ?_)
    · have kl : l ≤ k13 := by
        by_cases e : l ≤ k13
        · exact e
        · have := a4 k13 (by omega) (by omega); omega
      have kw := a3 k13 kl (by omega)
      have kv := h16
      skip
      refine And.intro (fun h18 => ?_) (fun h18 => ?_)
      · refine And.intro (rfl) ?_
        refine ct_199 (by omega) hx (fun z => by have e := ((x6 z).2.2.1.2.2.2.2.1 _ kw.2.1 kw.2.2).mpr ⟨by omega, by omega⟩; omega) (fun h20 => ?_) (fun h20 mw19 h21 h22 => ?_)
        · have ff := h20
          exact hQf ff _ _ (fr_M.rfl m) hx
        · have f0 := h20
          have fy := h21
          have hy := h22
          first
            | (exfalso; omega)
            | exact hQ1 f0 _ kl (by omega) (((x6 f0).2.2.1.2.2.2.2.1 _ kw.2.1 kw.2.2).mpr ⟨by omega, by omega⟩) _ fy hy
            | (by_cases f0 : f = 0
               · rw [if_pos f0, if_pos f0] at hz
                 have nk : ∀ k, l ≤ k → k < c → K q ≠ W k := by
                   intro k z2 z3 z4
                   have z5 := a3 k z2 z3
                   have z6 := ((x6 f0).2.2.1.2.2.2.2.1 _ z5.2.1 z5.2.2).mp z4
                   have z8 := s_cd_ne z5.2
                   first | omega | exact kn k (by omega) z3 ⟨by omega, by omega⟩
                 exact hQ0 f0 nk _ fz hz
               · rw [if_neg f0, if_neg f0] at hz; exact hQf f0 _ _ fz hz)
      · refine And.intro (rfl) ?_
        refine ct_201 (by omega) hx (by omega) (fun mw23 h24 h25 => ?_)
        have fz := h24
        have hz := h25
        refine And.intro (rfl) ?_
        refine ct_199 (by omega) hz (fun e => by split at e <;> (try split at e) <;> omega) (fun h31 => ?_) (fun h31 mw30 h32 h33 => ?_)
        · have ff := h31
          first
            | (exfalso; omega)
            | exact hQ1 f0 _ kl (by omega) (((x6 f0).2.2.1.2.2.2.2.1 _ kw.2.1 kw.2.2).mpr ⟨by omega, by omega⟩) _ fy hy
            | (by_cases f0 : f = 0
               · rw [if_pos f0, if_pos f0] at hz
                 have nk : ∀ k, l ≤ k → k < c → K q ≠ W k := by
                   intro k z2 z3 z4
                   have z5 := a3 k z2 z3
                   have z6 := ((x6 f0).2.2.1.2.2.2.2.1 _ z5.2.1 z5.2.2).mp z4
                   have z8 := s_cd_ne z5.2
                   first | omega | exact kn k (by omega) z3 ⟨by omega, by omega⟩
                 exact hQ0 f0 nk _ fz hz
               · rw [if_neg f0, if_neg f0] at hz; exact hQf f0 _ _ fz hz)
        · have f0 := h31
          exfalso
          split at f0 <;> (try split at f0) <;> omega
    · have kn := h14
      refine And.intro (fun h => absurd h (by decide)) (fun _ => ?_)
      refine And.intro (rfl) ?_
      refine ct_201 (by omega) hx (by omega) (fun mw34 h35 h36 => ?_)
      have fz := h35
      have hz := h36
      refine And.intro (rfl) ?_
      refine ct_199 (by omega) hz (fun e => by split at e <;> (try split at e) <;> omega) (fun h42 => ?_) (fun h42 mw41 h43 h44 => ?_)
      · have ff := h42
        first
          | (exfalso; omega)
          | exact hQ1 f0 _ kl (by omega) (((x6 f0).2.2.1.2.2.2.2.1 _ kw.2.1 kw.2.2).mpr ⟨by omega, by omega⟩) _ fy hy
          | (by_cases f0 : f = 0
             · rw [if_pos f0, if_pos f0] at hz
               have nk : ∀ k, l ≤ k → k < c → K q ≠ W k := by
                 intro k z2 z3 z4
                 have z5 := a3 k z2 z3
                 have z6 := ((x6 f0).2.2.1.2.2.2.2.1 _ z5.2.1 z5.2.2).mp z4
                 have z8 := s_cd_ne z5.2
                 first | omega | exact kn k (by omega) z3 ⟨by omega, by omega⟩
               exact hQ0 f0 nk _ fz hz
             · rw [if_neg f0, if_neg f0] at hz; exact hQf f0 _ _ fz hz)
      · have f0 := h42
        exfalso
        split at f0 <;> (try split at f0) <;> omega
