/-! needs: b02 -/
/-! CONTRACTS: work of numbers and plain nodes; by tools/genb3.py -/
set_option maxRecDepth 100000
theorem fr_E.put {lo hi alo ahi c x v : Int} {m m' : aM} (h : fr_E lo hi alo ahi c m m') (hx : lo ≤ x ∧ x ≤ hi) (ht : m' x (-1) = 6) (h7 : 77 ≤ lo ∧ hi ≤ m 0 0) : fr_E lo hi alo ahi c m (mS m' x 0 v) := by
  have t := h.tag (x := x) (by omega) (by omega) (by omega)
  obtain ⟨h1, h2, h3, h4⟩ := h
  refine ⟨by rw [mS_a _ _ _ _ (by omega)]; exact h1, by rw [mS_a _ _ _ _ (by omega)]; exact h2, fun y j a b c e g => ?_, fun j a b => by rw [mS_a _ _ _ _ (by omega)]; exact h4 j a b⟩
  rw [mS_iff, if_neg ?_]
  · exact h3 y j a b c e g
  · rintro ⟨e1, e2⟩
    subst e1
    omega
theorem fr_E.J {lo hi alo ahi c : Int} {m m' m2 : aM} (h : fr_E lo hi alo ahi c m m') (g : fr_J m' m2) : fr_E lo hi alo ahi c m m2 := by
  obtain ⟨h1, h2, h3, h4⟩ := h
  exact ⟨by rw [g 0 0 (by omega) (by omega)]; exact h1, by rw [g 0 1 (by omega) (by omega)]; exact h2, fun x j a b c e z => (g x j (by omega) (by omega)).trans (h3 x j a b c e z), fun j a b => (g 0 j (by omega) (by omega)).trans (h4 j a b)⟩
theorem hWk_num {m : aM} {lo hi r a v : Int} (hb : hNb m lo hi r a) (tg : m r (-1) = 14) (h3 : m r 3 = v) : hWk m lo hi r a (d_num v) 1 := by
  intro d Q ar alo ahi w hd hA hR hQ hX1 hX2 hX3 hX4 hF
  obtain ⟨R1, R2, R3, R4, R5, R6, R7, R8⟩ := id hR
  obtain ⟨k, hk⟩ : ∃ k, d = k + 1 := ⟨d - 1, by omega⟩
  have hA0 := hA.basic
  have kp : ∀ {m' : aM} {c : Int}, fr_E lo hi alo ahi c m m' → hKeep m m' lo hi := fun h => h.kp (by omega) R1.2
  have fe := fr_E.rfl lo hi alo ahi m
  have hz := hb
  have z0 := hz.1
  have z1 := hz.2.1
  have z2 := hz.2.2.1
  have z3 := hz.2.2.2.1
  have z5 := hz.2.2.2.2.1
  have z6 := hz.2.2.2.2.2
  rw [tg]
  show am_wpc am_G am_T d 2 _ _ _
  refine am_in (k := k) rfl (by omega) (fun d hd => ?_)
  refine am_go 400 [] (am_wpc_cm _ _ _) wf_2 ?_
  refine And.intro (show (m r (-1)) = 14 by first | assumption | omega | (simp only [mS_iff, eq_self, Int.reduceEq, true_and, and_true, false_and, and_false, and_self, ↓reduceIte]; omega) | (simp only [mS_iff, eq_self, Int.reduceEq, true_and, and_true, false_and, and_false, and_self, ↓reduceIte] at *; omega)) ?_
  refine And.intro (by first | assumption | omega | (simp only [mS_iff, eq_self, Int.reduceEq, true_and, and_true, false_and, and_false, and_self, ↓reduceIte]; omega)) ?_
  refine ct_324 (by omega) z1 (by omega) ⟨by omega, z6⟩ ?_
  exact hQ 0 (m r 3) (by rw [h3]; rfl) _ _ ((fe.put z5 z6 (by omega)).wd (Int.le_refl _) (Int.le_refl _) (by omega)) (Or.inl ⟨rfl, z5, by rw [mS_iff, if_neg (by omega)]; exact z6, by rw [mS_iff, if_pos ⟨rfl, rfl⟩]⟩)
theorem hWk_pl {m : aM} {lo hi r a s : Int} (hb : hNb m lo hi r a) (tg : m r (-1) = 15) (hs : m r 3 = s) (ht : m r 4 = 1) (hss : s = 52 ∨ s = 53 ∨ s = 54) : hWk m lo hi r a (d_pl s) 1 := by
  intro d Q ar alo ahi w hd hA hR hQ hX1 hX2 hX3 hX4 hF
  obtain ⟨R1, R2, R3, R4, R5, R6, R7, R8⟩ := id hR
  obtain ⟨k, hk⟩ : ∃ k, d = k + 1 := ⟨d - 1, by omega⟩
  have hA0 := hA.basic
  have kp : ∀ {m' : aM} {c : Int}, fr_E lo hi alo ahi c m m' → hKeep m m' lo hi := fun h => h.kp (by omega) R1.2
  have fe := fr_E.rfl lo hi alo ahi m
  have hz := hb
  have z0 := hz.1
  have z1 := hz.2.1
  have z2 := hz.2.2.1
  have z3 := hz.2.2.2.1
  have z5 := hz.2.2.2.2.1
  have z6 := hz.2.2.2.2.2
  rw [tg]
  show am_wpc am_G am_T d 3 _ _ _
  refine am_in (k := k) rfl (by omega) (fun d hd => ?_)
  refine am_go 400 [] (am_wpc_cm _ _ _) wf_3 ?_
  refine And.intro (show (m r (-1)) = 15 by first | assumption | omega | (simp only [mS_iff, eq_self, Int.reduceEq, true_and, and_true, false_and, and_false, and_self, ↓reduceIte]; omega) | (simp only [mS_iff, eq_self, Int.reduceEq, true_and, and_true, false_and, and_false, and_self, ↓reduceIte] at *; omega)) ?_
  refine And.intro (fun h1 => ?_) (fun h1 => ?_)
  · refine And.intro (show (m r (-1)) = 15 by first | assumption | omega | (simp only [mS_iff, eq_self, Int.reduceEq, true_and, and_true, false_and, and_false, and_self, ↓reduceIte]; omega) | (simp only [mS_iff, eq_self, Int.reduceEq, true_and, and_true, false_and, and_false, and_self, ↓reduceIte] at *; omega)) ?_
    refine And.intro (fun h2 => ?_) (fun h2 => ?_)
    · refine And.intro (show (m r (-1)) = 15 by first | assumption | omega | (simp only [mS_iff, eq_self, Int.reduceEq, true_and, and_true, false_and, and_false, and_self, ↓reduceIte]; omega) | (simp only [mS_iff, eq_self, Int.reduceEq, true_and, and_true, false_and, and_false, and_self, ↓reduceIte] at *; omega)) ?_
      rw [ht]
      refine And.intro (rfl) ?_
      refine ct_35 (by omega) hA (fun mj fj bj _ => ?_)
      have fe := fe.J fj
      have hz := hb.keep (kp fe)
      have z0 := hz.1
      have z1 := hz.2.1
      have z2 := hz.2.2.1
      have z3 := hz.2.2.2.1
      have z5 := hz.2.2.2.2.1
      have z6 := hz.2.2.2.2.2
      have t4 : mj r 4 = 1 := by rw [fj r 4 (by omega) (by omega)]; exact ht
      have t1 : mj r (-1) = 15 := by rw [fj r _ (by omega) (by omega)]; exact tg
      refine And.intro (show (mj r (-1)) = 15 by first | assumption | omega | (simp only [mS_iff, eq_self, Int.reduceEq, true_and, and_true, false_and, and_false, and_self, ↓reduceIte]; omega) | (simp only [mS_iff, eq_self, Int.reduceEq, true_and, and_true, false_and, and_false, and_self, ↓reduceIte] at *; omega)) ?_
      rw [t4]
      refine And.intro (rfl) ?_
      refine And.intro (by first | assumption | omega | (simp only [mS_iff, eq_self, Int.reduceEq, true_and, and_true, false_and, and_false, and_self, ↓reduceIte]; omega)) ?_
      refine ct_324 (by omega) z1 (by omega) ⟨by omega, z6⟩ ?_
      exact hQ 0 (mj 1 5) (by unfold d_pl; rw [if_neg (by omega), if_neg (by omega), bj]) _ _ ((fe.put z5 z6 (by omega)).wd (Int.le_refl _) (Int.le_refl _) (by omega)) (Or.inl ⟨rfl, z5, by rw [mS_iff, if_neg (by omega)]; exact z6, by rw [mS_iff, if_pos ⟨rfl, rfl⟩]⟩)
    · refine And.intro (hA0.2.2.2.2.1) ?_
      refine And.intro (by have := hA0.2.2.2.2.2.2.1; omega) ?_
      refine And.intro (by first | assumption | omega | (simp only [mS_iff, eq_self, Int.reduceEq, true_and, and_true, false_and, and_false, and_self, ↓reduceIte]; omega)) ?_
      refine ct_324 (by omega) z1 (by omega) ⟨by omega, z6⟩ ?_
      exact hQ 0 (m (m ar 1) (-2)) (by unfold d_pl; rw [if_neg (by omega), if_pos (by omega), hA0.2.2.2.2.2.2.2.1]) _ _ ((fe.put z5 z6 (by omega)).wd (Int.le_refl _) (Int.le_refl _) (by omega)) (Or.inl ⟨rfl, z5, by rw [mS_iff, if_neg (by omega)]; exact z6, by rw [mS_iff, if_pos ⟨rfl, rfl⟩]⟩)
  · refine And.intro (hA0.2.2.2.2.1) ?_
    exact hQ 1 0 (by unfold d_pl; rw [if_pos (by omega)]) _ _ (fe.wd (Int.le_refl _) (Int.le_refl _) (by omega)) (Or.inr (Or.inl ⟨rfl, rfl, rfl⟩))
