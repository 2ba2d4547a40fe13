/-! needs: 74 -/
/-! CONTRACTS: the edge, ordinaries of the reference, things; by tools/gen75.py -/
set_option maxRecDepth 100000
theorem s_conv {x y u v : Int} (h1 : s_in (x - 3) (y - 3)) (h2 : s_in (x + 3) (y - 3)) (h3 : s_in (x - 3) (y + 3)) (h4 : s_in (x + 3) (y + 3)) (hu : x - 3 ≤ u ∧ u ≤ x + 3) (hv : y - 3 ≤ v ∧ v ≤ y + 3) : s_in u v := by
  obtain ⟨a1, -⟩ := h1
  obtain ⟨a2, -⟩ := h2
  obtain ⟨a3, b3⟩ := h3
  obtain ⟨a4, b4⟩ := h4
  refine ⟨by omega, ?_⟩
  by_cases e : v < 36
  · exact Or.inl e
  · right
    have c3 := b3.resolve_left (by omega)
    have c4 := b4.resolve_left (by omega)
    have q := s_sqb (a := v - 36) (c := y + 3 - 36) (by omega)
    rw [Int.mul_assoc 576, Int.mul_assoc 2304] at c3 c4 ⊢
    by_cases t : 0 ≤ 2 * u - 47
    · have p := s_sqb (a := 2 * u - 47) (c := 2 * (x + 3) - 47) (by omega)
      omega
    · have p := s_sqb (a := 2 * u - 47) (c := -(2 * (x - 3) - 47)) (by omega)
      rw [Int.neg_mul_neg] at p
      omega
theorem s_ed_of {x y u v : Int} (hu : x - 3 ≤ u ∧ u ≤ x + 3) (hv : y - 3 ≤ v ∧ v ≤ y + 3) (h : ¬ s_in u v) : s_ed x y := by
  unfold s_ed
  by_cases a : s_in (x - 3) (y - 3)
  · by_cases b : s_in (x + 3) (y - 3)
    · by_cases c : s_in (x - 3) (y + 3)
      · by_cases e : s_in (x + 3) (y + 3)
        · exact absurd (s_conv a b c e hu hv) h
        · exact Or.inr (Or.inr (Or.inr e))
      · exact Or.inr (Or.inr (Or.inl c))
    · exact Or.inr (Or.inl b)
  · exact Or.inl a
theorem ct_244 {d : Nat} {m : aM} {Q : aO → aM → Prop} {x y : Int} (hd : 2 ≤ d) (hxy : (-1000 ≤ x ∧ x < 1000) ∧ (-1000 ≤ y ∧ y < 1000)) (hQ1 : s_ed x y → Q (.inl (some (aI 1))) m) (hQ0 : ¬ s_ed x y → Q (.inl (some (aI 0))) m) : am_wpc am_G am_T d 244 [aI x, aI y] m Q := by
  refine am_in rfl hd (fun d hd => ?_)
  have K4 : ∀ (N : Nat), ∀ (u : Int) (x3 : aV), (x + 4 - u).toNat = N → (x - 3 ≤ u ∧ u ≤ x + 4) → (∀ a b, x - 3 ≤ a → a < u → y - 3 ≤ b → b ≤ y + 3 → s_in a b) → am_WP am_G (am_wpc am_G am_T d) [] cd_244 Q 4 [aI x, aI y, aI u, x3] [] m := by
    intro N
    induction N using Nat.strongRecOn with
    | _ N ih4 =>
      intro u x3 hN i0 i1
      have K15 : ∀ (N : Nat), ∀ (v : Int), (y + 4 - v).toNat = N → (u ≤ x + 3 ∧ y - 3 ≤ v ∧ v ≤ y + 4) → (∀ b, y - 3 ≤ b → b < v → s_in u b) → am_WP am_G (am_wpc am_G am_T d) [] cd_244 Q 15 [aI x, aI y, aI u, aI v] [] m := by
        intro N
        induction N using Nat.strongRecOn with
        | _ N ih15 =>
          intro v hN j0 i2
          refine am_go 400 [4, 15] (am_wpc_cm _ _ _) wf_244 ?_
          refine And.intro (show -2147483648 ≤ y + 3 ∧ y + 3 ≤ 2147483647 by first | omega | (simp only [mS_iff, eq_self, Int.reduceEq, true_and, and_true, false_and, and_false, and_self, ↓reduceIte]; omega) | (simp only [mS_iff, eq_self, Int.reduceEq, true_and, and_true, false_and, and_false, and_self, ↓reduceIte] at *; omega)) ?_
          refine And.intro (fun h1 => ?_) (fun h1 => ?_)
          · refine And.intro (show -2147483648 ≤ u + 1 ∧ u + 1 ≤ 2147483647 by first | omega | (simp only [mS_iff, eq_self, Int.reduceEq, true_and, and_true, false_and, and_false, and_self, ↓reduceIte]; omega) | (simp only [mS_iff, eq_self, Int.reduceEq, true_and, and_true, false_and, and_false, and_self, ↓reduceIte] at *; omega)) ?_
            refine ih4 _ ?_ _ _ (Eq.refl _) ?_ ?_
            · omega
            · first | omega | (simp only [mS_iff, eq_self, Int.reduceEq, true_and, and_true, false_and, and_false, and_self, ↓reduceIte]; omega) | (simp only [mS_iff, eq_self, Int.reduceEq, true_and, and_true, false_and, and_false, and_self, ↓reduceIte] at *; omega)
            · intro a b h1 h2 h3 h4
              by_cases e : a = u
              · subst e; exact i2 b h3 (by omega)
              · exact i1 a b h1 (by omega) h3 h4
          · refine ct_238 (by omega) (fun h2 => ?_) (fun h2 => ?_)
            · have hh := h2
              refine And.intro (fun _ => ?_) (fun h => absurd h (by decide))
              refine And.intro (show -2147483648 ≤ v + 1 ∧ v + 1 ≤ 2147483647 by first | omega | (simp only [mS_iff, eq_self, Int.reduceEq, true_and, and_true, false_and, and_false, and_self, ↓reduceIte]; omega) | (simp only [mS_iff, eq_self, Int.reduceEq, true_and, and_true, false_and, and_false, and_self, ↓reduceIte] at *; omega)) ?_
              refine ih15 _ ?_ _ (Eq.refl _) ?_ ?_
              · omega
              · first | omega | (simp only [mS_iff, eq_self, Int.reduceEq, true_and, and_true, false_and, and_false, and_self, ↓reduceIte]; omega) | (simp only [mS_iff, eq_self, Int.reduceEq, true_and, and_true, false_and, and_false, and_self, ↓reduceIte] at *; omega)
              · intro b h1 h2
                by_cases e : b = v
                · subst e; exact hh
                · exact i2 b h1 (by omega)
            · have hh := h2
              refine And.intro (fun h => absurd h (by decide)) (fun _ => ?_)
              refine And.intro (by first | omega | (simp only [mS_iff, eq_self, Int.reduceEq, true_and, and_true, false_and, and_false, and_self, ↓reduceIte]; omega) | (simp only [mS_iff, eq_self, Int.reduceEq, true_and, and_true, false_and, and_false, and_self, ↓reduceIte] at *; omega)) ?_
              exact hQ1 (s_ed_of (u := u) (v := v) (by omega) (by omega) hh)
      refine am_go 400 [4, 15] (am_wpc_cm _ _ _) wf_244 ?_
      refine And.intro (show -2147483648 ≤ x + 3 ∧ x + 3 ≤ 2147483647 by first | omega | (simp only [mS_iff, eq_self, Int.reduceEq, true_and, and_true, false_and, and_false, and_self, ↓reduceIte]; omega) | (simp only [mS_iff, eq_self, Int.reduceEq, true_and, and_true, false_and, and_false, and_self, ↓reduceIte] at *; omega)) ?_
      refine And.intro (fun h3 => ?_) (fun h3 => ?_)
      · refine And.intro (by first | omega | (simp only [mS_iff, eq_self, Int.reduceEq, true_and, and_true, false_and, and_false, and_self, ↓reduceIte]; omega) | (simp only [mS_iff, eq_self, Int.reduceEq, true_and, and_true, false_and, and_false, and_self, ↓reduceIte] at *; omega)) ?_
        exact hQ0 (fun q => by rcases q with q | q | q | q <;> exact q (i1 _ _ (by omega) (by omega) (by omega) (by omega)))
      · refine And.intro (show -2147483648 ≤ y - 3 ∧ y - 3 ≤ 2147483647 by first | omega | (simp only [mS_iff, eq_self, Int.reduceEq, true_and, and_true, false_and, and_false, and_self, ↓reduceIte]; omega) | (simp only [mS_iff, eq_self, Int.reduceEq, true_and, and_true, false_and, and_false, and_self, ↓reduceIte] at *; omega)) ?_
        refine K15 _ _ (Eq.refl _) ?_ ?_
        · first | omega | (simp only [mS_iff, eq_self, Int.reduceEq, true_and, and_true, false_and, and_false, and_self, ↓reduceIte]; omega) | (simp only [mS_iff, eq_self, Int.reduceEq, true_and, and_true, false_and, and_false, and_self, ↓reduceIte] at *; omega)
        · intro b h1 h2
          omega
  refine am_go 400 [4, 15] (am_wpc_cm _ _ _) wf_244 ?_
  refine And.intro (show -2147483648 ≤ x - 3 ∧ x - 3 ≤ 2147483647 by first | omega | (simp only [mS_iff, eq_self, Int.reduceEq, true_and, and_true, false_and, and_false, and_self, ↓reduceIte]; omega) | (simp only [mS_iff, eq_self, Int.reduceEq, true_and, and_true, false_and, and_false, and_self, ↓reduceIte] at *; omega)) ?_
  refine K4 _ _ _ (Eq.refl _) ?_ ?_
  · first | omega | (simp only [mS_iff, eq_self, Int.reduceEq, true_and, and_true, false_and, and_false, and_self, ↓reduceIte]; omega) | (simp only [mS_iff, eq_self, Int.reduceEq, true_and, and_true, false_and, and_false, and_self, ↓reduceIte] at *; omega)
  · intro a b h1 h2
    omega
theorem ct_243 {d : Nat} {m : aM} {Q : aO → aM → Prop} {o l x y : Int} (hd : 3 ≤ d) (hQ1 : s_in x y ∧ s_os o l x y → Q (.inl (some (aI 1))) m) (hQ0 : ¬ (s_in x y ∧ s_os o l x y) → Q (.inl (some (aI 0))) m) : am_wpc am_G am_T d 243 [aI o, aI l, aI x, aI y] m Q := by
  refine am_in rfl hd (fun d hd => ?_)
  refine am_go 400 [] (am_wpc_cm _ _ _) wf_243 ?_
  refine ct_238 (by omega) (fun h1 => ?_) (fun h1 => ?_)
  · have hi := h1
    have hxy := h1.1
    refine And.intro (fun _ => ?_) (fun h => absurd h (by decide))
    refine And.intro rfl ?_
    refine And.intro (And.intro (fun h2 => ?_) (And.intro (fun h2 => ?_) (And.intro (fun h2 => ?_) (And.intro (fun h2 => ?_) (And.intro (fun h2 => ?_) (And.intro (fun h2 => ?_) (And.intro (fun h2 => ?_) (True.intro)))))))) (fun h2 => ?_)
    · replace h2 : o = 0 := h2
      refine And.intro (show -2147483648 ≤ 2 * x ∧ 2 * x ≤ 2147483647 by first | omega | (simp only [mS_iff, eq_self, Int.reduceEq, true_and, and_true, false_and, and_false, and_self, ↓reduceIte]; omega) | (simp only [mS_iff, eq_self, Int.reduceEq, true_and, and_true, false_and, and_false, and_self, ↓reduceIte] at *; omega)) ?_
      refine And.intro (show -2147483648 ≤ (2 * x) - 47 ∧ (2 * x) - 47 ≤ 2147483647 by first | omega | (simp only [mS_iff, eq_self, Int.reduceEq, true_and, and_true, false_and, and_false, and_self, ↓reduceIte]; omega) | (simp only [mS_iff, eq_self, Int.reduceEq, true_and, and_true, false_and, and_false, and_self, ↓reduceIte] at *; omega)) ?_
      refine ct_240 (by omega) (by omega) (fun v3 h4 h5 => ?_)
      refine And.intro (show -2147483648 ≤ 2 * v3 ∧ 2 * v3 ≤ 2147483647 by first | omega | (simp only [mS_iff, eq_self, Int.reduceEq, true_and, and_true, false_and, and_false, and_self, ↓reduceIte]; omega) | (simp only [mS_iff, eq_self, Int.reduceEq, true_and, and_true, false_and, and_false, and_self, ↓reduceIte] at *; omega)) ?_
      refine And.intro (show -2147483648 ≤ ((2 * x) - 47) + (2 * v3) ∧ ((2 * x) - 47) + (2 * v3) ≤ 2147483647 by first | omega | (simp only [mS_iff, eq_self, Int.reduceEq, true_and, and_true, false_and, and_false, and_self, ↓reduceIte]; omega) | (simp only [mS_iff, eq_self, Int.reduceEq, true_and, and_true, false_and, and_false, and_self, ↓reduceIte] at *; omega)) ?_
      refine ct_241 (by omega) (by first | omega | (simp only [mS_iff, eq_self, Int.reduceEq, true_and, and_true, false_and, and_false, and_self, ↓reduceIte]; omega) | (simp only [mS_iff, eq_self, Int.reduceEq, true_and, and_true, false_and, and_false, and_self, ↓reduceIte] at *; omega)) (fun v6 h7 => ?_)
      refine And.intro (fun h8 => ?_) (fun h8 => ?_)
      · refine And.intro (by first | omega | (simp only [mS_iff, eq_self, Int.reduceEq, true_and, and_true, false_and, and_false, and_self, ↓reduceIte]; omega) | (simp only [mS_iff, eq_self, Int.reduceEq, true_and, and_true, false_and, and_false, and_self, ↓reduceIte] at *; omega)) ?_
        exact hQ0 (fun q => absurd q.2 (by unfold s_os; rw [h2]; simp only [Int.reduceEq, ↓reduceIte, s_ab]; omega))
      · refine And.intro (by first | omega | (simp only [mS_iff, eq_self, Int.reduceEq, true_and, and_true, false_and, and_false, and_self, ↓reduceIte]; omega) | (simp only [mS_iff, eq_self, Int.reduceEq, true_and, and_true, false_and, and_false, and_self, ↓reduceIte] at *; omega)) ?_
        exact hQ1 ⟨hi, by unfold s_os; rw [h2]; simp only [Int.reduceEq, ↓reduceIte, s_ab]; omega⟩
    · replace h2 : o = 1 := h2
      refine And.intro (show -2147483648 ≤ 2 * y ∧ 2 * y ≤ 2147483647 by first | omega | (simp only [mS_iff, eq_self, Int.reduceEq, true_and, and_true, false_and, and_false, and_self, ↓reduceIte]; omega) | (simp only [mS_iff, eq_self, Int.reduceEq, true_and, and_true, false_and, and_false, and_self, ↓reduceIte] at *; omega)) ?_
      refine And.intro (show -2147483648 ≤ (2 * y) - 59 ∧ (2 * y) - 59 ≤ 2147483647 by first | omega | (simp only [mS_iff, eq_self, Int.reduceEq, true_and, and_true, false_and, and_false, and_self, ↓reduceIte]; omega) | (simp only [mS_iff, eq_self, Int.reduceEq, true_and, and_true, false_and, and_false, and_self, ↓reduceIte] at *; omega)) ?_
      refine ct_240 (by omega) (by omega) (fun v9 h10 h11 => ?_)
      refine And.intro (show -2147483648 ≤ 2 * v9 ∧ 2 * v9 ≤ 2147483647 by first | omega | (simp only [mS_iff, eq_self, Int.reduceEq, true_and, and_true, false_and, and_false, and_self, ↓reduceIte]; omega) | (simp only [mS_iff, eq_self, Int.reduceEq, true_and, and_true, false_and, and_false, and_self, ↓reduceIte] at *; omega)) ?_
      refine And.intro (show -2147483648 ≤ ((2 * y) - 59) + (2 * v9) ∧ ((2 * y) - 59) + (2 * v9) ≤ 2147483647 by first | omega | (simp only [mS_iff, eq_self, Int.reduceEq, true_and, and_true, false_and, and_false, and_self, ↓reduceIte]; omega) | (simp only [mS_iff, eq_self, Int.reduceEq, true_and, and_true, false_and, and_false, and_self, ↓reduceIte] at *; omega)) ?_
      refine ct_241 (by omega) (by first | omega | (simp only [mS_iff, eq_self, Int.reduceEq, true_and, and_true, false_and, and_false, and_self, ↓reduceIte]; omega) | (simp only [mS_iff, eq_self, Int.reduceEq, true_and, and_true, false_and, and_false, and_self, ↓reduceIte] at *; omega)) (fun v12 h13 => ?_)
      refine And.intro (fun h14 => ?_) (fun h14 => ?_)
      · refine And.intro (by first | omega | (simp only [mS_iff, eq_self, Int.reduceEq, true_and, and_true, false_and, and_false, and_self, ↓reduceIte]; omega) | (simp only [mS_iff, eq_self, Int.reduceEq, true_and, and_true, false_and, and_false, and_self, ↓reduceIte] at *; omega)) ?_
        exact hQ0 (fun q => absurd q.2 (by unfold s_os; rw [h2]; simp only [Int.reduceEq, ↓reduceIte, s_ab]; omega))
      · refine And.intro (by first | omega | (simp only [mS_iff, eq_self, Int.reduceEq, true_and, and_true, false_and, and_false, and_self, ↓reduceIte]; omega) | (simp only [mS_iff, eq_self, Int.reduceEq, true_and, and_true, false_and, and_false, and_self, ↓reduceIte] at *; omega)) ?_
        exact hQ1 ⟨hi, by unfold s_os; rw [h2]; simp only [Int.reduceEq, ↓reduceIte, s_ab]; omega⟩
    · replace h2 : o = 2 := h2
      refine And.intro (show -2147483648 ≤ 5 * x ∧ 5 * x ≤ 2147483647 by first | omega | (simp only [mS_iff, eq_self, Int.reduceEq, true_and, and_true, false_and, and_false, and_self, ↓reduceIte]; omega) | (simp only [mS_iff, eq_self, Int.reduceEq, true_and, and_true, false_and, and_false, and_self, ↓reduceIte] at *; omega)) ?_
      refine And.intro (show -2147483648 ≤ 4 * y ∧ 4 * y ≤ 2147483647 by first | omega | (simp only [mS_iff, eq_self, Int.reduceEq, true_and, and_true, false_and, and_false, and_self, ↓reduceIte]; omega) | (simp only [mS_iff, eq_self, Int.reduceEq, true_and, and_true, false_and, and_false, and_self, ↓reduceIte] at *; omega)) ?_
      refine And.intro (show -2147483648 ≤ (5 * x) - (4 * y) ∧ (5 * x) - (4 * y) ≤ 2147483647 by first | omega | (simp only [mS_iff, eq_self, Int.reduceEq, true_and, and_true, false_and, and_false, and_self, ↓reduceIte]; omega) | (simp only [mS_iff, eq_self, Int.reduceEq, true_and, and_true, false_and, and_false, and_self, ↓reduceIte] at *; omega)) ?_
      refine And.intro (show -2147483648 ≤ x + y ∧ x + y ≤ 2147483647 by first | omega | (simp only [mS_iff, eq_self, Int.reduceEq, true_and, and_true, false_and, and_false, and_self, ↓reduceIte]; omega) | (simp only [mS_iff, eq_self, Int.reduceEq, true_and, and_true, false_and, and_false, and_self, ↓reduceIte] at *; omega)) ?_
      refine ct_240 (by omega) (by omega) (fun v15 h16 h17 => ?_)
      refine And.intro (show -2147483648 ≤ 5 * v15 ∧ 5 * v15 ≤ 2147483647 by first | omega | (simp only [mS_iff, eq_self, Int.reduceEq, true_and, and_true, false_and, and_false, and_self, ↓reduceIte]; omega) | (simp only [mS_iff, eq_self, Int.reduceEq, true_and, and_true, false_and, and_false, and_self, ↓reduceIte] at *; omega)) ?_
      refine And.intro (show -2147483648 ≤ ((5 * x) - (4 * y)) + (5 * v15) ∧ ((5 * x) - (4 * y)) + (5 * v15) ≤ 2147483647 by first | omega | (simp only [mS_iff, eq_self, Int.reduceEq, true_and, and_true, false_and, and_false, and_self, ↓reduceIte]; omega) | (simp only [mS_iff, eq_self, Int.reduceEq, true_and, and_true, false_and, and_false, and_self, ↓reduceIte] at *; omega)) ?_
      refine ct_241 (by omega) (by first | omega | (simp only [mS_iff, eq_self, Int.reduceEq, true_and, and_true, false_and, and_false, and_self, ↓reduceIte]; omega) | (simp only [mS_iff, eq_self, Int.reduceEq, true_and, and_true, false_and, and_false, and_self, ↓reduceIte] at *; omega)) (fun v18 h19 => ?_)
      refine And.intro (fun h20 => ?_) (fun h20 => ?_)
      · refine And.intro (by first | omega | (simp only [mS_iff, eq_self, Int.reduceEq, true_and, and_true, false_and, and_false, and_self, ↓reduceIte]; omega) | (simp only [mS_iff, eq_self, Int.reduceEq, true_and, and_true, false_and, and_false, and_self, ↓reduceIte] at *; omega)) ?_
        exact hQ0 (fun q => absurd q.2 (by unfold s_os; rw [h2]; simp only [Int.reduceEq, ↓reduceIte, s_ab]; omega))
      · refine And.intro (by first | omega | (simp only [mS_iff, eq_self, Int.reduceEq, true_and, and_true, false_and, and_false, and_self, ↓reduceIte]; omega) | (simp only [mS_iff, eq_self, Int.reduceEq, true_and, and_true, false_and, and_false, and_self, ↓reduceIte] at *; omega)) ?_
        exact hQ1 ⟨hi, by unfold s_os; rw [h2]; simp only [Int.reduceEq, ↓reduceIte, s_ab]; omega⟩
    · replace h2 : o = 3 := h2
      refine And.intro (show -2147483648 ≤ 2 * y ∧ 2 * y ≤ 2147483647 by first | omega | (simp only [mS_iff, eq_self, Int.reduceEq, true_and, and_true, false_and, and_false, and_self, ↓reduceIte]; omega) | (simp only [mS_iff, eq_self, Int.reduceEq, true_and, and_true, false_and, and_false, and_self, ↓reduceIte] at *; omega)) ?_
      refine And.intro (show -2147483648 ≤ (2 * y) - 40 ∧ (2 * y) - 40 ≤ 2147483647 by first | omega | (simp only [mS_iff, eq_self, Int.reduceEq, true_and, and_true, false_and, and_false, and_self, ↓reduceIte]; omega) | (simp only [mS_iff, eq_self, Int.reduceEq, true_and, and_true, false_and, and_false, and_self, ↓reduceIte] at *; omega)) ?_
      refine And.intro (show -2147483648 ≤ 2 * x ∧ 2 * x ≤ 2147483647 by first | omega | (simp only [mS_iff, eq_self, Int.reduceEq, true_and, and_true, false_and, and_false, and_self, ↓reduceIte]; omega) | (simp only [mS_iff, eq_self, Int.reduceEq, true_and, and_true, false_and, and_false, and_self, ↓reduceIte] at *; omega)) ?_
      refine And.intro (show -2147483648 ≤ (2 * x) - 47 ∧ (2 * x) - 47 ≤ 2147483647 by first | omega | (simp only [mS_iff, eq_self, Int.reduceEq, true_and, and_true, false_and, and_false, and_self, ↓reduceIte]; omega) | (simp only [mS_iff, eq_self, Int.reduceEq, true_and, and_true, false_and, and_false, and_self, ↓reduceIte] at *; omega)) ?_
      refine ct_241 (by omega) (by first | omega | (simp only [mS_iff, eq_self, Int.reduceEq, true_and, and_true, false_and, and_false, and_self, ↓reduceIte]; omega) | (simp only [mS_iff, eq_self, Int.reduceEq, true_and, and_true, false_and, and_false, and_self, ↓reduceIte] at *; omega)) (fun v21 h22 => ?_)
      refine And.intro (show -2147483648 ≤ ((2 * y) - 40) - v21 ∧ ((2 * y) - 40) - v21 ≤ 2147483647 by first | omega | (simp only [mS_iff, eq_self, Int.reduceEq, true_and, and_true, false_and, and_false, and_self, ↓reduceIte]; omega) | (simp only [mS_iff, eq_self, Int.reduceEq, true_and, and_true, false_and, and_false, and_self, ↓reduceIte] at *; omega)) ?_
      refine ct_240 (by omega) (by omega) (fun v23 h24 h25 => ?_)
      refine And.intro (show -2147483648 ≤ 2 * v23 ∧ 2 * v23 ≤ 2147483647 by first | omega | (simp only [mS_iff, eq_self, Int.reduceEq, true_and, and_true, false_and, and_false, and_self, ↓reduceIte]; omega) | (simp only [mS_iff, eq_self, Int.reduceEq, true_and, and_true, false_and, and_false, and_self, ↓reduceIte] at *; omega)) ?_
      refine And.intro (show -2147483648 ≤ (((2 * y) - 40) - v21) + (2 * v23) ∧ (((2 * y) - 40) - v21) + (2 * v23) ≤ 2147483647 by first | omega | (simp only [mS_iff, eq_self, Int.reduceEq, true_and, and_true, false_and, and_false, and_self, ↓reduceIte]; omega) | (simp only [mS_iff, eq_self, Int.reduceEq, true_and, and_true, false_and, and_false, and_self, ↓reduceIte] at *; omega)) ?_
      refine And.intro (fun h26 => ?_) (fun h26 => ?_)
      · refine And.intro (by first | omega | (simp only [mS_iff, eq_self, Int.reduceEq, true_and, and_true, false_and, and_false, and_self, ↓reduceIte]; omega) | (simp only [mS_iff, eq_self, Int.reduceEq, true_and, and_true, false_and, and_false, and_self, ↓reduceIte] at *; omega)) ?_
        exact hQ0 (fun q => absurd q.2 (by unfold s_os; rw [h2]; simp only [Int.reduceEq, ↓reduceIte, s_ab]; omega))
      · refine And.intro (fun h27 => ?_) (fun h27 => ?_)
        · refine And.intro (by first | omega | (simp only [mS_iff, eq_self, Int.reduceEq, true_and, and_true, false_and, and_false, and_self, ↓reduceIte]; omega) | (simp only [mS_iff, eq_self, Int.reduceEq, true_and, and_true, false_and, and_false, and_self, ↓reduceIte] at *; omega)) ?_
          exact hQ0 (fun q => absurd q.2 (by unfold s_os; rw [h2]; simp only [Int.reduceEq, ↓reduceIte, s_ab]; omega))
        · refine And.intro (by first | omega | (simp only [mS_iff, eq_self, Int.reduceEq, true_and, and_true, false_and, and_false, and_self, ↓reduceIte]; omega) | (simp only [mS_iff, eq_self, Int.reduceEq, true_and, and_true, false_and, and_false, and_self, ↓reduceIte] at *; omega)) ?_
          exact hQ1 ⟨hi, by unfold s_os; rw [h2]; simp only [Int.reduceEq, ↓reduceIte, s_ab]; omega⟩
    · replace h2 : o = 4 := h2
      refine And.intro (show -2147483648 ≤ 5 * x ∧ 5 * x ≤ 2147483647 by first | omega | (simp only [mS_iff, eq_self, Int.reduceEq, true_and, and_true, false_and, and_false, and_self, ↓reduceIte]; omega) | (simp only [mS_iff, eq_self, Int.reduceEq, true_and, and_true, false_and, and_false, and_self, ↓reduceIte] at *; omega)) ?_
      refine And.intro (show -2147483648 ≤ 4 * y ∧ 4 * y ≤ 2147483647 by first | omega | (simp only [mS_iff, eq_self, Int.reduceEq, true_and, and_true, false_and, and_false, and_self, ↓reduceIte]; omega) | (simp only [mS_iff, eq_self, Int.reduceEq, true_and, and_true, false_and, and_false, and_self, ↓reduceIte] at *; omega)) ?_
      refine And.intro (show -2147483648 ≤ (5 * x) - (4 * y) ∧ (5 * x) - (4 * y) ≤ 2147483647 by first | omega | (simp only [mS_iff, eq_self, Int.reduceEq, true_and, and_true, false_and, and_false, and_self, ↓reduceIte]; omega) | (simp only [mS_iff, eq_self, Int.reduceEq, true_and, and_true, false_and, and_false, and_self, ↓reduceIte] at *; omega)) ?_
      refine ct_241 (by omega) (by first | omega | (simp only [mS_iff, eq_self, Int.reduceEq, true_and, and_true, false_and, and_false, and_self, ↓reduceIte]; omega) | (simp only [mS_iff, eq_self, Int.reduceEq, true_and, and_true, false_and, and_false, and_self, ↓reduceIte] at *; omega)) (fun v28 h29 => ?_)
      refine And.intro (fun h30 => ?_) (fun h30 => ?_)
      · refine And.intro (by first | omega | (simp only [mS_iff, eq_self, Int.reduceEq, true_and, and_true, false_and, and_false, and_self, ↓reduceIte]; omega) | (simp only [mS_iff, eq_self, Int.reduceEq, true_and, and_true, false_and, and_false, and_self, ↓reduceIte] at *; omega)) ?_
        exact hQ1 ⟨hi, by unfold s_os; rw [h2]; simp only [Int.reduceEq, ↓reduceIte, s_ab]; omega⟩
      · refine And.intro (show -2147483648 ≤ 47 - x ∧ 47 - x ≤ 2147483647 by first | omega | (simp only [mS_iff, eq_self, Int.reduceEq, true_and, and_true, false_and, and_false, and_self, ↓reduceIte]; omega) | (simp only [mS_iff, eq_self, Int.reduceEq, true_and, and_true, false_and, and_false, and_self, ↓reduceIte] at *; omega)) ?_
        refine And.intro (show -2147483648 ≤ 5 * (47 - x) ∧ 5 * (47 - x) ≤ 2147483647 by first | omega | (simp only [mS_iff, eq_self, Int.reduceEq, true_and, and_true, false_and, and_false, and_self, ↓reduceIte]; omega) | (simp only [mS_iff, eq_self, Int.reduceEq, true_and, and_true, false_and, and_false, and_self, ↓reduceIte] at *; omega)) ?_
        refine And.intro (show -2147483648 ≤ 4 * y ∧ 4 * y ≤ 2147483647 by first | omega | (simp only [mS_iff, eq_self, Int.reduceEq, true_and, and_true, false_and, and_false, and_self, ↓reduceIte]; omega) | (simp only [mS_iff, eq_self, Int.reduceEq, true_and, and_true, false_and, and_false, and_self, ↓reduceIte] at *; omega)) ?_
        refine And.intro (show -2147483648 ≤ (5 * (47 - x)) - (4 * y) ∧ (5 * (47 - x)) - (4 * y) ≤ 2147483647 by first | omega | (simp only [mS_iff, eq_self, Int.reduceEq, true_and, and_true, false_and, and_false, and_self, ↓reduceIte]; omega) | (simp only [mS_iff, eq_self, Int.reduceEq, true_and, and_true, false_and, and_false, and_self, ↓reduceIte] at *; omega)) ?_
        refine ct_241 (by omega) (by first | omega | (simp only [mS_iff, eq_self, Int.reduceEq, true_and, and_true, false_and, and_false, and_self, ↓reduceIte]; omega) | (simp only [mS_iff, eq_self, Int.reduceEq, true_and, and_true, false_and, and_false, and_self, ↓reduceIte] at *; omega)) (fun v31 h32 => ?_)
        refine And.intro (fun h33 => ?_) (fun h33 => ?_)
        · refine And.intro (by first | omega | (simp only [mS_iff, eq_self, Int.reduceEq, true_and, and_true, false_and, and_false, and_self, ↓reduceIte]; omega) | (simp only [mS_iff, eq_self, Int.reduceEq, true_and, and_true, false_and, and_false, and_self, ↓reduceIte] at *; omega)) ?_
          exact hQ0 (fun q => absurd q.2 (by unfold s_os; rw [h2]; simp only [Int.reduceEq, ↓reduceIte, s_ab]; omega))
        · refine And.intro (by first | omega | (simp only [mS_iff, eq_self, Int.reduceEq, true_and, and_true, false_and, and_false, and_self, ↓reduceIte]; omega) | (simp only [mS_iff, eq_self, Int.reduceEq, true_and, and_true, false_and, and_false, and_self, ↓reduceIte] at *; omega)) ?_
          exact hQ1 ⟨hi, by unfold s_os; rw [h2]; simp only [Int.reduceEq, ↓reduceIte, s_ab]; omega⟩
    · replace h2 : o = 5 := h2
      refine And.intro (show -2147483648 ≤ 2 * x ∧ 2 * x ≤ 2147483647 by first | omega | (simp only [mS_iff, eq_self, Int.reduceEq, true_and, and_true, false_and, and_false, and_self, ↓reduceIte]; omega) | (simp only [mS_iff, eq_self, Int.reduceEq, true_and, and_true, false_and, and_false, and_self, ↓reduceIte] at *; omega)) ?_
      refine And.intro (show -2147483648 ≤ (2 * x) - 47 ∧ (2 * x) - 47 ≤ 2147483647 by first | omega | (simp only [mS_iff, eq_self, Int.reduceEq, true_and, and_true, false_and, and_false, and_self, ↓reduceIte]; omega) | (simp only [mS_iff, eq_self, Int.reduceEq, true_and, and_true, false_and, and_false, and_self, ↓reduceIte] at *; omega)) ?_
      refine ct_240 (by omega) (by omega) (fun v34 h35 h36 => ?_)
      refine And.intro (show -2147483648 ≤ 2 * v34 ∧ 2 * v34 ≤ 2147483647 by first | omega | (simp only [mS_iff, eq_self, Int.reduceEq, true_and, and_true, false_and, and_false, and_self, ↓reduceIte]; omega) | (simp only [mS_iff, eq_self, Int.reduceEq, true_and, and_true, false_and, and_false, and_self, ↓reduceIte] at *; omega)) ?_
      refine And.intro (show -2147483648 ≤ ((2 * x) - 47) + (2 * v34) ∧ ((2 * x) - 47) + (2 * v34) ≤ 2147483647 by first | omega | (simp only [mS_iff, eq_self, Int.reduceEq, true_and, and_true, false_and, and_false, and_self, ↓reduceIte]; omega) | (simp only [mS_iff, eq_self, Int.reduceEq, true_and, and_true, false_and, and_false, and_self, ↓reduceIte] at *; omega)) ?_
      refine ct_241 (by omega) (by first | omega | (simp only [mS_iff, eq_self, Int.reduceEq, true_and, and_true, false_and, and_false, and_self, ↓reduceIte]; omega) | (simp only [mS_iff, eq_self, Int.reduceEq, true_and, and_true, false_and, and_false, and_self, ↓reduceIte] at *; omega)) (fun v37 h38 => ?_)
      refine And.intro (fun h39 => ?_) (fun h39 => ?_)
      · refine And.intro (by first | omega | (simp only [mS_iff, eq_self, Int.reduceEq, true_and, and_true, false_and, and_false, and_self, ↓reduceIte]; omega) | (simp only [mS_iff, eq_self, Int.reduceEq, true_and, and_true, false_and, and_false, and_self, ↓reduceIte] at *; omega)) ?_
        exact hQ1 ⟨hi, by unfold s_os; rw [h2]; simp only [Int.reduceEq, ↓reduceIte, s_ab]; omega⟩
      · refine And.intro (show -2147483648 ≤ 2 * y ∧ 2 * y ≤ 2147483647 by first | omega | (simp only [mS_iff, eq_self, Int.reduceEq, true_and, and_true, false_and, and_false, and_self, ↓reduceIte]; omega) | (simp only [mS_iff, eq_self, Int.reduceEq, true_and, and_true, false_and, and_false, and_self, ↓reduceIte] at *; omega)) ?_
        refine And.intro (show -2147483648 ≤ (2 * y) - 47 ∧ (2 * y) - 47 ≤ 2147483647 by first | omega | (simp only [mS_iff, eq_self, Int.reduceEq, true_and, and_true, false_and, and_false, and_self, ↓reduceIte]; omega) | (simp only [mS_iff, eq_self, Int.reduceEq, true_and, and_true, false_and, and_false, and_self, ↓reduceIte] at *; omega)) ?_
        refine ct_240 (by omega) (by omega) (fun v40 h41 h42 => ?_)
        refine And.intro (show -2147483648 ≤ 2 * v40 ∧ 2 * v40 ≤ 2147483647 by first | omega | (simp only [mS_iff, eq_self, Int.reduceEq, true_and, and_true, false_and, and_false, and_self, ↓reduceIte]; omega) | (simp only [mS_iff, eq_self, Int.reduceEq, true_and, and_true, false_and, and_false, and_self, ↓reduceIte] at *; omega)) ?_
        refine And.intro (show -2147483648 ≤ ((2 * y) - 47) + (2 * v40) ∧ ((2 * y) - 47) + (2 * v40) ≤ 2147483647 by first | omega | (simp only [mS_iff, eq_self, Int.reduceEq, true_and, and_true, false_and, and_false, and_self, ↓reduceIte]; omega) | (simp only [mS_iff, eq_self, Int.reduceEq, true_and, and_true, false_and, and_false, and_self, ↓reduceIte] at *; omega)) ?_
        refine ct_241 (by omega) (by first | omega | (simp only [mS_iff, eq_self, Int.reduceEq, true_and, and_true, false_and, and_false, and_self, ↓reduceIte]; omega) | (simp only [mS_iff, eq_self, Int.reduceEq, true_and, and_true, false_and, and_false, and_self, ↓reduceIte] at *; omega)) (fun v43 h44 => ?_)
        refine And.intro (fun h45 => ?_) (fun h45 => ?_)
        · refine And.intro (by first | omega | (simp only [mS_iff, eq_self, Int.reduceEq, true_and, and_true, false_and, and_false, and_self, ↓reduceIte]; omega) | (simp only [mS_iff, eq_self, Int.reduceEq, true_and, and_true, false_and, and_false, and_self, ↓reduceIte] at *; omega)) ?_
          exact hQ0 (fun q => absurd q.2 (by unfold s_os; rw [h2]; simp only [Int.reduceEq, ↓reduceIte, s_ab]; omega))
        · refine And.intro (by first | omega | (simp only [mS_iff, eq_self, Int.reduceEq, true_and, and_true, false_and, and_false, and_self, ↓reduceIte]; omega) | (simp only [mS_iff, eq_self, Int.reduceEq, true_and, and_true, false_and, and_false, and_self, ↓reduceIte] at *; omega)) ?_
          exact hQ1 ⟨hi, by unfold s_os; rw [h2]; simp only [Int.reduceEq, ↓reduceIte, s_ab]; omega⟩
    · replace h2 : o = 6 := h2
      refine ct_240 (by omega) (by omega) (fun v46 h47 h48 => ?_)
      refine And.intro (show -2147483648 ≤ y + v46 ∧ y + v46 ≤ 2147483647 by first | omega | (simp only [mS_iff, eq_self, Int.reduceEq, true_and, and_true, false_and, and_false, and_self, ↓reduceIte]; omega) | (simp only [mS_iff, eq_self, Int.reduceEq, true_and, and_true, false_and, and_false, and_self, ↓reduceIte] at *; omega)) ?_
      refine And.intro (fun h49 => ?_) (fun h49 => ?_)
      · refine And.intro (by first | omega | (simp only [mS_iff, eq_self, Int.reduceEq, true_and, and_true, false_and, and_false, and_self, ↓reduceIte]; omega) | (simp only [mS_iff, eq_self, Int.reduceEq, true_and, and_true, false_and, and_false, and_self, ↓reduceIte] at *; omega)) ?_
        exact hQ0 (fun q => absurd q.2 (by unfold s_os; rw [h2]; simp only [Int.reduceEq, ↓reduceIte, s_ab]; omega))
      · refine And.intro (by first | omega | (simp only [mS_iff, eq_self, Int.reduceEq, true_and, and_true, false_and, and_false, and_self, ↓reduceIte]; omega) | (simp only [mS_iff, eq_self, Int.reduceEq, true_and, and_true, false_and, and_false, and_self, ↓reduceIte] at *; omega)) ?_
        exact hQ1 ⟨hi, by unfold s_os; rw [h2]; simp only [Int.reduceEq, ↓reduceIte, s_ab]; omega⟩
    · skip
      refine ct_244 (by omega) (by omega) (fun h50 => ?_) (fun h50 => ?_)
      · have hh := h50
        refine And.intro (by first | omega | (simp only [mS_iff, eq_self, Int.reduceEq, true_and, and_true, false_and, and_false, and_self, ↓reduceIte]; omega) | (simp only [mS_iff, eq_self, Int.reduceEq, true_and, and_true, false_and, and_false, and_self, ↓reduceIte] at *; omega)) ?_
        exact hQ1 ⟨hi, by unfold s_os; rw [if_neg (by omega), if_neg (by omega), if_neg (by omega), if_neg (by omega), if_neg (by omega), if_neg (by omega), if_neg (by omega)]; exact hh⟩
      · have hh := h50
        refine And.intro (by first | omega | (simp only [mS_iff, eq_self, Int.reduceEq, true_and, and_true, false_and, and_false, and_self, ↓reduceIte]; omega) | (simp only [mS_iff, eq_self, Int.reduceEq, true_and, and_true, false_and, and_false, and_self, ↓reduceIte] at *; omega)) ?_
        exact hQ0 (fun q => absurd q.2 (by unfold s_os; rw [if_neg (by omega), if_neg (by omega), if_neg (by omega), if_neg (by omega), if_neg (by omega), if_neg (by omega), if_neg (by omega)]; exact hh))
  · have hi := h1
    refine And.intro (fun h => absurd h (by decide)) (fun _ => ?_)
    exact And.intro (Or.inl rfl) (hQ0 (fun q => hi q.1))
/-- is a dot u, v off a member's place one of it -/
def s_cov (t s u v : Int) : Prop := if t % 3 = 0 then u * u + v * v ≤ s * s else if t % 3 = 1 then u + v ≤ s else (u ≤ s ∧ v ≤ s)
theorem ct_88 {d : Nat} {m : aM} {Q : aO → aM → Prop} {t u v s : Int} (hd : 2 ≤ d) (ht : 0 ≤ t) (hu : 0 ≤ u ∧ u ≤ 1000) (hv : 0 ≤ v ∧ v ≤ 1000) (hs : 0 ≤ s ∧ s ≤ 1000) (hQ1 : s_cov t s u v → Q (.inl (some (aI 1))) m) (hQ0 : ¬ s_cov t s u v → Q (.inl (some (aI 0))) m) : am_wpc am_G am_T d 88 [aI t, aI u, aI v, aI s] m Q := by
  have t1 := Int.tmod_eq_emod_of_nonneg (b := 3) ht
  have q1 := s_sqb (a := u) (c := 1000) (by omega)
  have q2 := s_sqb (a := v) (c := 1000) (by omega)
  have q3 := s_sqb (a := s) (c := 1000) (by omega)
  refine am_in rfl hd (fun d hd => ?_)
  refine am_go 400 [] (am_wpc_cm _ _ _) wf_88 ?_
  refine And.intro (show 0 < 3 by first | omega | (simp only [mS_iff, eq_self, Int.reduceEq, true_and, and_true, false_and, and_false, and_self, ↓reduceIte]; omega) | (simp only [mS_iff, eq_self, Int.reduceEq, true_and, and_true, false_and, and_false, and_self, ↓reduceIte] at *; omega)) ?_
  refine And.intro (fun h1 => ?_) (fun h1 => ?_)
  · refine And.intro (show 0 < 3 by first | omega | (simp only [mS_iff, eq_self, Int.reduceEq, true_and, and_true, false_and, and_false, and_self, ↓reduceIte]; omega) | (simp only [mS_iff, eq_self, Int.reduceEq, true_and, and_true, false_and, and_false, and_self, ↓reduceIte] at *; omega)) ?_
    refine And.intro (fun h2 => ?_) (fun h2 => ?_)
    · refine ct_27 (by omega) (fun v3 h4 => ?_)
      refine And.intro (fun h5 => ?_) (fun h5 => ?_)
      · refine And.intro (by first | omega | (simp only [mS_iff, eq_self, Int.reduceEq, true_and, and_true, false_and, and_false, and_self, ↓reduceIte]; omega) | (simp only [mS_iff, eq_self, Int.reduceEq, true_and, and_true, false_and, and_false, and_self, ↓reduceIte] at *; omega)) ?_
        exact hQ0 (by unfold s_cov; first | (rw [if_pos (by omega)]; omega) | (rw [if_neg (by omega), if_pos (by omega)]; omega) | (rw [if_neg (by omega), if_neg (by omega)]; omega))
      · refine And.intro (by first | omega | (simp only [mS_iff, eq_self, Int.reduceEq, true_and, and_true, false_and, and_false, and_self, ↓reduceIte]; omega) | (simp only [mS_iff, eq_self, Int.reduceEq, true_and, and_true, false_and, and_false, and_self, ↓reduceIte] at *; omega)) ?_
        exact hQ1 (by unfold s_cov; first | (rw [if_pos (by omega)]; omega) | (rw [if_neg (by omega), if_pos (by omega)]; omega) | (rw [if_neg (by omega), if_neg (by omega)]; omega))
    · refine And.intro (show -2147483648 ≤ u + v ∧ u + v ≤ 2147483647 by first | omega | (simp only [mS_iff, eq_self, Int.reduceEq, true_and, and_true, false_and, and_false, and_self, ↓reduceIte]; omega) | (simp only [mS_iff, eq_self, Int.reduceEq, true_and, and_true, false_and, and_false, and_self, ↓reduceIte] at *; omega)) ?_
      refine And.intro (fun h6 => ?_) (fun h6 => ?_)
      · refine And.intro (by first | omega | (simp only [mS_iff, eq_self, Int.reduceEq, true_and, and_true, false_and, and_false, and_self, ↓reduceIte]; omega) | (simp only [mS_iff, eq_self, Int.reduceEq, true_and, and_true, false_and, and_false, and_self, ↓reduceIte] at *; omega)) ?_
        exact hQ0 (by unfold s_cov; first | (rw [if_pos (by omega)]; omega) | (rw [if_neg (by omega), if_pos (by omega)]; omega) | (rw [if_neg (by omega), if_neg (by omega)]; omega))
      · refine And.intro (by first | omega | (simp only [mS_iff, eq_self, Int.reduceEq, true_and, and_true, false_and, and_false, and_self, ↓reduceIte]; omega) | (simp only [mS_iff, eq_self, Int.reduceEq, true_and, and_true, false_and, and_false, and_self, ↓reduceIte] at *; omega)) ?_
        exact hQ1 (by unfold s_cov; first | (rw [if_pos (by omega)]; omega) | (rw [if_neg (by omega), if_pos (by omega)]; omega) | (rw [if_neg (by omega), if_neg (by omega)]; omega))
  · refine And.intro (show -2147483648 ≤ u * u ∧ u * u ≤ 2147483647 by first | omega | (simp only [mS_iff, eq_self, Int.reduceEq, true_and, and_true, false_and, and_false, and_self, ↓reduceIte]; omega) | (simp only [mS_iff, eq_self, Int.reduceEq, true_and, and_true, false_and, and_false, and_self, ↓reduceIte] at *; omega)) ?_
    refine And.intro (show -2147483648 ≤ v * v ∧ v * v ≤ 2147483647 by first | omega | (simp only [mS_iff, eq_self, Int.reduceEq, true_and, and_true, false_and, and_false, and_self, ↓reduceIte]; omega) | (simp only [mS_iff, eq_self, Int.reduceEq, true_and, and_true, false_and, and_false, and_self, ↓reduceIte] at *; omega)) ?_
    refine And.intro (show -2147483648 ≤ (u * u) + (v * v) ∧ (u * u) + (v * v) ≤ 2147483647 by first | omega | (simp only [mS_iff, eq_self, Int.reduceEq, true_and, and_true, false_and, and_false, and_self, ↓reduceIte]; omega) | (simp only [mS_iff, eq_self, Int.reduceEq, true_and, and_true, false_and, and_false, and_self, ↓reduceIte] at *; omega)) ?_
    refine And.intro (show -2147483648 ≤ s * s ∧ s * s ≤ 2147483647 by first | omega | (simp only [mS_iff, eq_self, Int.reduceEq, true_and, and_true, false_and, and_false, and_self, ↓reduceIte]; omega) | (simp only [mS_iff, eq_self, Int.reduceEq, true_and, and_true, false_and, and_false, and_self, ↓reduceIte] at *; omega)) ?_
    refine And.intro (fun h7 => ?_) (fun h7 => ?_)
    · refine And.intro (by first | omega | (simp only [mS_iff, eq_self, Int.reduceEq, true_and, and_true, false_and, and_false, and_self, ↓reduceIte]; omega) | (simp only [mS_iff, eq_self, Int.reduceEq, true_and, and_true, false_and, and_false, and_self, ↓reduceIte] at *; omega)) ?_
      exact hQ0 (by unfold s_cov; first | (rw [if_pos (by omega)]; omega) | (rw [if_neg (by omega), if_pos (by omega)]; omega) | (rw [if_neg (by omega), if_neg (by omega)]; omega))
    · refine And.intro (by first | omega | (simp only [mS_iff, eq_self, Int.reduceEq, true_and, and_true, false_and, and_false, and_self, ↓reduceIte]; omega) | (simp only [mS_iff, eq_self, Int.reduceEq, true_and, and_true, false_and, and_false, and_self, ↓reduceIte] at *; omega)) ?_
      exact hQ1 (by unfold s_cov; first | (rw [if_pos (by omega)]; omega) | (rw [if_neg (by omega), if_pos (by omega)]; omega) | (rw [if_neg (by omega), if_neg (by omega)]; omega))
theorem ct_249 {d : Nat} {m : aM} {Q : aO → aM → Prop} {t u v s : Int} (hd : 2 ≤ d) (ht : 0 ≤ t) (hu : -1000 ≤ u ∧ u ≤ 1000) (hv : -1000 ≤ v ∧ v ≤ 1000) (hs : 0 ≤ s ∧ s ≤ 1000) (hQ1 : s_cov t s (s_ab u) (s_ab v) → Q (.inl (some (aI 1))) m) (hQ0 : ¬ s_cov t s (s_ab u) (s_ab v) → Q (.inl (some (aI 0))) m) : am_wpc am_G am_T d 249 [aI t, aI s, aI u, aI v] m Q := by
  have t1 := Int.tmod_eq_emod_of_nonneg (b := 3) ht
  have q3 := s_sqb (a := s) (c := 1000) (by omega)
  refine am_in rfl hd (fun d hd => ?_)
  refine am_go 400 [] (am_wpc_cm _ _ _) wf_249 ?_
  refine ct_241 (by omega) (by omega) (fun v1 h2 => ?_)
  replace h2 : v1 = s_ab u := h2
  subst h2
  refine ct_241 (by omega) (by omega) (fun v3 h4 => ?_)
  replace h4 : v3 = s_ab v := h4
  subst h4
  have ub : 0 ≤ s_ab u ∧ s_ab u ≤ 1000 := by unfold s_ab; omega
  have vb : 0 ≤ s_ab v ∧ s_ab v ≤ 1000 := by unfold s_ab; omega
  have q1 := s_sqb (a := s_ab u) (c := 1000) (by omega)
  have q2 := s_sqb (a := s_ab v) (c := 1000) (by omega)
  refine And.intro (show 0 < 3 by first | omega | (simp only [mS_iff, eq_self, Int.reduceEq, true_and, and_true, false_and, and_false, and_self, ↓reduceIte]; omega) | (simp only [mS_iff, eq_self, Int.reduceEq, true_and, and_true, false_and, and_false, and_self, ↓reduceIte] at *; omega)) ?_
  refine And.intro (fun h5 => ?_) (fun h5 => ?_)
  · refine And.intro (show 0 < 3 by first | omega | (simp only [mS_iff, eq_self, Int.reduceEq, true_and, and_true, false_and, and_false, and_self, ↓reduceIte]; omega) | (simp only [mS_iff, eq_self, Int.reduceEq, true_and, and_true, false_and, and_false, and_self, ↓reduceIte] at *; omega)) ?_
    refine And.intro (fun h6 => ?_) (fun h6 => ?_)
    · refine And.intro (fun h7 => ?_) (fun h7 => ?_)
      · refine And.intro (by first | omega | (simp only [mS_iff, eq_self, Int.reduceEq, true_and, and_true, false_and, and_false, and_self, ↓reduceIte]; omega) | (simp only [mS_iff, eq_self, Int.reduceEq, true_and, and_true, false_and, and_false, and_self, ↓reduceIte] at *; omega)) ?_
        exact hQ0 (by unfold s_cov; first | (rw [if_pos (by omega)]; omega) | (rw [if_neg (by omega), if_pos (by omega)]; omega) | (rw [if_neg (by omega), if_neg (by omega)]; omega))
      · refine And.intro (fun h8 => ?_) (fun h8 => ?_)
        · refine And.intro (by first | omega | (simp only [mS_iff, eq_self, Int.reduceEq, true_and, and_true, false_and, and_false, and_self, ↓reduceIte]; omega) | (simp only [mS_iff, eq_self, Int.reduceEq, true_and, and_true, false_and, and_false, and_self, ↓reduceIte] at *; omega)) ?_
          exact hQ0 (by unfold s_cov; first | (rw [if_pos (by omega)]; omega) | (rw [if_neg (by omega), if_pos (by omega)]; omega) | (rw [if_neg (by omega), if_neg (by omega)]; omega))
        · refine And.intro (by first | omega | (simp only [mS_iff, eq_self, Int.reduceEq, true_and, and_true, false_and, and_false, and_self, ↓reduceIte]; omega) | (simp only [mS_iff, eq_self, Int.reduceEq, true_and, and_true, false_and, and_false, and_self, ↓reduceIte] at *; omega)) ?_
          exact hQ1 (by unfold s_cov; first | (rw [if_pos (by omega)]; omega) | (rw [if_neg (by omega), if_pos (by omega)]; omega) | (rw [if_neg (by omega), if_neg (by omega)]; omega))
    · refine And.intro (show -2147483648 ≤ (s_ab u) + (s_ab v) ∧ (s_ab u) + (s_ab v) ≤ 2147483647 by first | omega | (simp only [mS_iff, eq_self, Int.reduceEq, true_and, and_true, false_and, and_false, and_self, ↓reduceIte]; omega) | (simp only [mS_iff, eq_self, Int.reduceEq, true_and, and_true, false_and, and_false, and_self, ↓reduceIte] at *; omega)) ?_
      refine And.intro (fun h9 => ?_) (fun h9 => ?_)
      · refine And.intro (by first | omega | (simp only [mS_iff, eq_self, Int.reduceEq, true_and, and_true, false_and, and_false, and_self, ↓reduceIte]; omega) | (simp only [mS_iff, eq_self, Int.reduceEq, true_and, and_true, false_and, and_false, and_self, ↓reduceIte] at *; omega)) ?_
        exact hQ0 (by unfold s_cov; first | (rw [if_pos (by omega)]; omega) | (rw [if_neg (by omega), if_pos (by omega)]; omega) | (rw [if_neg (by omega), if_neg (by omega)]; omega))
      · refine And.intro (by first | omega | (simp only [mS_iff, eq_self, Int.reduceEq, true_and, and_true, false_and, and_false, and_self, ↓reduceIte]; omega) | (simp only [mS_iff, eq_self, Int.reduceEq, true_and, and_true, false_and, and_false, and_self, ↓reduceIte] at *; omega)) ?_
        exact hQ1 (by unfold s_cov; first | (rw [if_pos (by omega)]; omega) | (rw [if_neg (by omega), if_pos (by omega)]; omega) | (rw [if_neg (by omega), if_neg (by omega)]; omega))
  · refine And.intro (show -2147483648 ≤ (s_ab u) * (s_ab u) ∧ (s_ab u) * (s_ab u) ≤ 2147483647 by first | omega | (simp only [mS_iff, eq_self, Int.reduceEq, true_and, and_true, false_and, and_false, and_self, ↓reduceIte]; omega) | (simp only [mS_iff, eq_self, Int.reduceEq, true_and, and_true, false_and, and_false, and_self, ↓reduceIte] at *; omega)) ?_
    refine And.intro (show -2147483648 ≤ (s_ab v) * (s_ab v) ∧ (s_ab v) * (s_ab v) ≤ 2147483647 by first | omega | (simp only [mS_iff, eq_self, Int.reduceEq, true_and, and_true, false_and, and_false, and_self, ↓reduceIte]; omega) | (simp only [mS_iff, eq_self, Int.reduceEq, true_and, and_true, false_and, and_false, and_self, ↓reduceIte] at *; omega)) ?_
    refine And.intro (show -2147483648 ≤ ((s_ab u) * (s_ab u)) + ((s_ab v) * (s_ab v)) ∧ ((s_ab u) * (s_ab u)) + ((s_ab v) * (s_ab v)) ≤ 2147483647 by first | omega | (simp only [mS_iff, eq_self, Int.reduceEq, true_and, and_true, false_and, and_false, and_self, ↓reduceIte]; omega) | (simp only [mS_iff, eq_self, Int.reduceEq, true_and, and_true, false_and, and_false, and_self, ↓reduceIte] at *; omega)) ?_
    refine And.intro (show -2147483648 ≤ s * s ∧ s * s ≤ 2147483647 by first | omega | (simp only [mS_iff, eq_self, Int.reduceEq, true_and, and_true, false_and, and_false, and_self, ↓reduceIte]; omega) | (simp only [mS_iff, eq_self, Int.reduceEq, true_and, and_true, false_and, and_false, and_self, ↓reduceIte] at *; omega)) ?_
    refine And.intro (fun h10 => ?_) (fun h10 => ?_)
    · refine And.intro (by first | omega | (simp only [mS_iff, eq_self, Int.reduceEq, true_and, and_true, false_and, and_false, and_self, ↓reduceIte]; omega) | (simp only [mS_iff, eq_self, Int.reduceEq, true_and, and_true, false_and, and_false, and_self, ↓reduceIte] at *; omega)) ?_
      exact hQ0 (by unfold s_cov; first | (rw [if_pos (by omega)]; omega) | (rw [if_neg (by omega), if_pos (by omega)]; omega) | (rw [if_neg (by omega), if_neg (by omega)]; omega))
    · refine And.intro (by first | omega | (simp only [mS_iff, eq_self, Int.reduceEq, true_and, and_true, false_and, and_false, and_self, ↓reduceIte]; omega) | (simp only [mS_iff, eq_self, Int.reduceEq, true_and, and_true, false_and, and_false, and_self, ↓reduceIte] at *; omega)) ?_
      exact hQ1 (by unfold s_cov; first | (rw [if_pos (by omega)]; omega) | (rw [if_neg (by omega), if_pos (by omega)]; omega) | (rw [if_neg (by omega), if_neg (by omega)]; omega))
