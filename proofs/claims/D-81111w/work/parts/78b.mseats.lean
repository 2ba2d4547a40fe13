/-! needs: 78 -/
/-! CONTRACTS: seats of the reference; by tools/gen77.py -/
set_option maxRecDepth 100000
theorem ct_245 {d : Nat} {m : aM} {Q : aO → aM → Prop} {a l : Int} {w : Int → Int} (hd : 3 ≤ d) (hA : mRow m a w) (hl : 0 ≤ l ∧ l < 6) (hg : okGrp w (6 + 10 * l)) (ho : w (6 + 10 * l + 4) = 3 → 0 ≤ w (6 + 10 * l + 1) ∧ w (6 + 10 * l + 1) ≤ 7) (hQ : ∀ m', fr_2 53 54 m m' → (∀ k, 0 ≤ k → k < w (6 + 10 * l + 5) → m' 53 k = s_px w (6 + 10 * l) k ∧ m' 54 k = s_py w (6 + 10 * l) k) → Q (.inl none) m') : am_wpc am_G am_T d 245 [aR 41, aI a, aI l] m Q := by
  obtain ⟨u1, u2, u3, u4, u5, u6, u7, u8, u9, u10, u11, u12, -⟩ := hg
  refine am_in rfl hd (fun d hd => ?_)
  have K140 : ∀ (N : Nat), ∀ (k : Int) (n : Int) (o : Int) (x : aV) (y : aV), ∀ (m2 : aM), (12 - k).toNat = N → (0 ≤ k ∧ k ≤ w (6 + 10 * l + 5) ∧ w (6 + 10 * l + 4) = 3) → (n = w (6 + 10 * l + 5) ∧ o = w (6 + 10 * l + 1)) → (fr_2 53 54 m m2) → (∀ j, 0 ≤ j → j < k → m2 53 j = s_ox (w (6 + 10 * l + 1)) (w (6 + 10 * l + 5)) j ∧ m2 54 j = s_oy (w (6 + 10 * l + 1)) (w (6 + 10 * l + 5)) j) → am_WP am_G (am_wpc am_G am_T d) [] cd_245 Q 140 [aR 41, aI a, aI l, aI n, aI o, aI k, x, y] [] m2 := by
    intro N
    induction N using Nat.strongRecOn with
    | _ N ih140 =>
      intro k n o x y m2 hN i0 n0 fr i1
      obtain ⟨rfl, rfl⟩ := n0
      have od := ho i0.2.2
      refine am_go 400 [140] (am_wpc_cm _ _ _) wf_245 ?_
      skip
      refine And.intro (fun h1 => ?_) (fun h1 => ?_)
      · refine hQ _ fr (fun j j0 j1 => ?_)
        unfold s_px s_py
        rw [if_pos i0.2.2, if_pos i0.2.2]
        exact i1 j j0 (by omega)
      · refine And.intro (show -2147483648 ≤ 2 * k ∧ 2 * k ≤ 2147483647 by first | omega | (simp only [mS_iff, eq_self, Int.reduceEq, true_and, and_true, false_and, and_false, and_self, ↓reduceIte]; omega) | (simp only [mS_iff, eq_self, Int.reduceEq, true_and, and_true, false_and, and_false, and_self, ↓reduceIte] at *; omega)) ?_
        refine And.intro (show -2147483648 ≤ (2 * k) + 1 ∧ (2 * k) + 1 ≤ 2147483647 by first | omega | (simp only [mS_iff, eq_self, Int.reduceEq, true_and, and_true, false_and, and_false, and_self, ↓reduceIte]; omega) | (simp only [mS_iff, eq_self, Int.reduceEq, true_and, and_true, false_and, and_false, and_self, ↓reduceIte] at *; omega)) ?_
        refine And.intro (show -2147483648 ≤ ((2 * k) + 1) * 24 ∧ ((2 * k) + 1) * 24 ≤ 2147483647 by first | omega | (simp only [mS_iff, eq_self, Int.reduceEq, true_and, and_true, false_and, and_false, and_self, ↓reduceIte]; omega) | (simp only [mS_iff, eq_self, Int.reduceEq, true_and, and_true, false_and, and_false, and_self, ↓reduceIte] at *; omega)) ?_
        refine And.intro (show 0 < (w (6 + 10 * l + 5)) by first | omega | (simp only [mS_iff, eq_self, Int.reduceEq, true_and, and_true, false_and, and_false, and_self, ↓reduceIte]; omega) | (simp only [mS_iff, eq_self, Int.reduceEq, true_and, and_true, false_and, and_false, and_self, ↓reduceIte] at *; omega)) ?_
        have h2 : (((2 * k) + 1) * 24).tdiv (w (6 + 10 * l + 5)) = (((2 * k) + 1) * 24) / (w (6 + 10 * l + 5)) := Int.tdiv_eq_ediv_of_nonneg (by omega)
        have ab1 := Int.ediv_nonneg (a := (2 * k + 1) * 24) (b := w (6 + 10 * l + 5)) (by omega) (by omega)
        have ab2 := Int.ediv_le_self (a := (2 * k + 1) * 24) (w (6 + 10 * l + 5)) (by omega)
        refine And.intro (fun h3 => ?_) (fun h3 => ?_)
        · refine And.intro (rfl) ?_
          refine And.intro (fun h => absurd h (by decide)) (fun _ => ?_)
          refine And.intro (⟨rfl, by first | omega | (simp only [mS_iff, eq_self, Int.reduceEq, true_and, and_true, false_and, and_false, and_self, ↓reduceIte]; omega) | (simp only [mS_iff, eq_self, Int.reduceEq, true_and, and_true, false_and, and_false, and_self, ↓reduceIte] at *; omega)⟩) ?_
          refine And.intro (rfl) ?_
          refine And.intro (fun h => absurd h (by decide)) (fun _ => ?_)
          refine And.intro (show -2147483648 ≤ 2 * k ∧ 2 * k ≤ 2147483647 by first | omega | (simp only [mS_iff, eq_self, Int.reduceEq, true_and, and_true, false_and, and_false, and_self, ↓reduceIte]; omega) | (simp only [mS_iff, eq_self, Int.reduceEq, true_and, and_true, false_and, and_false, and_self, ↓reduceIte] at *; omega)) ?_
          refine And.intro (show -2147483648 ≤ (2 * k) + 1 ∧ (2 * k) + 1 ≤ 2147483647 by first | omega | (simp only [mS_iff, eq_self, Int.reduceEq, true_and, and_true, false_and, and_false, and_self, ↓reduceIte]; omega) | (simp only [mS_iff, eq_self, Int.reduceEq, true_and, and_true, false_and, and_false, and_self, ↓reduceIte] at *; omega)) ?_
          refine And.intro (show -2147483648 ≤ ((2 * k) + 1) * 30 ∧ ((2 * k) + 1) * 30 ≤ 2147483647 by first | omega | (simp only [mS_iff, eq_self, Int.reduceEq, true_and, and_true, false_and, and_false, and_self, ↓reduceIte]; omega) | (simp only [mS_iff, eq_self, Int.reduceEq, true_and, and_true, false_and, and_false, and_self, ↓reduceIte] at *; omega)) ?_
          refine And.intro (show 0 < (w (6 + 10 * l + 5)) by first | omega | (simp only [mS_iff, eq_self, Int.reduceEq, true_and, and_true, false_and, and_false, and_self, ↓reduceIte]; omega) | (simp only [mS_iff, eq_self, Int.reduceEq, true_and, and_true, false_and, and_false, and_self, ↓reduceIte] at *; omega)) ?_
          have h4 : (((2 * k) + 1) * 30).tdiv (w (6 + 10 * l + 5)) = (((2 * k) + 1) * 30) / (w (6 + 10 * l + 5)) := Int.tdiv_eq_ediv_of_nonneg (by omega)
          refine And.intro (⟨rfl, by first | omega | (simp only [mS_iff, eq_self, Int.reduceEq, true_and, and_true, false_and, and_false, and_self, ↓reduceIte]; omega) | (simp only [mS_iff, eq_self, Int.reduceEq, true_and, and_true, false_and, and_false, and_self, ↓reduceIte] at *; omega)⟩) ?_
          refine And.intro (show -2147483648 ≤ k + 1 ∧ k + 1 ≤ 2147483647 by first | omega | (simp only [mS_iff, eq_self, Int.reduceEq, true_and, and_true, false_and, and_false, and_self, ↓reduceIte]; omega) | (simp only [mS_iff, eq_self, Int.reduceEq, true_and, and_true, false_and, and_false, and_self, ↓reduceIte] at *; omega)) ?_
          refine ih140 _ ?_ _ _ _ _ _ _ (Eq.refl _) ?_ ?_ ?_ ?_
          · omega
          · first | omega | (simp only [mS_iff, eq_self, Int.reduceEq, true_and, and_true, false_and, and_false, and_self, ↓reduceIte]; omega) | (simp only [mS_iff, eq_self, Int.reduceEq, true_and, and_true, false_and, and_false, and_self, ↓reduceIte] at *; omega)
          · exact ⟨rfl, rfl⟩
          · exact (fr.S (by decide)).S (by decide)
          · intro j j0 j1
            by_cases e : j = k
            · subst e
              refine ⟨?_, ?_⟩
              · rw [mS_a _ _ _ _ (by omega), mS_eq]; unfold s_ox; rw [if_neg (by omega)]
              · rw [mS_eq]; unfold s_oy; rw [if_neg (by omega), if_neg (by omega), if_neg (by omega)]
            · refine ⟨?_, ?_⟩
              · rw [mS_a _ _ _ _ (by omega), mS_i _ _ _ _ e]; exact (i1 j j0 (by omega)).1
              · rw [mS_i _ _ _ _ e, mS_a _ _ _ _ (by omega)]; exact (i1 j j0 (by omega)).2
        · refine And.intro (fun h5 => ?_) (fun h5 => ?_)
          · refine And.intro (rfl) ?_
            refine And.intro (fun h => absurd h (by decide)) (fun _ => ?_)
            refine And.intro (⟨rfl, by first | omega | (simp only [mS_iff, eq_self, Int.reduceEq, true_and, and_true, false_and, and_false, and_self, ↓reduceIte]; omega) | (simp only [mS_iff, eq_self, Int.reduceEq, true_and, and_true, false_and, and_false, and_self, ↓reduceIte] at *; omega)⟩) ?_
            refine And.intro (rfl) ?_
            refine And.intro (fun h => absurd h (by decide)) (fun _ => ?_)
            refine And.intro (show -2147483648 ≤ 2 * k ∧ 2 * k ≤ 2147483647 by first | omega | (simp only [mS_iff, eq_self, Int.reduceEq, true_and, and_true, false_and, and_false, and_self, ↓reduceIte]; omega) | (simp only [mS_iff, eq_self, Int.reduceEq, true_and, and_true, false_and, and_false, and_self, ↓reduceIte] at *; omega)) ?_
            refine And.intro (show -2147483648 ≤ (2 * k) + 1 ∧ (2 * k) + 1 ≤ 2147483647 by first | omega | (simp only [mS_iff, eq_self, Int.reduceEq, true_and, and_true, false_and, and_false, and_self, ↓reduceIte]; omega) | (simp only [mS_iff, eq_self, Int.reduceEq, true_and, and_true, false_and, and_false, and_self, ↓reduceIte] at *; omega)) ?_
            refine And.intro (show -2147483648 ≤ ((2 * k) + 1) * 30 ∧ ((2 * k) + 1) * 30 ≤ 2147483647 by first | omega | (simp only [mS_iff, eq_self, Int.reduceEq, true_and, and_true, false_and, and_false, and_self, ↓reduceIte]; omega) | (simp only [mS_iff, eq_self, Int.reduceEq, true_and, and_true, false_and, and_false, and_self, ↓reduceIte] at *; omega)) ?_
            refine And.intro (show 0 < (w (6 + 10 * l + 5)) by first | omega | (simp only [mS_iff, eq_self, Int.reduceEq, true_and, and_true, false_and, and_false, and_self, ↓reduceIte]; omega) | (simp only [mS_iff, eq_self, Int.reduceEq, true_and, and_true, false_and, and_false, and_self, ↓reduceIte] at *; omega)) ?_
            have h6 : (((2 * k) + 1) * 30).tdiv (w (6 + 10 * l + 5)) = (((2 * k) + 1) * 30) / (w (6 + 10 * l + 5)) := Int.tdiv_eq_ediv_of_nonneg (by omega)
            refine And.intro (⟨rfl, by first | omega | (simp only [mS_iff, eq_self, Int.reduceEq, true_and, and_true, false_and, and_false, and_self, ↓reduceIte]; omega) | (simp only [mS_iff, eq_self, Int.reduceEq, true_and, and_true, false_and, and_false, and_self, ↓reduceIte] at *; omega)⟩) ?_
            refine And.intro (show -2147483648 ≤ k + 1 ∧ k + 1 ≤ 2147483647 by first | omega | (simp only [mS_iff, eq_self, Int.reduceEq, true_and, and_true, false_and, and_false, and_self, ↓reduceIte]; omega) | (simp only [mS_iff, eq_self, Int.reduceEq, true_and, and_true, false_and, and_false, and_self, ↓reduceIte] at *; omega)) ?_
            refine ih140 _ ?_ _ _ _ _ _ _ (Eq.refl _) ?_ ?_ ?_ ?_
            · omega
            · first | omega | (simp only [mS_iff, eq_self, Int.reduceEq, true_and, and_true, false_and, and_false, and_self, ↓reduceIte]; omega) | (simp only [mS_iff, eq_self, Int.reduceEq, true_and, and_true, false_and, and_false, and_self, ↓reduceIte] at *; omega)
            · exact ⟨rfl, rfl⟩
            · exact (fr.S (by decide)).S (by decide)
            · intro j j0 j1
              by_cases e : j = k
              · subst e
                refine ⟨?_, ?_⟩
                · rw [mS_a _ _ _ _ (by omega), mS_eq]; unfold s_ox; rw [if_neg (by omega)]
                · rw [mS_eq]; unfold s_oy; rw [if_neg (by omega), if_neg (by omega), if_neg (by omega)]
              · refine ⟨?_, ?_⟩
                · rw [mS_a _ _ _ _ (by omega), mS_i _ _ _ _ e]; exact (i1 j j0 (by omega)).1
                · rw [mS_i _ _ _ _ e, mS_a _ _ _ _ (by omega)]; exact (i1 j j0 (by omega)).2
          · refine And.intro (fun h7 => ?_) (fun h7 => ?_)
            · refine And.intro (rfl) ?_
              refine And.intro (fun h => absurd h (by decide)) (fun _ => ?_)
              refine And.intro (⟨rfl, by first | omega | (simp only [mS_iff, eq_self, Int.reduceEq, true_and, and_true, false_and, and_false, and_self, ↓reduceIte]; omega) | (simp only [mS_iff, eq_self, Int.reduceEq, true_and, and_true, false_and, and_false, and_self, ↓reduceIte] at *; omega)⟩) ?_
              refine And.intro (rfl) ?_
              refine And.intro (fun h => absurd h (by decide)) (fun _ => ?_)
              refine And.intro (show -2147483648 ≤ 2 * k ∧ 2 * k ≤ 2147483647 by first | omega | (simp only [mS_iff, eq_self, Int.reduceEq, true_and, and_true, false_and, and_false, and_self, ↓reduceIte]; omega) | (simp only [mS_iff, eq_self, Int.reduceEq, true_and, and_true, false_and, and_false, and_self, ↓reduceIte] at *; omega)) ?_
              refine And.intro (show -2147483648 ≤ (2 * k) + 1 ∧ (2 * k) + 1 ≤ 2147483647 by first | omega | (simp only [mS_iff, eq_self, Int.reduceEq, true_and, and_true, false_and, and_false, and_self, ↓reduceIte]; omega) | (simp only [mS_iff, eq_self, Int.reduceEq, true_and, and_true, false_and, and_false, and_self, ↓reduceIte] at *; omega)) ?_
              refine And.intro (show -2147483648 ≤ ((2 * k) + 1) * 30 ∧ ((2 * k) + 1) * 30 ≤ 2147483647 by first | omega | (simp only [mS_iff, eq_self, Int.reduceEq, true_and, and_true, false_and, and_false, and_self, ↓reduceIte]; omega) | (simp only [mS_iff, eq_self, Int.reduceEq, true_and, and_true, false_and, and_false, and_self, ↓reduceIte] at *; omega)) ?_
              refine And.intro (show 0 < (w (6 + 10 * l + 5)) by first | omega | (simp only [mS_iff, eq_self, Int.reduceEq, true_and, and_true, false_and, and_false, and_self, ↓reduceIte]; omega) | (simp only [mS_iff, eq_self, Int.reduceEq, true_and, and_true, false_and, and_false, and_self, ↓reduceIte] at *; omega)) ?_
              have h8 : (((2 * k) + 1) * 30).tdiv (w (6 + 10 * l + 5)) = (((2 * k) + 1) * 30) / (w (6 + 10 * l + 5)) := Int.tdiv_eq_ediv_of_nonneg (by omega)
              refine And.intro (⟨rfl, by first | omega | (simp only [mS_iff, eq_self, Int.reduceEq, true_and, and_true, false_and, and_false, and_self, ↓reduceIte]; omega) | (simp only [mS_iff, eq_self, Int.reduceEq, true_and, and_true, false_and, and_false, and_self, ↓reduceIte] at *; omega)⟩) ?_
              refine And.intro (show -2147483648 ≤ k + 1 ∧ k + 1 ≤ 2147483647 by first | omega | (simp only [mS_iff, eq_self, Int.reduceEq, true_and, and_true, false_and, and_false, and_self, ↓reduceIte]; omega) | (simp only [mS_iff, eq_self, Int.reduceEq, true_and, and_true, false_and, and_false, and_self, ↓reduceIte] at *; omega)) ?_
              refine ih140 _ ?_ _ _ _ _ _ _ (Eq.refl _) ?_ ?_ ?_ ?_
              · omega
              · first | omega | (simp only [mS_iff, eq_self, Int.reduceEq, true_and, and_true, false_and, and_false, and_self, ↓reduceIte]; omega) | (simp only [mS_iff, eq_self, Int.reduceEq, true_and, and_true, false_and, and_false, and_self, ↓reduceIte] at *; omega)
              · exact ⟨rfl, rfl⟩
              · exact (fr.S (by decide)).S (by decide)
              · intro j j0 j1
                by_cases e : j = k
                · subst e
                  refine ⟨?_, ?_⟩
                  · rw [mS_a _ _ _ _ (by omega), mS_eq]; unfold s_ox; rw [if_neg (by omega)]
                  · rw [mS_eq]; unfold s_oy; rw [if_neg (by omega), if_neg (by omega), if_neg (by omega)]
                · refine ⟨?_, ?_⟩
                  · rw [mS_a _ _ _ _ (by omega), mS_i _ _ _ _ e]; exact (i1 j j0 (by omega)).1
                  · rw [mS_i _ _ _ _ e, mS_a _ _ _ _ (by omega)]; exact (i1 j j0 (by omega)).2
            · refine And.intro (fun h9 => ?_) (fun h9 => ?_)
              · refine And.intro (rfl) ?_
                refine And.intro (fun _ => ?_) (fun h => absurd h (by decide))
                refine And.intro (⟨rfl, by first | omega | (simp only [mS_iff, eq_self, Int.reduceEq, true_and, and_true, false_and, and_false, and_self, ↓reduceIte]; omega) | (simp only [mS_iff, eq_self, Int.reduceEq, true_and, and_true, false_and, and_false, and_self, ↓reduceIte] at *; omega)⟩) ?_
                refine And.intro (rfl) ?_
                refine And.intro (fun _ => ?_) (fun h => absurd h (by decide))
                refine And.intro (fun h10 => ?_) (fun h10 => ?_)
                · replace h10 : (w (6 + 10 * l + 1)) ≠ 2 := h10
                  refine And.intro (fun h11 => ?_) (fun h11 => ?_)
                  · replace h11 : (w (6 + 10 * l + 1)) ≠ 6 := h11
                    refine And.intro (⟨rfl, by first | omega | (simp only [mS_iff, eq_self, Int.reduceEq, true_and, and_true, false_and, and_false, and_self, ↓reduceIte]; omega) | (simp only [mS_iff, eq_self, Int.reduceEq, true_and, and_true, false_and, and_false, and_self, ↓reduceIte] at *; omega)⟩) ?_
                    refine And.intro (show -2147483648 ≤ k + 1 ∧ k + 1 ≤ 2147483647 by first | omega | (simp only [mS_iff, eq_self, Int.reduceEq, true_and, and_true, false_and, and_false, and_self, ↓reduceIte]; omega) | (simp only [mS_iff, eq_self, Int.reduceEq, true_and, and_true, false_and, and_false, and_self, ↓reduceIte] at *; omega)) ?_
                    refine ih140 _ ?_ _ _ _ _ _ _ (Eq.refl _) ?_ ?_ ?_ ?_
                    · omega
                    · first | omega | (simp only [mS_iff, eq_self, Int.reduceEq, true_and, and_true, false_and, and_false, and_self, ↓reduceIte]; omega) | (simp only [mS_iff, eq_self, Int.reduceEq, true_and, and_true, false_and, and_false, and_self, ↓reduceIte] at *; omega)
                    · exact ⟨rfl, rfl⟩
                    · exact (fr.S (by decide)).S (by decide)
                    · intro j j0 j1
                      by_cases e : j = k
                      · subst e
                        refine ⟨?_, ?_⟩
                        · rw [mS_a _ _ _ _ (by omega), mS_eq]; unfold s_ox; rw [if_pos (by omega)]
                        · rw [mS_eq]; unfold s_oy; rw [if_pos (by omega)]
                      · refine ⟨?_, ?_⟩
                        · rw [mS_a _ _ _ _ (by omega), mS_i _ _ _ _ e]; exact (i1 j j0 (by omega)).1
                        · rw [mS_i _ _ _ _ e, mS_a _ _ _ _ (by omega)]; exact (i1 j j0 (by omega)).2
                  · replace h11 : (w (6 + 10 * l + 1)) = 6 := h11
                    refine And.intro (⟨rfl, by first | omega | (simp only [mS_iff, eq_self, Int.reduceEq, true_and, and_true, false_and, and_false, and_self, ↓reduceIte]; omega) | (simp only [mS_iff, eq_self, Int.reduceEq, true_and, and_true, false_and, and_false, and_self, ↓reduceIte] at *; omega)⟩) ?_
                    refine And.intro (show -2147483648 ≤ k + 1 ∧ k + 1 ≤ 2147483647 by first | omega | (simp only [mS_iff, eq_self, Int.reduceEq, true_and, and_true, false_and, and_false, and_self, ↓reduceIte]; omega) | (simp only [mS_iff, eq_self, Int.reduceEq, true_and, and_true, false_and, and_false, and_self, ↓reduceIte] at *; omega)) ?_
                    refine ih140 _ ?_ _ _ _ _ _ _ (Eq.refl _) ?_ ?_ ?_ ?_
                    · omega
                    · first | omega | (simp only [mS_iff, eq_self, Int.reduceEq, true_and, and_true, false_and, and_false, and_self, ↓reduceIte]; omega) | (simp only [mS_iff, eq_self, Int.reduceEq, true_and, and_true, false_and, and_false, and_self, ↓reduceIte] at *; omega)
                    · exact ⟨rfl, rfl⟩
                    · exact (fr.S (by decide)).S (by decide)
                    · intro j j0 j1
                      by_cases e : j = k
                      · subst e
                        refine ⟨?_, ?_⟩
                        · rw [mS_a _ _ _ _ (by omega), mS_eq]; unfold s_ox; rw [if_pos (by omega)]
                        · rw [mS_eq]; unfold s_oy; rw [if_neg (by omega), if_neg (by omega), if_pos (by omega)]
                      · refine ⟨?_, ?_⟩
                        · rw [mS_a _ _ _ _ (by omega), mS_i _ _ _ _ e]; exact (i1 j j0 (by omega)).1
                        · rw [mS_i _ _ _ _ e, mS_a _ _ _ _ (by omega)]; exact (i1 j j0 (by omega)).2
                · replace h10 : (w (6 + 10 * l + 1)) = 2 := h10
                  refine And.intro (show -2147483648 ≤ 5 * ((((2 * k) + 1) * 24).tdiv (w (6 + 10 * l + 5))) ∧ 5 * ((((2 * k) + 1) * 24).tdiv (w (6 + 10 * l + 5))) ≤ 2147483647 by first | omega | (simp only [mS_iff, eq_self, Int.reduceEq, true_and, and_true, false_and, and_false, and_self, ↓reduceIte]; omega) | (simp only [mS_iff, eq_self, Int.reduceEq, true_and, and_true, false_and, and_false, and_self, ↓reduceIte] at *; omega)) ?_
                  refine And.intro (show 0 < 4 by first | omega | (simp only [mS_iff, eq_self, Int.reduceEq, true_and, and_true, false_and, and_false, and_self, ↓reduceIte]; omega) | (simp only [mS_iff, eq_self, Int.reduceEq, true_and, and_true, false_and, and_false, and_self, ↓reduceIte] at *; omega)) ?_
                  have h12 : (5 * ((((2 * k) + 1) * 24).tdiv (w (6 + 10 * l + 5)))).tdiv 4 = (5 * ((((2 * k) + 1) * 24).tdiv (w (6 + 10 * l + 5)))) / 4 := Int.tdiv_eq_ediv_of_nonneg (by omega)
                  refine And.intro (⟨rfl, by first | omega | (simp only [mS_iff, eq_self, Int.reduceEq, true_and, and_true, false_and, and_false, and_self, ↓reduceIte]; omega) | (simp only [mS_iff, eq_self, Int.reduceEq, true_and, and_true, false_and, and_false, and_self, ↓reduceIte] at *; omega)⟩) ?_
                  refine And.intro (show -2147483648 ≤ k + 1 ∧ k + 1 ≤ 2147483647 by first | omega | (simp only [mS_iff, eq_self, Int.reduceEq, true_and, and_true, false_and, and_false, and_self, ↓reduceIte]; omega) | (simp only [mS_iff, eq_self, Int.reduceEq, true_and, and_true, false_and, and_false, and_self, ↓reduceIte] at *; omega)) ?_
                  refine ih140 _ ?_ _ _ _ _ _ _ (Eq.refl _) ?_ ?_ ?_ ?_
                  · omega
                  · first | omega | (simp only [mS_iff, eq_self, Int.reduceEq, true_and, and_true, false_and, and_false, and_self, ↓reduceIte]; omega) | (simp only [mS_iff, eq_self, Int.reduceEq, true_and, and_true, false_and, and_false, and_self, ↓reduceIte] at *; omega)
                  · exact ⟨rfl, rfl⟩
                  · exact (fr.S (by decide)).S (by decide)
                  · intro j j0 j1
                    by_cases e : j = k
                    · subst e
                      refine ⟨?_, ?_⟩
                      · rw [mS_a _ _ _ _ (by omega), mS_eq]; unfold s_ox; rw [if_pos (by omega)]
                      · rw [mS_eq]; unfold s_oy; rw [if_neg (by omega), if_pos (by omega)]
                    · refine ⟨?_, ?_⟩
                      · rw [mS_a _ _ _ _ (by omega), mS_i _ _ _ _ e]; exact (i1 j j0 (by omega)).1
                      · rw [mS_i _ _ _ _ e, mS_a _ _ _ _ (by omega)]; exact (i1 j j0 (by omega)).2
              · refine And.intro (rfl) ?_
                refine And.intro (fun h => absurd h (by decide)) (fun _ => ?_)
                refine And.intro (⟨rfl, by first | omega | (simp only [mS_iff, eq_self, Int.reduceEq, true_and, and_true, false_and, and_false, and_self, ↓reduceIte]; omega) | (simp only [mS_iff, eq_self, Int.reduceEq, true_and, and_true, false_and, and_false, and_self, ↓reduceIte] at *; omega)⟩) ?_
                refine And.intro (rfl) ?_
                refine And.intro (fun h => absurd h (by decide)) (fun _ => ?_)
                refine And.intro (show -2147483648 ≤ 2 * k ∧ 2 * k ≤ 2147483647 by first | omega | (simp only [mS_iff, eq_self, Int.reduceEq, true_and, and_true, false_and, and_false, and_self, ↓reduceIte]; omega) | (simp only [mS_iff, eq_self, Int.reduceEq, true_and, and_true, false_and, and_false, and_self, ↓reduceIte] at *; omega)) ?_
                refine And.intro (show -2147483648 ≤ (2 * k) + 1 ∧ (2 * k) + 1 ≤ 2147483647 by first | omega | (simp only [mS_iff, eq_self, Int.reduceEq, true_and, and_true, false_and, and_false, and_self, ↓reduceIte]; omega) | (simp only [mS_iff, eq_self, Int.reduceEq, true_and, and_true, false_and, and_false, and_self, ↓reduceIte] at *; omega)) ?_
                refine And.intro (show -2147483648 ≤ ((2 * k) + 1) * 30 ∧ ((2 * k) + 1) * 30 ≤ 2147483647 by first | omega | (simp only [mS_iff, eq_self, Int.reduceEq, true_and, and_true, false_and, and_false, and_self, ↓reduceIte]; omega) | (simp only [mS_iff, eq_self, Int.reduceEq, true_and, and_true, false_and, and_false, and_self, ↓reduceIte] at *; omega)) ?_
                refine And.intro (show 0 < (w (6 + 10 * l + 5)) by first | omega | (simp only [mS_iff, eq_self, Int.reduceEq, true_and, and_true, false_and, and_false, and_self, ↓reduceIte]; omega) | (simp only [mS_iff, eq_self, Int.reduceEq, true_and, and_true, false_and, and_false, and_self, ↓reduceIte] at *; omega)) ?_
                have h13 : (((2 * k) + 1) * 30).tdiv (w (6 + 10 * l + 5)) = (((2 * k) + 1) * 30) / (w (6 + 10 * l + 5)) := Int.tdiv_eq_ediv_of_nonneg (by omega)
                refine And.intro (⟨rfl, by first | omega | (simp only [mS_iff, eq_self, Int.reduceEq, true_and, and_true, false_and, and_false, and_self, ↓reduceIte]; omega) | (simp only [mS_iff, eq_self, Int.reduceEq, true_and, and_true, false_and, and_false, and_self, ↓reduceIte] at *; omega)⟩) ?_
                refine And.intro (show -2147483648 ≤ k + 1 ∧ k + 1 ≤ 2147483647 by first | omega | (simp only [mS_iff, eq_self, Int.reduceEq, true_and, and_true, false_and, and_false, and_self, ↓reduceIte]; omega) | (simp only [mS_iff, eq_self, Int.reduceEq, true_and, and_true, false_and, and_false, and_self, ↓reduceIte] at *; omega)) ?_
                refine ih140 _ ?_ _ _ _ _ _ _ (Eq.refl _) ?_ ?_ ?_ ?_
                · omega
                · first | omega | (simp only [mS_iff, eq_self, Int.reduceEq, true_and, and_true, false_and, and_false, and_self, ↓reduceIte]; omega) | (simp only [mS_iff, eq_self, Int.reduceEq, true_and, and_true, false_and, and_false, and_self, ↓reduceIte] at *; omega)
                · exact ⟨rfl, rfl⟩
                · exact (fr.S (by decide)).S (by decide)
                · intro j j0 j1
                  by_cases e : j = k
                  · subst e
                    refine ⟨?_, ?_⟩
                    · rw [mS_a _ _ _ _ (by omega), mS_eq]; unfold s_ox; rw [if_neg (by omega)]
                    · rw [mS_eq]; unfold s_oy; rw [if_neg (by omega), if_neg (by omega), if_neg (by omega)]
                  · refine ⟨?_, ?_⟩
                    · rw [mS_a _ _ _ _ (by omega), mS_i _ _ _ _ e]; exact (i1 j j0 (by omega)).1
                    · rw [mS_i _ _ _ _ e, mS_a _ _ _ _ (by omega)]; exact (i1 j j0 (by omega)).2
  refine am_go 400 [140] (am_wpc_cm _ _ _) wf_245 ?_
  refine And.intro (rfl) ?_
  refine ct_188 (by omega) hA (by omega) (by omega) (fun v14 h15 => ?_)
  replace h15 : v14 = w (6 + 10 * l + 5) := h15
  refine And.intro (rfl) ?_
  refine ct_188 (by omega) hA (by omega) (by omega) (fun v16 h17 => ?_)
  replace h17 : v16 = w (6 + 10 * l + 4) := h17
  refine And.intro (fun h18 => ?_) (fun h18 => ?_)
  · refine And.intro (rfl) ?_
    refine ct_188 (by omega) hA (by omega) (by omega) (fun v19 h20 => ?_)
    replace h20 : v19 = w (6 + 10 * l + 1) := h20
    refine K140 _ _ _ _ _ _ _ (Eq.refl _) ?_ ?_ ?_ ?_
    · first | omega | (simp only [mS_iff, eq_self, Int.reduceEq, true_and, and_true, false_and, and_false, and_self, ↓reduceIte]; omega) | (simp only [mS_iff, eq_self, Int.reduceEq, true_and, and_true, false_and, and_false, and_self, ↓reduceIte] at *; omega)
    · omega
    · exact fr_2.rfl _ _ _
    · intro j a b
      omega
  · refine And.intro (rfl) ?_
    refine ct_188 (by omega) hA (by omega) (by omega) (fun v21 h22 => ?_)
    replace h22 : v21 = w (6 + 10 * l + 9) := h22
    refine And.intro (fun h23 => ?_) (fun h23 => ?_)
    · refine And.intro (fun h24 => ?_) (fun h24 => ?_)
      · refine And.intro (fun h25 => ?_) (fun h25 => ?_)
        · refine And.intro (fun h26 => ?_) (fun h26 => ?_)
          · refine And.intro (rfl) ?_
            refine ct_246 (by omega) (by omega) (by decide) (fun mw27 h28 h29 => ?_)
            have hf := h28
            have hk := h29
            refine hQ _ hf (fun k k0 k1 => ?_)
            have e := hk k k0 (by omega)
            rw [h15] at e
            unfold s_px s_py
            rw [if_neg (by omega), if_neg (by omega)]
            rw [show s_x0 (w (6 + 10 * l + 9)) = 33 by unfold s_x0; omega, show s_x1 (w (6 + 10 * l + 9)) = 46 by unfold s_x1; omega, show s_y0 (w (6 + 10 * l + 9)) = 16 by unfold s_y0; omega, show s_y1 (w (6 + 10 * l + 9)) = 39 by unfold s_y1; omega]
            exact e
          · refine And.intro (rfl) ?_
            refine ct_246 (by omega) (by omega) (by decide) (fun mw30 h31 h32 => ?_)
            have hf := h31
            have hk := h32
            refine hQ _ hf (fun k k0 k1 => ?_)
            have e := hk k k0 (by omega)
            rw [h15] at e
            unfold s_px s_py
            rw [if_neg (by omega), if_neg (by omega)]
            rw [show s_x0 (w (6 + 10 * l + 9)) = 1 by unfold s_x0; omega, show s_x1 (w (6 + 10 * l + 9)) = 14 by unfold s_x1; omega, show s_y0 (w (6 + 10 * l + 9)) = 16 by unfold s_y0; omega, show s_y1 (w (6 + 10 * l + 9)) = 39 by unfold s_y1; omega]
            exact e
        · refine And.intro (rfl) ?_
          refine ct_246 (by omega) (by omega) (by decide) (fun mw33 h34 h35 => ?_)
          have hf := h34
          have hk := h35
          refine hQ _ hf (fun k k0 k1 => ?_)
          have e := hk k k0 (by omega)
          rw [h15] at e
          unfold s_px s_py
          rw [if_neg (by omega), if_neg (by omega)]
          rw [show s_x0 (w (6 + 10 * l + 9)) = 12 by unfold s_x0; omega, show s_x1 (w (6 + 10 * l + 9)) = 35 by unfold s_x1; omega, show s_y0 (w (6 + 10 * l + 9)) = 40 by unfold s_y0; omega, show s_y1 (w (6 + 10 * l + 9)) = 53 by unfold s_y1; omega]
          exact e
      · refine And.intro (rfl) ?_
        refine ct_246 (by omega) (by omega) (by decide) (fun mw36 h37 h38 => ?_)
        have hf := h37
        have hk := h38
        refine hQ _ hf (fun k k0 k1 => ?_)
        have e := hk k k0 (by omega)
        rw [h15] at e
        unfold s_px s_py
        rw [if_neg (by omega), if_neg (by omega)]
        rw [show s_x0 (w (6 + 10 * l + 9)) = 6 by unfold s_x0; omega, show s_x1 (w (6 + 10 * l + 9)) = 41 by unfold s_x1; omega, show s_y0 (w (6 + 10 * l + 9)) = 2 by unfold s_y0; omega, show s_y1 (w (6 + 10 * l + 9)) = 15 by unfold s_y1; omega]
        exact e
    · refine And.intro (rfl) ?_
      refine ct_246 (by omega) (by omega) (by decide) (fun mw39 h40 h41 => ?_)
      have hf := h40
      have hk := h41
      refine hQ _ hf (fun k k0 k1 => ?_)
      have e := hk k k0 (by omega)
      rw [h15] at e
      unfold s_px s_py
      rw [if_neg (by omega), if_neg (by omega)]
      rw [show s_x0 (w (6 + 10 * l + 9)) = 6 by unfold s_x0; omega, show s_x1 (w (6 + 10 * l + 9)) = 41 by unfold s_x1; omega, show s_y0 (w (6 + 10 * l + 9)) = 6 by unfold s_y0; omega, show s_y1 (w (6 + 10 * l + 9)) = 47 by unfold s_y1; omega]
      exact e
