/-! needs: c03 -/
/-! CALLS that look, reference; by tools/genc4.py -/
set_option maxRecDepth 100000
set_option maxHeartbeats 8000000
theorem ct_185w {d : Nat} {m : aM} {Q : aO → aM → Prop} {a i : Int} {w : Int → Int} (hd : 4 ≤ d) (hA : mRow m a w) (hi : 0 ≤ i ∧ i ≤ 2147483647) (hw : 0 ≤ w 5 ∧ w 5 ≤ 6) (ho : ∀ l, 0 ≤ l → l < w 5 → w (6 + 10 * l) = 0 ∨ w (6 + 10 * l) = 1) (hQ1 : ∀ c, s_bi w (w 5) i c → Q (.inl (some (aI c))) m) (hQ0 : s_bt w ≤ i → Q (.inl (some (aI (-1)))) m) : am_wpc am_G am_T d 185 [aR 41, aI a, aI i] m Q := by
  refine am_in rfl hd (fun d hd => ?_)
  have K5 : ∀ (N : Nat), ∀ (l : Int) (n : Int) (x5 : aV), (6 - l).toNat = N → (0 ≤ l ∧ l ≤ w 5 ∧ 0 ≤ n ∧ i = s_bn w l + n) → am_WP am_G (am_wpc am_G am_T d) [] cd_185 Q 5 [aR 41, aI a, aI i, aI n, aI l, x5] [] m := by
    intro N
    induction N using Nat.strongRecOn with
    | _ N ih5 =>
      intro l n x5 hN i0
      have e5 := s_bn_s (w := w) (l := l) (by omega)
      have e4 := s_bn_b w (l := l) (by omega) (by omega)
      have e6 := s_b1_b w l
      have e7 := s_b2_b w l
      have e8 := s_b3_b w l
      refine am_go 400 [5] (am_wpc_cm _ _ _) wf_185 ?_
      refine And.intro (rfl) ?_
      refine ct_186 (by omega) hA (by omega) (fun v1 h2 => ?_)
      replace h2 : v1 = w 5 := h2
      refine And.intro (fun h3 => ?_) (fun h3 => ?_)
      · exact hQ0 (by unfold s_bt; rw [show w 5 = l by omega]; omega)
      · have e9 := s_bl_eq (w := w) (l := l) (by omega)
        have e10 := ho l (by omega) (by omega)
        refine And.intro (fun h => absurd h (by decide)) (fun _ => ?_)
        refine And.intro (rfl) ?_
        refine ct_187_1 (by omega) hA (by omega) (by omega) (fun h4 => ?_) (fun h4 => ?_)
        · refine And.intro (fun h => absurd h (by decide)) (fun _ => ?_)
          refine And.intro (fun h5 => ?_) (fun h5 => ?_)
          · refine And.intro (show -2147483648 ≤ n + (-1) ∧ n + (-1) ≤ 2147483647 by first | omega | (simp only [mS_iff, eq_self, Int.reduceEq, true_and, and_true, false_and, and_false, and_self, ↓reduceIte]; omega) | (simp only [mS_iff, eq_self, Int.reduceEq, true_and, and_true, false_and, and_false, and_self, ↓reduceIte] at *; omega)) ?_
            refine And.intro (show -2147483648 ≤ 1 + 1 ∧ 1 + 1 ≤ 2147483647 by first | omega | (simp only [mS_iff, eq_self, Int.reduceEq, true_and, and_true, false_and, and_false, and_self, ↓reduceIte]; omega) | (simp only [mS_iff, eq_self, Int.reduceEq, true_and, and_true, false_and, and_false, and_self, ↓reduceIte] at *; omega)) ?_
            refine And.intro (fun h => absurd h (by decide)) (fun _ => ?_)
            refine And.intro (rfl) ?_
            refine ct_187_2 (by omega) hA (by omega) (by omega) (fun h6 => ?_) (fun h6 => ?_)
            · refine And.intro (fun h => absurd h (by decide)) (fun _ => ?_)
              refine And.intro (fun h7 => ?_) (fun h7 => ?_)
              · refine And.intro (show -2147483648 ≤ (n + (-1)) + (-1) ∧ (n + (-1)) + (-1) ≤ 2147483647 by first | omega | (simp only [mS_iff, eq_self, Int.reduceEq, true_and, and_true, false_and, and_false, and_self, ↓reduceIte]; omega) | (simp only [mS_iff, eq_self, Int.reduceEq, true_and, and_true, false_and, and_false, and_self, ↓reduceIte] at *; omega)) ?_
                refine And.intro (show -2147483648 ≤ 2 + 1 ∧ 2 + 1 ≤ 2147483647 by first | omega | (simp only [mS_iff, eq_self, Int.reduceEq, true_and, and_true, false_and, and_false, and_self, ↓reduceIte]; omega) | (simp only [mS_iff, eq_self, Int.reduceEq, true_and, and_true, false_and, and_false, and_self, ↓reduceIte] at *; omega)) ?_
                refine And.intro (fun h => absurd h (by decide)) (fun _ => ?_)
                refine And.intro (rfl) ?_
                refine ct_187_3 (by omega) hA (by omega) (by omega) (fun h8 => ?_) (fun h8 => ?_)
                · refine And.intro (fun h => absurd h (by decide)) (fun _ => ?_)
                  refine And.intro (fun h9 => ?_) (fun h9 => ?_)
                  · refine And.intro (show -2147483648 ≤ ((n + (-1)) + (-1)) + (-1) ∧ ((n + (-1)) + (-1)) + (-1) ≤ 2147483647 by first | omega | (simp only [mS_iff, eq_self, Int.reduceEq, true_and, and_true, false_and, and_false, and_self, ↓reduceIte]; omega) | (simp only [mS_iff, eq_self, Int.reduceEq, true_and, and_true, false_and, and_false, and_self, ↓reduceIte] at *; omega)) ?_
                    refine And.intro (show -2147483648 ≤ 3 + 1 ∧ 3 + 1 ≤ 2147483647 by first | omega | (simp only [mS_iff, eq_self, Int.reduceEq, true_and, and_true, false_and, and_false, and_self, ↓reduceIte]; omega) | (simp only [mS_iff, eq_self, Int.reduceEq, true_and, and_true, false_and, and_false, and_self, ↓reduceIte] at *; omega)) ?_
                    refine And.intro (fun _ => ?_) (fun h => absurd h (by decide))
                    refine And.intro (show -2147483648 ≤ l + 1 ∧ l + 1 ≤ 2147483647 by first | omega | (simp only [mS_iff, eq_self, Int.reduceEq, true_and, and_true, false_and, and_false, and_self, ↓reduceIte]; omega) | (simp only [mS_iff, eq_self, Int.reduceEq, true_and, and_true, false_and, and_false, and_self, ↓reduceIte] at *; omega)) ?_
                    refine ih5 _ ?_ _ _ _ (Eq.refl _) ?_
                    · omega
                    · omega
                  · refine And.intro (show -2147483648 ≤ 10 * l ∧ 10 * l ≤ 2147483647 by first | omega | (simp only [mS_iff, eq_self, Int.reduceEq, true_and, and_true, false_and, and_false, and_self, ↓reduceIte]; omega) | (simp only [mS_iff, eq_self, Int.reduceEq, true_and, and_true, false_and, and_false, and_self, ↓reduceIte] at *; omega)) ?_
                    refine And.intro (show -2147483648 ≤ (10 * l) + 3 ∧ (10 * l) + 3 ≤ 2147483647 by first | omega | (simp only [mS_iff, eq_self, Int.reduceEq, true_and, and_true, false_and, and_false, and_self, ↓reduceIte]; omega) | (simp only [mS_iff, eq_self, Int.reduceEq, true_and, and_true, false_and, and_false, and_self, ↓reduceIte] at *; omega)) ?_
                    exact hQ1 _ ⟨l, by omega, by omega⟩
                · refine And.intro (fun _ => ?_) (fun h => absurd h (by decide))
                  refine And.intro (show -2147483648 ≤ 3 + 1 ∧ 3 + 1 ≤ 2147483647 by first | omega | (simp only [mS_iff, eq_self, Int.reduceEq, true_and, and_true, false_and, and_false, and_self, ↓reduceIte]; omega) | (simp only [mS_iff, eq_self, Int.reduceEq, true_and, and_true, false_and, and_false, and_self, ↓reduceIte] at *; omega)) ?_
                  refine And.intro (fun _ => ?_) (fun h => absurd h (by decide))
                  refine And.intro (show -2147483648 ≤ l + 1 ∧ l + 1 ≤ 2147483647 by first | omega | (simp only [mS_iff, eq_self, Int.reduceEq, true_and, and_true, false_and, and_false, and_self, ↓reduceIte]; omega) | (simp only [mS_iff, eq_self, Int.reduceEq, true_and, and_true, false_and, and_false, and_self, ↓reduceIte] at *; omega)) ?_
                  refine ih5 _ ?_ _ _ _ (Eq.refl _) ?_
                  · omega
                  · omega
              · refine And.intro (show -2147483648 ≤ 10 * l ∧ 10 * l ≤ 2147483647 by first | omega | (simp only [mS_iff, eq_self, Int.reduceEq, true_and, and_true, false_and, and_false, and_self, ↓reduceIte]; omega) | (simp only [mS_iff, eq_self, Int.reduceEq, true_and, and_true, false_and, and_false, and_self, ↓reduceIte] at *; omega)) ?_
                refine And.intro (show -2147483648 ≤ (10 * l) + 2 ∧ (10 * l) + 2 ≤ 2147483647 by first | omega | (simp only [mS_iff, eq_self, Int.reduceEq, true_and, and_true, false_and, and_false, and_self, ↓reduceIte]; omega) | (simp only [mS_iff, eq_self, Int.reduceEq, true_and, and_true, false_and, and_false, and_self, ↓reduceIte] at *; omega)) ?_
                exact hQ1 _ ⟨l, by omega, by omega⟩
            · refine And.intro (fun _ => ?_) (fun h => absurd h (by decide))
              refine And.intro (show -2147483648 ≤ 2 + 1 ∧ 2 + 1 ≤ 2147483647 by first | omega | (simp only [mS_iff, eq_self, Int.reduceEq, true_and, and_true, false_and, and_false, and_self, ↓reduceIte]; omega) | (simp only [mS_iff, eq_self, Int.reduceEq, true_and, and_true, false_and, and_false, and_self, ↓reduceIte] at *; omega)) ?_
              refine And.intro (fun h => absurd h (by decide)) (fun _ => ?_)
              refine And.intro (rfl) ?_
              refine ct_187_3 (by omega) hA (by omega) (by omega) (fun h10 => ?_) (fun h10 => ?_)
              · refine And.intro (fun h => absurd h (by decide)) (fun _ => ?_)
                refine And.intro (fun h11 => ?_) (fun h11 => ?_)
                · refine And.intro (show -2147483648 ≤ (n + (-1)) + (-1) ∧ (n + (-1)) + (-1) ≤ 2147483647 by first | omega | (simp only [mS_iff, eq_self, Int.reduceEq, true_and, and_true, false_and, and_false, and_self, ↓reduceIte]; omega) | (simp only [mS_iff, eq_self, Int.reduceEq, true_and, and_true, false_and, and_false, and_self, ↓reduceIte] at *; omega)) ?_
                  refine And.intro (show -2147483648 ≤ 3 + 1 ∧ 3 + 1 ≤ 2147483647 by first | omega | (simp only [mS_iff, eq_self, Int.reduceEq, true_and, and_true, false_and, and_false, and_self, ↓reduceIte]; omega) | (simp only [mS_iff, eq_self, Int.reduceEq, true_and, and_true, false_and, and_false, and_self, ↓reduceIte] at *; omega)) ?_
                  refine And.intro (fun _ => ?_) (fun h => absurd h (by decide))
                  refine And.intro (show -2147483648 ≤ l + 1 ∧ l + 1 ≤ 2147483647 by first | omega | (simp only [mS_iff, eq_self, Int.reduceEq, true_and, and_true, false_and, and_false, and_self, ↓reduceIte]; omega) | (simp only [mS_iff, eq_self, Int.reduceEq, true_and, and_true, false_and, and_false, and_self, ↓reduceIte] at *; omega)) ?_
                  refine ih5 _ ?_ _ _ _ (Eq.refl _) ?_
                  · omega
                  · omega
                · refine And.intro (show -2147483648 ≤ 10 * l ∧ 10 * l ≤ 2147483647 by first | omega | (simp only [mS_iff, eq_self, Int.reduceEq, true_and, and_true, false_and, and_false, and_self, ↓reduceIte]; omega) | (simp only [mS_iff, eq_self, Int.reduceEq, true_and, and_true, false_and, and_false, and_self, ↓reduceIte] at *; omega)) ?_
                  refine And.intro (show -2147483648 ≤ (10 * l) + 3 ∧ (10 * l) + 3 ≤ 2147483647 by first | omega | (simp only [mS_iff, eq_self, Int.reduceEq, true_and, and_true, false_and, and_false, and_self, ↓reduceIte]; omega) | (simp only [mS_iff, eq_self, Int.reduceEq, true_and, and_true, false_and, and_false, and_self, ↓reduceIte] at *; omega)) ?_
                  exact hQ1 _ ⟨l, by omega, by omega⟩
              · refine And.intro (fun _ => ?_) (fun h => absurd h (by decide))
                refine And.intro (show -2147483648 ≤ 3 + 1 ∧ 3 + 1 ≤ 2147483647 by first | omega | (simp only [mS_iff, eq_self, Int.reduceEq, true_and, and_true, false_and, and_false, and_self, ↓reduceIte]; omega) | (simp only [mS_iff, eq_self, Int.reduceEq, true_and, and_true, false_and, and_false, and_self, ↓reduceIte] at *; omega)) ?_
                refine And.intro (fun _ => ?_) (fun h => absurd h (by decide))
                refine And.intro (show -2147483648 ≤ l + 1 ∧ l + 1 ≤ 2147483647 by first | omega | (simp only [mS_iff, eq_self, Int.reduceEq, true_and, and_true, false_and, and_false, and_self, ↓reduceIte]; omega) | (simp only [mS_iff, eq_self, Int.reduceEq, true_and, and_true, false_and, and_false, and_self, ↓reduceIte] at *; omega)) ?_
                refine ih5 _ ?_ _ _ _ (Eq.refl _) ?_
                · omega
                · omega
          · refine And.intro (show -2147483648 ≤ 10 * l ∧ 10 * l ≤ 2147483647 by first | omega | (simp only [mS_iff, eq_self, Int.reduceEq, true_and, and_true, false_and, and_false, and_self, ↓reduceIte]; omega) | (simp only [mS_iff, eq_self, Int.reduceEq, true_and, and_true, false_and, and_false, and_self, ↓reduceIte] at *; omega)) ?_
            refine And.intro (show -2147483648 ≤ (10 * l) + 1 ∧ (10 * l) + 1 ≤ 2147483647 by first | omega | (simp only [mS_iff, eq_self, Int.reduceEq, true_and, and_true, false_and, and_false, and_self, ↓reduceIte]; omega) | (simp only [mS_iff, eq_self, Int.reduceEq, true_and, and_true, false_and, and_false, and_self, ↓reduceIte] at *; omega)) ?_
            exact hQ1 _ ⟨l, by omega, by omega⟩
        · refine And.intro (fun _ => ?_) (fun h => absurd h (by decide))
          refine And.intro (show -2147483648 ≤ 1 + 1 ∧ 1 + 1 ≤ 2147483647 by first | omega | (simp only [mS_iff, eq_self, Int.reduceEq, true_and, and_true, false_and, and_false, and_self, ↓reduceIte]; omega) | (simp only [mS_iff, eq_self, Int.reduceEq, true_and, and_true, false_and, and_false, and_self, ↓reduceIte] at *; omega)) ?_
          refine And.intro (fun h => absurd h (by decide)) (fun _ => ?_)
          refine And.intro (rfl) ?_
          refine ct_187_2 (by omega) hA (by omega) (by omega) (fun h12 => ?_) (fun h12 => ?_)
          · refine And.intro (fun h => absurd h (by decide)) (fun _ => ?_)
            refine And.intro (fun h13 => ?_) (fun h13 => ?_)
            · refine And.intro (show -2147483648 ≤ n + (-1) ∧ n + (-1) ≤ 2147483647 by first | omega | (simp only [mS_iff, eq_self, Int.reduceEq, true_and, and_true, false_and, and_false, and_self, ↓reduceIte]; omega) | (simp only [mS_iff, eq_self, Int.reduceEq, true_and, and_true, false_and, and_false, and_self, ↓reduceIte] at *; omega)) ?_
              refine And.intro (show -2147483648 ≤ 2 + 1 ∧ 2 + 1 ≤ 2147483647 by first | omega | (simp only [mS_iff, eq_self, Int.reduceEq, true_and, and_true, false_and, and_false, and_self, ↓reduceIte]; omega) | (simp only [mS_iff, eq_self, Int.reduceEq, true_and, and_true, false_and, and_false, and_self, ↓reduceIte] at *; omega)) ?_
              refine And.intro (fun h => absurd h (by decide)) (fun _ => ?_)
              refine And.intro (rfl) ?_
              refine ct_187_3 (by omega) hA (by omega) (by omega) (fun h14 => ?_) (fun h14 => ?_)
              · refine And.intro (fun h => absurd h (by decide)) (fun _ => ?_)
                refine And.intro (fun h15 => ?_) (fun h15 => ?_)
                · refine And.intro (show -2147483648 ≤ (n + (-1)) + (-1) ∧ (n + (-1)) + (-1) ≤ 2147483647 by first | omega | (simp only [mS_iff, eq_self, Int.reduceEq, true_and, and_true, false_and, and_false, and_self, ↓reduceIte]; omega) | (simp only [mS_iff, eq_self, Int.reduceEq, true_and, and_true, false_and, and_false, and_self, ↓reduceIte] at *; omega)) ?_
                  refine And.intro (show -2147483648 ≤ 3 + 1 ∧ 3 + 1 ≤ 2147483647 by first | omega | (simp only [mS_iff, eq_self, Int.reduceEq, true_and, and_true, false_and, and_false, and_self, ↓reduceIte]; omega) | (simp only [mS_iff, eq_self, Int.reduceEq, true_and, and_true, false_and, and_false, and_self, ↓reduceIte] at *; omega)) ?_
                  refine And.intro (fun _ => ?_) (fun h => absurd h (by decide))
                  refine And.intro (show -2147483648 ≤ l + 1 ∧ l + 1 ≤ 2147483647 by first | omega | (simp only [mS_iff, eq_self, Int.reduceEq, true_and, and_true, false_and, and_false, and_self, ↓reduceIte]; omega) | (simp only [mS_iff, eq_self, Int.reduceEq, true_and, and_true, false_and, and_false, and_self, ↓reduceIte] at *; omega)) ?_
                  refine ih5 _ ?_ _ _ _ (Eq.refl _) ?_
                  · omega
                  · omega
                · refine And.intro (show -2147483648 ≤ 10 * l ∧ 10 * l ≤ 2147483647 by first | omega | (simp only [mS_iff, eq_self, Int.reduceEq, true_and, and_true, false_and, and_false, and_self, ↓reduceIte]; omega) | (simp only [mS_iff, eq_self, Int.reduceEq, true_and, and_true, false_and, and_false, and_self, ↓reduceIte] at *; omega)) ?_
                  refine And.intro (show -2147483648 ≤ (10 * l) + 3 ∧ (10 * l) + 3 ≤ 2147483647 by first | omega | (simp only [mS_iff, eq_self, Int.reduceEq, true_and, and_true, false_and, and_false, and_self, ↓reduceIte]; omega) | (simp only [mS_iff, eq_self, Int.reduceEq, true_and, and_true, false_and, and_false, and_self, ↓reduceIte] at *; omega)) ?_
                  exact hQ1 _ ⟨l, by omega, by omega⟩
              · refine And.intro (fun _ => ?_) (fun h => absurd h (by decide))
                refine And.intro (show -2147483648 ≤ 3 + 1 ∧ 3 + 1 ≤ 2147483647 by first | omega | (simp only [mS_iff, eq_self, Int.reduceEq, true_and, and_true, false_and, and_false, and_self, ↓reduceIte]; omega) | (simp only [mS_iff, eq_self, Int.reduceEq, true_and, and_true, false_and, and_false, and_self, ↓reduceIte] at *; omega)) ?_
                refine And.intro (fun _ => ?_) (fun h => absurd h (by decide))
                refine And.intro (show -2147483648 ≤ l + 1 ∧ l + 1 ≤ 2147483647 by first | omega | (simp only [mS_iff, eq_self, Int.reduceEq, true_and, and_true, false_and, and_false, and_self, ↓reduceIte]; omega) | (simp only [mS_iff, eq_self, Int.reduceEq, true_and, and_true, false_and, and_false, and_self, ↓reduceIte] at *; omega)) ?_
                refine ih5 _ ?_ _ _ _ (Eq.refl _) ?_
                · omega
                · omega
            · refine And.intro (show -2147483648 ≤ 10 * l ∧ 10 * l ≤ 2147483647 by first | omega | (simp only [mS_iff, eq_self, Int.reduceEq, true_and, and_true, false_and, and_false, and_self, ↓reduceIte]; omega) | (simp only [mS_iff, eq_self, Int.reduceEq, true_and, and_true, false_and, and_false, and_self, ↓reduceIte] at *; omega)) ?_
              refine And.intro (show -2147483648 ≤ (10 * l) + 2 ∧ (10 * l) + 2 ≤ 2147483647 by first | omega | (simp only [mS_iff, eq_self, Int.reduceEq, true_and, and_true, false_and, and_false, and_self, ↓reduceIte]; omega) | (simp only [mS_iff, eq_self, Int.reduceEq, true_and, and_true, false_and, and_false, and_self, ↓reduceIte] at *; omega)) ?_
              exact hQ1 _ ⟨l, by omega, by omega⟩
          · refine And.intro (fun _ => ?_) (fun h => absurd h (by decide))
            refine And.intro (show -2147483648 ≤ 2 + 1 ∧ 2 + 1 ≤ 2147483647 by first | omega | (simp only [mS_iff, eq_self, Int.reduceEq, true_and, and_true, false_and, and_false, and_self, ↓reduceIte]; omega) | (simp only [mS_iff, eq_self, Int.reduceEq, true_and, and_true, false_and, and_false, and_self, ↓reduceIte] at *; omega)) ?_
            refine And.intro (fun h => absurd h (by decide)) (fun _ => ?_)
            refine And.intro (rfl) ?_
            refine ct_187_3 (by omega) hA (by omega) (by omega) (fun h16 => ?_) (fun h16 => ?_)
            · refine And.intro (fun h => absurd h (by decide)) (fun _ => ?_)
              refine And.intro (fun h17 => ?_) (fun h17 => ?_)
              · refine And.intro (show -2147483648 ≤ n + (-1) ∧ n + (-1) ≤ 2147483647 by first | omega | (simp only [mS_iff, eq_self, Int.reduceEq, true_and, and_true, false_and, and_false, and_self, ↓reduceIte]; omega) | (simp only [mS_iff, eq_self, Int.reduceEq, true_and, and_true, false_and, and_false, and_self, ↓reduceIte] at *; omega)) ?_
                refine And.intro (show -2147483648 ≤ 3 + 1 ∧ 3 + 1 ≤ 2147483647 by first | omega | (simp only [mS_iff, eq_self, Int.reduceEq, true_and, and_true, false_and, and_false, and_self, ↓reduceIte]; omega) | (simp only [mS_iff, eq_self, Int.reduceEq, true_and, and_true, false_and, and_false, and_self, ↓reduceIte] at *; omega)) ?_
                refine And.intro (fun _ => ?_) (fun h => absurd h (by decide))
                refine And.intro (show -2147483648 ≤ l + 1 ∧ l + 1 ≤ 2147483647 by first | omega | (simp only [mS_iff, eq_self, Int.reduceEq, true_and, and_true, false_and, and_false, and_self, ↓reduceIte]; omega) | (simp only [mS_iff, eq_self, Int.reduceEq, true_and, and_true, false_and, and_false, and_self, ↓reduceIte] at *; omega)) ?_
                refine ih5 _ ?_ _ _ _ (Eq.refl _) ?_
                · omega
                · omega
              · refine And.intro (show -2147483648 ≤ 10 * l ∧ 10 * l ≤ 2147483647 by first | omega | (simp only [mS_iff, eq_self, Int.reduceEq, true_and, and_true, false_and, and_false, and_self, ↓reduceIte]; omega) | (simp only [mS_iff, eq_self, Int.reduceEq, true_and, and_true, false_and, and_false, and_self, ↓reduceIte] at *; omega)) ?_
                refine And.intro (show -2147483648 ≤ (10 * l) + 3 ∧ (10 * l) + 3 ≤ 2147483647 by first | omega | (simp only [mS_iff, eq_self, Int.reduceEq, true_and, and_true, false_and, and_false, and_self, ↓reduceIte]; omega) | (simp only [mS_iff, eq_self, Int.reduceEq, true_and, and_true, false_and, and_false, and_self, ↓reduceIte] at *; omega)) ?_
                exact hQ1 _ ⟨l, by omega, by omega⟩
            · refine And.intro (fun _ => ?_) (fun h => absurd h (by decide))
              refine And.intro (show -2147483648 ≤ 3 + 1 ∧ 3 + 1 ≤ 2147483647 by first | omega | (simp only [mS_iff, eq_self, Int.reduceEq, true_and, and_true, false_and, and_false, and_self, ↓reduceIte]; omega) | (simp only [mS_iff, eq_self, Int.reduceEq, true_and, and_true, false_and, and_false, and_self, ↓reduceIte] at *; omega)) ?_
              refine And.intro (fun _ => ?_) (fun h => absurd h (by decide))
              refine And.intro (show -2147483648 ≤ l + 1 ∧ l + 1 ≤ 2147483647 by first | omega | (simp only [mS_iff, eq_self, Int.reduceEq, true_and, and_true, false_and, and_false, and_self, ↓reduceIte]; omega) | (simp only [mS_iff, eq_self, Int.reduceEq, true_and, and_true, false_and, and_false, and_self, ↓reduceIte] at *; omega)) ?_
              refine ih5 _ ?_ _ _ _ (Eq.refl _) ?_
              · omega
              · omega
  refine am_go 400 [5] (am_wpc_cm _ _ _) wf_185 ?_
  refine K5 _ _ _ _ (Eq.refl _) ?_
  · have := s_bn_0 w
    omega
theorem ct_275w {d : Nat} {m : aM} {Q : aO → aM → Prop} {S : aM} {a day i : Int} {w : Int → Int} (hd : 4 ≤ d) (hS : mAs S m) (hE : mEs S m) (hA : mRow m a w) (hw : 0 ≤ w 5 ∧ w 5 ≤ 6) (hi : 0 ≤ i ∧ i ≤ 2147483647) (hQ1 : ∀ e, s_ith (s_cf S w day) (S 0 5) i e → Q (.inl (some (aI e))) m) (hQ0 : s_sum (s_cf S w day) (S 0 5).toNat ≤ i → Q (.inl (some (aI (-1)))) m) : am_wpc am_G am_T d 275 [aR 41, aI a, aI day, aI i] m Q := by
  obtain ⟨z1, z2⟩ := hE.1
  have z3 := hE.2.1
  refine am_in rfl hd (fun d hd => ?_)
  have K6 : ∀ (N : Nat), ∀ (n : Int) (e : Int), (100 - e).toNat = N → (0 ≤ e ∧ e ≤ S 0 5 ∧ 0 ≤ n) → (i = s_sum (s_cf S w day) e.toNat + n) → am_WP am_G (am_wpc am_G am_T d) [] cd_275 Q 6 [aR 41, aI a, aI day, aI i, aI n, aI e] [] m := by
    intro N
    induction N using Nat.strongRecOn with
    | _ N ih6 =>
      intro n e hN i0 i1
      have b := s_sum_b (s_cf_b S w day) e.toNat
      refine am_go 400 [6] (am_wpc_cm _ _ _) wf_275 ?_
      refine And.intro (rfl) ?_
      refine And.intro (fun h1 => ?_) (fun h1 => ?_)
      · exact hQ0 (by rw [show S 0 5 = e by omega]; omega)
      · have y1 := z2 e (by omega) (by omega)
        obtain ⟨y2, y3, y4⟩ := hE.2.2 e (by omega) (by omega)
        have hX := hS.2.2 (S 16 e) (by omega) (by omega)
        have cq := s_cf_eq S w day e
        refine And.intro (rfl) ?_
        refine ct_276 (by omega) (by first | omega | (simp only [mS_iff, eq_self, Int.reduceEq, true_and, and_true, false_and, and_false, and_self, ↓reduceIte]; omega) | (simp only [mS_iff, eq_self, Int.reduceEq, true_and, and_true, false_and, and_false, and_self, ↓reduceIte] at *; omega)) (fun h2 => ?_) (fun h2 => ?_)
        · refine And.intro (fun h => absurd h (by decide)) (fun _ => ?_)
          refine And.intro (rfl) ?_
          refine And.intro (⟨rfl, by first | omega | (simp only [mS_iff, eq_self, Int.reduceEq, true_and, and_true, false_and, and_false, and_self, ↓reduceIte]; omega) | (simp only [mS_iff, eq_self, Int.reduceEq, true_and, and_true, false_and, and_false, and_self, ↓reduceIte] at *; omega)⟩) ?_
          refine And.intro (rfl) ?_
          refine ct_271 (by omega) hA (by rw [y2]; exact hX.1) hw hX.2.cnt (fun v3 h4 => ?_)
          refine And.intro (fun h5 => ?_) (fun h5 => ?_)
          · refine And.intro (show -2147483648 ≤ e + 1 ∧ e + 1 ≤ 2147483647 by first | omega | (simp only [mS_iff, eq_self, Int.reduceEq, true_and, and_true, false_and, and_false, and_self, ↓reduceIte]; omega) | (simp only [mS_iff, eq_self, Int.reduceEq, true_and, and_true, false_and, and_false, and_self, ↓reduceIte] at *; omega)) ?_
            refine ih6 _ ?_ _ _ (Eq.refl _) ?_ ?_
            · omega
            · first | omega | (simp only [mS_iff, eq_self, Int.reduceEq, true_and, and_true, false_and, and_false, and_self, ↓reduceIte]; omega) | (simp only [mS_iff, eq_self, Int.reduceEq, true_and, and_true, false_and, and_false, and_self, ↓reduceIte] at *; omega)
            · rw [s_sum_i (by omega)]; omega
          · refine And.intro (fun h6 => ?_) (fun h6 => ?_)
            · refine And.intro (show -2147483648 ≤ n + (-1) ∧ n + (-1) ≤ 2147483647 by first | omega | (simp only [mS_iff, eq_self, Int.reduceEq, true_and, and_true, false_and, and_false, and_self, ↓reduceIte]; omega) | (simp only [mS_iff, eq_self, Int.reduceEq, true_and, and_true, false_and, and_false, and_self, ↓reduceIte] at *; omega)) ?_
              refine And.intro (show -2147483648 ≤ e + 1 ∧ e + 1 ≤ 2147483647 by first | omega | (simp only [mS_iff, eq_self, Int.reduceEq, true_and, and_true, false_and, and_false, and_self, ↓reduceIte]; omega) | (simp only [mS_iff, eq_self, Int.reduceEq, true_and, and_true, false_and, and_false, and_self, ↓reduceIte] at *; omega)) ?_
              refine ih6 _ ?_ _ _ (Eq.refl _) ?_ ?_
              · omega
              · first | omega | (simp only [mS_iff, eq_self, Int.reduceEq, true_and, and_true, false_and, and_false, and_self, ↓reduceIte]; omega) | (simp only [mS_iff, eq_self, Int.reduceEq, true_and, and_true, false_and, and_false, and_self, ↓reduceIte] at *; omega)
              · rw [s_sum_i (by omega)]; omega
            · exact hQ1 _ ⟨by omega, by omega, by omega, by omega⟩
        · refine And.intro (fun _ => ?_) (fun h => absurd h (by decide))
          refine And.intro (show -2147483648 ≤ e + 1 ∧ e + 1 ≤ 2147483647 by first | omega | (simp only [mS_iff, eq_self, Int.reduceEq, true_and, and_true, false_and, and_false, and_self, ↓reduceIte]; omega) | (simp only [mS_iff, eq_self, Int.reduceEq, true_and, and_true, false_and, and_false, and_self, ↓reduceIte] at *; omega)) ?_
          refine ih6 _ ?_ _ _ (Eq.refl _) ?_ ?_
          · omega
          · first | omega | (simp only [mS_iff, eq_self, Int.reduceEq, true_and, and_true, false_and, and_false, and_self, ↓reduceIte]; omega) | (simp only [mS_iff, eq_self, Int.reduceEq, true_and, and_true, false_and, and_false, and_self, ↓reduceIte] at *; omega)
          · rw [s_sum_i (by omega)]; omega
  refine am_go 400 [6] (am_wpc_cm _ _ _) wf_275 ?_
  refine K6 _ _ _ (Eq.refl _) ?_ ?_
  · first | omega | (simp only [mS_iff, eq_self, Int.reduceEq, true_and, and_true, false_and, and_false, and_self, ↓reduceIte]; omega) | (simp only [mS_iff, eq_self, Int.reduceEq, true_and, and_true, false_and, and_false, and_self, ↓reduceIte] at *; omega)
  · simp [s_sum]
theorem ct_222 {d : Nat} {m : aM} {Q : aO → aM → Prop} {S : aM} {F : Int → aD} {a : Int} (hd : 1 ≤ d) (h : mI S F m) (hQ1 : v_has S a → Q (.inl (some (aI 1))) m) (hQ0 : ¬ v_has S a → Q (.inl (some (aI 0))) m) : am_wpc am_G am_T d 222 [aR 41, aI a] m Q := by
  have s2 := h.2.1.2.1
  refine am_in rfl hd (fun d hd => ?_)
  refine am_go 400 [] (am_wpc_cm _ _ _) wf_222 ?_
  refine And.intro (fun h1 => ?_) (fun h1 => ?_)
  · refine And.intro (by first | omega | (simp only [mS_iff, eq_self, Int.reduceEq, true_and, and_true, false_and, and_false, and_self, ↓reduceIte]; omega) | (simp only [mS_iff, eq_self, Int.reduceEq, true_and, and_true, false_and, and_false, and_self, ↓reduceIte] at *; omega)) ?_
    exact hQ0 (by omega)
  · refine And.intro (rfl) ?_
    refine And.intro (fun h2 => ?_) (fun h2 => ?_)
    · refine And.intro (by first | omega | (simp only [mS_iff, eq_self, Int.reduceEq, true_and, and_true, false_and, and_false, and_self, ↓reduceIte]; omega) | (simp only [mS_iff, eq_self, Int.reduceEq, true_and, and_true, false_and, and_false, and_self, ↓reduceIte] at *; omega)) ?_
      exact hQ0 (by omega)
    · refine And.intro (by first | omega | (simp only [mS_iff, eq_self, Int.reduceEq, true_and, and_true, false_and, and_false, and_self, ↓reduceIte]; omega) | (simp only [mS_iff, eq_self, Int.reduceEq, true_and, and_true, false_and, and_false, and_self, ↓reduceIte] at *; omega)) ?_
      exact hQ1 (by omega)
theorem ct_253 {d : Nat} {m : aM} {Q : aO → aM → Prop} {S : aM} {F : Int → aD} {a : Int} (hd : 1 ≤ d) (h : mI S F m) (hQ1 : (0 ≤ a ∧ a < S 0 4) → Q (.inl (some (aI 1))) m) (hQ0 : ¬ (0 ≤ a ∧ a < S 0 4) → Q (.inl (some (aI 0))) m) : am_wpc am_G am_T d 253 [aR 41, aI a] m Q := by
  have s2 := h.2.2.2.1.2.1
  refine am_in rfl hd (fun d hd => ?_)
  refine am_go 400 [] (am_wpc_cm _ _ _) wf_253 ?_
  refine And.intro (fun h1 => ?_) (fun h1 => ?_)
  · refine And.intro (by first | omega | (simp only [mS_iff, eq_self, Int.reduceEq, true_and, and_true, false_and, and_false, and_self, ↓reduceIte]; omega) | (simp only [mS_iff, eq_self, Int.reduceEq, true_and, and_true, false_and, and_false, and_self, ↓reduceIte] at *; omega)) ?_
    exact hQ0 (by omega)
  · refine And.intro (rfl) ?_
    refine And.intro (fun h2 => ?_) (fun h2 => ?_)
    · refine And.intro (by first | omega | (simp only [mS_iff, eq_self, Int.reduceEq, true_and, and_true, false_and, and_false, and_self, ↓reduceIte]; omega) | (simp only [mS_iff, eq_self, Int.reduceEq, true_and, and_true, false_and, and_false, and_self, ↓reduceIte] at *; omega)) ?_
      exact hQ0 (by omega)
    · refine And.intro (by first | omega | (simp only [mS_iff, eq_self, Int.reduceEq, true_and, and_true, false_and, and_false, and_self, ↓reduceIte]; omega) | (simp only [mS_iff, eq_self, Int.reduceEq, true_and, and_true, false_and, and_false, and_self, ↓reduceIte] at *; omega)) ?_
      exact hQ1 (by omega)
theorem ct_254 {d : Nat} {m : aM} {Q : aO → aM → Prop} {x : Int} (hd : 1 ≤ d) (hQ1 : v_day x → Q (.inl (some (aI 1))) m) (hQ0 : ¬ v_day x → Q (.inl (some (aI 0))) m) : am_wpc am_G am_T d 254 [aI x] m Q := by
  refine am_in rfl hd (fun d hd => ?_)
  refine am_go 400 [] (am_wpc_cm _ _ _) wf_254 ?_
  refine And.intro (fun h1 => ?_) (fun h1 => ?_)
  · refine And.intro (by first | omega | (simp only [mS_iff, eq_self, Int.reduceEq, true_and, and_true, false_and, and_false, and_self, ↓reduceIte]; omega) | (simp only [mS_iff, eq_self, Int.reduceEq, true_and, and_true, false_and, and_false, and_self, ↓reduceIte] at *; omega)) ?_
    exact hQ0 (by omega)
  · refine And.intro (fun h2 => ?_) (fun h2 => ?_)
    · refine And.intro (by first | omega | (simp only [mS_iff, eq_self, Int.reduceEq, true_and, and_true, false_and, and_false, and_self, ↓reduceIte]; omega) | (simp only [mS_iff, eq_self, Int.reduceEq, true_and, and_true, false_and, and_false, and_self, ↓reduceIte] at *; omega)) ?_
      exact hQ0 (by omega)
    · refine And.intro (by first | omega | (simp only [mS_iff, eq_self, Int.reduceEq, true_and, and_true, false_and, and_false, and_self, ↓reduceIte]; omega) | (simp only [mS_iff, eq_self, Int.reduceEq, true_and, and_true, false_and, and_false, and_self, ↓reduceIte] at *; omega)) ?_
      exact hQ1 (by omega)
theorem ms_220 {d : Nat} {m : aM} {Q : aO → aM → Prop} {S : aM} {F : Int → aD} (hd : 1 ≤ d) (h : mI S F m) (hQ : Q (.inl (some (aI (S 0 2)))) m) : am_wpc am_G am_T d 220 [aR 41] m Q := by
  obtain ⟨n1, n2, n3, n4, n5, n6, n7, n8⟩ := h.1
  refine am_in rfl hd (fun d hd => ?_)
  refine am_go 400 [] (am_wpc_cm _ _ _) wf_220 ?_
  refine And.intro (rfl) ?_
  rw [n5]
  exact hQ
theorem ms_307 {d : Nat} {m : aM} {Q : aO → aM → Prop} {S : aM} {F : Int → aD} (hd : 1 ≤ d) (h : mI S F m) (hQ : Q (.inl (some (aI (S 0 8)))) m) : am_wpc am_G am_T d 307 [aR 41] m Q := by
  obtain ⟨n1, n2, n3, n4, n5, n6, n7, n8⟩ := h.1
  refine am_in rfl hd (fun d hd => ?_)
  refine am_go 400 [] (am_wpc_cm _ _ _) wf_307 ?_
  refine And.intro (rfl) ?_
  rw [n7]
  exact hQ
theorem ms_317 {d : Nat} {m : aM} {Q : aO → aM → Prop} {S : aM} {F : Int → aD} (hd : 1 ≤ d) (h : mI S F m) (hQ : Q (.inl (some (aI (S 0 9)))) m) : am_wpc am_G am_T d 317 [aR 41] m Q := by
  obtain ⟨n1, n2, n3, n4, n5, n6, n7, n8⟩ := h.1
  refine am_in rfl hd (fun d hd => ?_)
  refine am_go 400 [] (am_wpc_cm _ _ _) wf_317 ?_
  refine And.intro (rfl) ?_
  rw [n8]
  exact hQ
theorem ms_306 {d : Nat} {m : aM} {Q : aO → aM → Prop} {S : aM} {F : Int → aD} (hd : 1 ≤ d) (h : mI S F m) (hQ : Q (.inl (some (aL (S 0 7)))) m) : am_wpc am_G am_T d 306 [aR 41] m Q := by
  obtain ⟨n1, n2, n3, n4, n5, n6, n7, n8⟩ := h.1
  refine am_in rfl hd (fun d hd => ?_)
  refine am_go 400 [] (am_wpc_cm _ _ _) wf_306 ?_
  refine And.intro (rfl) ?_
  rw [n6]
  exact hQ
theorem ms_221 {d : Nat} {m : aM} {Q : aO → aM → Prop} {S : aM} {F : Int → aD} {a b : Int} (hd : 60 ≤ d) (h : mI S F m)  (hQ : ∀ m', mFr m m' → Q (.inl (some (aI (c_one S a b)))) m') : am_wpc am_G am_T d 221 [aR 41, aI a, aI b] m Q := by
  have fr := mFr.rfl m
  have hS := h.2.1
  have s1 := hS.1
  obtain ⟨dk, hdk⟩ : ∃ k, d = k + 1 := ⟨d - 1, by omega⟩
  refine am_in (k := dk) rfl (by omega) (fun d hd => ?_)
  refine am_go 400 [] (am_wpc_cm _ _ _) wf_221 ?_
  refine And.intro (rfl) ?_
  refine ct_222 (by omega) h (fun t1 => ?_) (fun t1 => ?_)
  · have hA1 := (hS.2.2 a t1.1 t1.2).1
    have ok1 := (hS.2.2 a t1.1 t1.2).2
    refine And.intro (fun h => absurd h (by decide)) (fun _ => ?_)
    refine And.intro (rfl) ?_
    refine ct_222 (by omega) h (fun t2 => ?_) (fun t2 => ?_)
    · have hA2 := (hS.2.2 b t2.1 t2.2).1
      have ok2 := (hS.2.2 b t2.1 t2.2).2
      refine And.intro (fun _ => ?_) (fun h => absurd h (by decide))
      refine And.intro (rfl) ?_
      refine ct_223 (by omega) hA1 hA2 (fun k => ?_) (fun k => ?_)
      · have z := (s_pt_0 ok1 ok2).mpr (fun j x y => k j x y)
        refine And.intro (fun h => absurd h (by decide)) (fun _ => ?_)
        have ev0 : c_one S a b = 1 := by
          unfold c_one
          repeat' split
          all_goals omega
        have hz := hQ m fr
        rw [ev0] at hz
        exact hz
      · have z : s_pt (S (100 + a)) (S (100 + b)) ≠ 0 := fun e => k (fun j x y => (s_pt_0 ok1 ok2).mp e j x y)
        refine And.intro (fun _ => ?_) (fun h => absurd h (by decide))
        have ev0 : c_one S a b = 0 := by
          unfold c_one
          repeat' split
          all_goals omega
        have hz := hQ m fr
        rw [ev0] at hz
        exact hz
    · refine And.intro (fun h => absurd h (by decide)) (fun _ => ?_)
      have ev0 : c_one S a b = (-2) := by
        unfold c_one
        repeat' split
        all_goals omega
      have hz := hQ m fr
      rw [ev0] at hz
      exact hz
  · refine And.intro (fun _ => ?_) (fun h => absurd h (by decide))
    have ev0 : c_one S a b = (-2) := by
      unfold c_one
      repeat' split
      all_goals omega
    have hz := hQ m fr
    rw [ev0] at hz
    exact hz
theorem ms_270 {d : Nat} {m : aM} {Q : aO → aM → Prop} {S : aM} {F : Int → aD} {a b : Int} (hd : 60 ≤ d) (h : mI S F m)  (hQ : ∀ m', mFr m m' → Q (.inl (some (aI (c_pts S a b)))) m') : am_wpc am_G am_T d 270 [aR 41, aI a, aI b] m Q := by
  have fr := mFr.rfl m
  have hS := h.2.1
  have s1 := hS.1
  obtain ⟨dk, hdk⟩ : ∃ k, d = k + 1 := ⟨d - 1, by omega⟩
  refine am_in (k := dk) rfl (by omega) (fun d hd => ?_)
  refine am_go 400 [] (am_wpc_cm _ _ _) wf_270 ?_
  refine And.intro (rfl) ?_
  refine ct_222 (by omega) h (fun t1 => ?_) (fun t1 => ?_)
  · have hA1 := (hS.2.2 a t1.1 t1.2).1
    have ok1 := (hS.2.2 a t1.1 t1.2).2
    refine And.intro (fun h => absurd h (by decide)) (fun _ => ?_)
    refine And.intro (rfl) ?_
    refine ct_222 (by omega) h (fun t2 => ?_) (fun t2 => ?_)
    · have hA2 := (hS.2.2 b t2.1 t2.2).1
      have ok2 := (hS.2.2 b t2.1 t2.2).2
      refine And.intro (fun h => absurd h (by decide)) (fun _ => ?_)
      refine And.intro (rfl) ?_
      refine ct_271 (by omega) hA1 hA2 ok1.cnt ok2.cnt (fun v1 h2 => ?_)
      have ev0 : c_pts S a b = v1 := by
        unfold c_pts
        repeat' split
        all_goals omega
      have hz := hQ m fr
      rw [ev0] at hz
      exact hz
    · refine And.intro (fun _ => ?_) (fun h => absurd h (by decide))
      have ev0 : c_pts S a b = (-2) := by
        unfold c_pts
        repeat' split
        all_goals omega
      have hz := hQ m fr
      rw [ev0] at hz
      exact hz
  · refine And.intro (fun _ => ?_) (fun h => absurd h (by decide))
    have ev0 : c_pts S a b = (-2) := by
      unfold c_pts
      repeat' split
      all_goals omega
    have hz := hQ m fr
    rw [ev0] at hz
    exact hz
theorem ms_224 {d : Nat} {m : aM} {Q : aO → aM → Prop} {S : aM} {F : Int → aD} {a : Int} (hd : 60 ≤ d) (h : mI S F m)  (hQ : ∀ m', mFr m m' → Q (.inl (some (aI (c_lay S a)))) m') : am_wpc am_G am_T d 224 [aR 41, aI a] m Q := by
  have fr := mFr.rfl m
  have hS := h.2.1
  have s1 := hS.1
  obtain ⟨dk, hdk⟩ : ∃ k, d = k + 1 := ⟨d - 1, by omega⟩
  refine am_in (k := dk) rfl (by omega) (fun d hd => ?_)
  refine am_go 400 [] (am_wpc_cm _ _ _) wf_224 ?_
  refine And.intro (rfl) ?_
  refine ct_222 (by omega) h (fun t1 => ?_) (fun t1 => ?_)
  · have hA1 := (hS.2.2 a t1.1 t1.2).1
    have ok1 := (hS.2.2 a t1.1 t1.2).2
    refine And.intro (fun h => absurd h (by decide)) (fun _ => ?_)
    refine And.intro (rfl) ?_
    refine ct_186 (by omega) hA1 (by omega) (fun v1 h2 => ?_)
    have ev := h2
    have ev0 : c_lay S a = v1 := by
      unfold c_lay
      repeat' split
      all_goals omega
    have hz := hQ m fr
    rw [ev0] at hz
    exact hz
  · refine And.intro (fun _ => ?_) (fun h => absurd h (by decide))
    have ev0 : c_lay S a = (-2) := by
      unfold c_lay
      repeat' split
      all_goals omega
    have hz := hQ m fr
    rw [ev0] at hz
    exact hz
theorem ms_233 {d : Nat} {m : aM} {Q : aO → aM → Prop} {S : aM} {F : Int → aD} {a : Int} (hd : 60 ≤ d) (h : mI S F m)  (hQ : ∀ m', mFr m m' → Q (.inl (some (aI (c_brs S a)))) m') : am_wpc am_G am_T d 233 [aR 41, aI a] m Q := by
  have fr := mFr.rfl m
  have hS := h.2.1
  have s1 := hS.1
  obtain ⟨dk, hdk⟩ : ∃ k, d = k + 1 := ⟨d - 1, by omega⟩
  refine am_in (k := dk) rfl (by omega) (fun d hd => ?_)
  refine am_go 400 [] (am_wpc_cm _ _ _) wf_233 ?_
  refine And.intro (rfl) ?_
  refine ct_222 (by omega) h (fun t1 => ?_) (fun t1 => ?_)
  · have hA1 := (hS.2.2 a t1.1 t1.2).1
    have ok1 := (hS.2.2 a t1.1 t1.2).2
    refine And.intro (fun h => absurd h (by decide)) (fun _ => ?_)
    refine And.intro (rfl) ?_
    refine ct_234 (by omega) hA1 ok1.cnt ok1.ov (fun v1 h2 => ?_)
    have ev0 : c_brs S a = v1 := by
      unfold c_brs
      repeat' split
      all_goals omega
    have hz := hQ m fr
    rw [ev0] at hz
    exact hz
  · refine And.intro (fun _ => ?_) (fun h => absurd h (by decide))
    have ev0 : c_brs S a = (-2) := by
      unfold c_brs
      repeat' split
      all_goals omega
    have hz := hQ m fr
    rw [ev0] at hz
    exact hz
theorem ms_225 {d : Nat} {m : aM} {Q : aO → aM → Prop} {S : aM} {F : Int → aD} {a l w : Int} (hd : 60 ≤ d) (h : mI S F m)  (hQ : ∀ m', mFr m m' → Q (.inl (some (aI (c_mean S a l w)))) m') : am_wpc am_G am_T d 225 [aR 41, aI a, aI l, aI w] m Q := by
  have fr := mFr.rfl m
  have hS := h.2.1
  have s1 := hS.1
  obtain ⟨dk, hdk⟩ : ∃ k, d = k + 1 := ⟨d - 1, by omega⟩
  refine am_in (k := dk) rfl (by omega) (fun d hd => ?_)
  refine am_go 400 [] (am_wpc_cm _ _ _) wf_225 ?_
  refine And.intro (rfl) ?_
  refine ct_222 (by omega) h (fun t1 => ?_) (fun t1 => ?_)
  · have hA1 := (hS.2.2 a t1.1 t1.2).1
    have ok1 := (hS.2.2 a t1.1 t1.2).2
    refine And.intro (fun h => absurd h (by decide)) (fun _ => ?_)
    refine And.intro (fun h1 => ?_) (fun h1 => ?_)
    · have ev0 : c_mean S a l w = (-2) := by
        unfold c_mean
        repeat' split
        all_goals omega
      have hz := hQ m fr
      rw [ev0] at hz
      exact hz
    · refine And.intro (rfl) ?_
      refine ct_186 (by omega) hA1 (by omega) (fun v2 h3 => ?_)
      have ev := h3
      refine And.intro (fun h4 => ?_) (fun h4 => ?_)
      · have cb := ok1.cnt
        refine And.intro (fun h5 => ?_) (fun h5 => ?_)
        · have ev0 : c_mean S a l w = (-3) := by
            unfold c_mean
            repeat' split
            all_goals omega
          have hz := hQ m fr
          rw [ev0] at hz
          exact hz
        · refine And.intro (fun h6 => ?_) (fun h6 => ?_)
          · refine And.intro (fun h7 => ?_) (fun h7 => ?_)
            · refine And.intro (fun h8 => ?_) (fun h8 => ?_)
              · refine And.intro (rfl) ?_
                refine ct_188 (by omega) hA1 (by omega) (by omega) (fun v9 h10 => ?_)
                have ev := h10
                have ev0 : c_mean S a l w = v9 := by
                  unfold c_mean
                  repeat' split
                  all_goals omega
                have hz := hQ m fr
                rw [ev0] at hz
                exact hz
              · refine And.intro (rfl) ?_
                refine ct_186 (by omega) hA1 (by omega) (fun v11 h12 => ?_)
                have ev := h12
                have ev0 : c_mean S a l w = v11 := by
                  unfold c_mean
                  repeat' split
                  all_goals omega
                have hz := hQ m fr
                rw [ev0] at hz
                exact hz
            · have ev0 : c_mean S a l w = (-3) := by
                unfold c_mean
                repeat' split
                all_goals omega
              have hz := hQ m fr
              rw [ev0] at hz
              exact hz
          · refine And.intro (fun h13 => ?_) (fun h13 => ?_)
            · refine And.intro (fun h14 => ?_) (fun h14 => ?_)
              · refine And.intro (rfl) ?_
                refine ct_188 (by omega) hA1 (by omega) (by omega) (fun v15 h16 => ?_)
                have ev := h16
                have ev0 : c_mean S a l w = v15 := by
                  unfold c_mean
                  repeat' split
                  all_goals omega
                have hz := hQ m fr
                rw [ev0] at hz
                exact hz
              · refine And.intro (rfl) ?_
                refine ct_186 (by omega) hA1 (by omega) (fun v17 h18 => ?_)
                have ev := h18
                have ev0 : c_mean S a l w = v17 := by
                  unfold c_mean
                  repeat' split
                  all_goals omega
                have hz := hQ m fr
                rw [ev0] at hz
                exact hz
            · have ev0 : c_mean S a l w = (-3) := by
                unfold c_mean
                repeat' split
                all_goals omega
              have hz := hQ m fr
              rw [ev0] at hz
              exact hz
      · have ev0 : c_mean S a l w = (-2) := by
          unfold c_mean
          repeat' split
          all_goals omega
        have hz := hQ m fr
        rw [ev0] at hz
        exact hz
  · refine And.intro (fun _ => ?_) (fun h => absurd h (by decide))
    have ev0 : c_mean S a l w = (-2) := by
      unfold c_mean
      repeat' split
      all_goals omega
    have hz := hQ m fr
    rw [ev0] at hz
    exact hz

def c_br2 (S : aM) (a i v : Int) : Prop := if v_has S a then (if 0 ≤ i ∧ i < s_bt (S (100 + a)) then s_bi (S (100 + a)) (S (100 + a) 5) i v else v = -3) else v = -2
def c_cf2 (S : aM) (a day i v : Int) : Prop := if v_has S a then (if v_day day ∧ 0 ≤ i ∧ i < s_sum (s_cf S (S (100 + a)) day) (S 0 5).toNat then s_ith (s_cf S (S (100 + a)) day) (S 0 5) i v else v = -3) else v = -2
theorem c_br_u {S : aM} {a i v v' : Int} (h : c_br S a i v) (g : c_br2 S a i v') : v = v' := by
  unfold c_br at h
  unfold c_br2 at g
  split at h
  · split at h
    · rw [if_pos (by assumption), if_pos (by assumption)] at g
      exact h _ g
    · rw [if_pos (by assumption), if_neg (by assumption)] at g
      omega
  · rw [if_neg (by assumption)] at g
    omega
theorem c_cf_u {S : aM} {a day i v v' : Int} (h : c_cf S a day i v) (g : c_cf2 S a day i v') : v = v' := by
  unfold c_cf at h
  unfold c_cf2 at g
  split at h
  · split at h
    · rw [if_pos (by assumption), if_pos (by assumption)] at g
      exact h _ g
    · rw [if_pos (by assumption), if_neg (by assumption)] at g
      omega
  · rw [if_neg (by assumption)] at g
    omega
theorem ms_235 {d : Nat} {m : aM} {Q : aO → aM → Prop} {S : aM} {F : Int → aD} {a i : Int} (hd : 60 ≤ d) (h : mI S F m) (hi : i ≤ 2147483647) (hQ : ∀ v m', mFr m m' → c_br2 S a i v → Q (.inl (some (aI v))) m') : am_wpc am_G am_T d 235 [aR 41, aI a, aI i] m Q := by
  have fr := mFr.rfl m
  have hS := h.2.1
  have s1 := hS.1
  obtain ⟨dk, hdk⟩ : ∃ k, d = k + 1 := ⟨d - 1, by omega⟩
  refine am_in (k := dk) rfl (by omega) (fun d hd => ?_)
  refine am_go 400 [] (am_wpc_cm _ _ _) wf_235 ?_
  refine And.intro (rfl) ?_
  refine ct_222 (by omega) h (fun t1 => ?_) (fun t1 => ?_)
  · have hA1 := (hS.2.2 a t1.1 t1.2).1
    have ok1 := (hS.2.2 a t1.1 t1.2).2
    refine And.intro (fun _ => ?_) (fun h => absurd h (by decide))
    refine And.intro (fun h1 => ?_) (fun h1 => ?_)
    · refine And.intro (rfl) ?_
      refine ct_185w (by omega) hA1 (by omega) ok1.cnt ok1.ov (fun c2 h3 => ?_) (fun h3 => ?_)
      · have bs := s_bi_b (by omega) h3
        have be := h3
        refine And.intro (fun h4 => ?_) (fun h4 => ?_)
        · refine hQ _ _ fr ?_
          unfold c_br2
          rw [if_pos t1, if_pos (by unfold s_bt; omega)]
          exact be
        · exfalso
          omega
      · refine And.intro (fun h => absurd h (by decide)) (fun _ => ?_)
        refine hQ _ _ fr ?_
        unfold c_br2
        rw [if_pos t1, if_neg (by omega)]
    · refine And.intro (fun h => absurd h (by decide)) (fun _ => ?_)
      refine hQ _ _ fr ?_
      unfold c_br2
      rw [if_pos t1, if_neg (by omega)]
  · refine And.intro (fun h => absurd h (by decide)) (fun _ => ?_)
    refine hQ _ _ fr ?_
    unfold c_br2
    rw [if_neg t1]
theorem ms_277 {d : Nat} {m : aM} {Q : aO → aM → Prop} {S : aM} {F : Int → aD} {a day i : Int} (hd : 60 ≤ d) (h : mI S F m) (hi : i ≤ 2147483647) (hQ : ∀ v m', mFr m m' → c_cf2 S a day i v → Q (.inl (some (aI v))) m') : am_wpc am_G am_T d 277 [aR 41, aI a, aI day, aI i] m Q := by
  have fr := mFr.rfl m
  have hS := h.2.1
  have s1 := hS.1
  obtain ⟨dk, hdk⟩ : ∃ k, d = k + 1 := ⟨d - 1, by omega⟩
  refine am_in (k := dk) rfl (by omega) (fun d hd => ?_)
  refine am_go 400 [] (am_wpc_cm _ _ _) wf_277 ?_
  refine And.intro (rfl) ?_
  refine ct_222 (by omega) h (fun t1 => ?_) (fun t1 => ?_)
  · have hA1 := (hS.2.2 a t1.1 t1.2).1
    have ok1 := (hS.2.2 a t1.1 t1.2).2
    refine And.intro (fun _ => ?_) (fun h => absurd h (by decide))
    refine ct_254 (by omega) (fun h1 => ?_) (fun h1 => ?_)
    · have dy := h1
      refine And.intro (fun h => absurd h (by decide)) (fun _ => ?_)
      refine And.intro (fun h2 => ?_) (fun h2 => ?_)
      · refine And.intro (rfl) ?_
        refine ct_275w (by omega) hS h.2.2.1 hA1 ok1.cnt (by omega) (fun c3 h4 => ?_) (fun h4 => ?_)
        · have bs := s_ith_b (f := s_cf S (S (100 + a)) day) (fun k => (s_cf_b S (S (100 + a)) day k).1) h4
          have bg := h4.1
          have be := h4
          refine And.intro (fun h5 => ?_) (fun h5 => ?_)
          · refine hQ _ _ fr ?_
            unfold c_cf2
            rw [if_pos t1, if_pos ⟨dy, by omega⟩]
            exact be
          · exfalso
            omega
        · refine And.intro (fun h => absurd h (by decide)) (fun _ => ?_)
          refine hQ _ _ fr ?_
          unfold c_cf2
          rw [if_pos t1, if_neg (by omega)]
      · refine And.intro (fun h => absurd h (by decide)) (fun _ => ?_)
        refine hQ _ _ fr ?_
        unfold c_cf2
        rw [if_pos t1, if_neg (by omega)]
    · have dn := h1
      refine And.intro (fun _ => ?_) (fun h => absurd h (by decide))
      refine And.intro (fun h => absurd h (by decide)) (fun _ => ?_)
      refine hQ _ _ fr ?_
      unfold c_cf2
      rw [if_pos t1, if_neg (by omega)]
  · refine And.intro (fun h => absurd h (by decide)) (fun _ => ?_)
    refine hQ _ _ fr ?_
    unfold c_cf2
    rw [if_neg t1]
theorem ms_274 {d : Nat} {m : aM} {Q : aO → aM → Prop} {S : aM} {F : Int → aD} {a day : Int} (hd : 60 ≤ d) (h : mI S F m)  (hQ : ∀ m', mFr m m' → Q (.inl (some (aI (c_cfs S a day)))) m') : am_wpc am_G am_T d 274 [aR 41, aI a, aI day] m Q := by
  have fr := mFr.rfl m
  have hS := h.2.1
  have s1 := hS.1
  obtain ⟨dk, hdk⟩ : ∃ k, d = k + 1 := ⟨d - 1, by omega⟩
  refine am_in (k := dk) rfl (by omega) (fun d hd => ?_)
  have K23 : ∀ (Nm : Nat), ∀ (i : Int), (200 - i).toNat = Nm → (0 ≤ i ∧ i ≤ s_sum (s_cf S (S (100 + a)) day) (S 0 5).toNat) → (v_has S a) → (v_day day) → am_WP am_G (am_wpc am_G am_T d) [] cd_274 Q 23 [aR 41, aI a, aI day, aI i] [] m := by
    intro Nm
    induction Nm using Nat.strongRecOn with
    | _ Nm ih23 =>
      intro i hN hi2 t1 dy
      have hA1 := (hS.2.2 a t1.1 t1.2).1
      have ok1 := (hS.2.2 a t1.1 t1.2).2
      have cb := s_sum_b (c := 1) (s_cf_b S (S (100 + a)) day) (S 0 5).toNat
      have c5 := h.2.2.1.1.1
      refine am_go 400 [23] (am_wpc_cm _ _ _) wf_274 ?_
      refine And.intro (rfl) ?_
      refine ct_275w (by omega) hS h.2.2.1 hA1 ok1.cnt (by omega) (fun c1 h2 => ?_) (fun h2 => ?_)
      · have bs := s_ith_b (f := s_cf S (S (100 + a)) day) (fun k => (s_cf_b S (S (100 + a)) day k).1) h2
        have bg := h2.1
        have be := h2
        refine And.intro (fun h3 => ?_) (fun h3 => ?_)
        · exfalso
          omega
        · refine And.intro (show -2147483648 ≤ i + 1 ∧ i + 1 ≤ 2147483647 by first | omega | (simp only [mS_iff, eq_self, Int.reduceEq, true_and, and_true, false_and, and_false, and_self, ↓reduceIte]; omega) | (simp only [mS_iff, eq_self, Int.reduceEq, true_and, and_true, false_and, and_false, and_self, ↓reduceIte] at *; omega)) ?_
          refine ih23 _ ?_ _ (Eq.refl _) ?_ ?_ ?_
          · have c5 := h.2.2.1.1.1
            omega
          · omega
          · exact t1
          · exact dy
      · refine And.intro (fun _ => ?_) (fun h => absurd h (by decide))
        have ev0 : c_cfs S a day = i := by
          unfold c_cfs
          repeat' split
          all_goals omega
        have hz := hQ m fr
        rw [ev0] at hz
        exact hz
  refine am_go 400 [23] (am_wpc_cm _ _ _) wf_274 ?_
  refine And.intro (rfl) ?_
  refine ct_222 (by omega) h (fun t1 => ?_) (fun t1 => ?_)
  · have hA1 := (hS.2.2 a t1.1 t1.2).1
    have ok1 := (hS.2.2 a t1.1 t1.2).2
    refine And.intro (fun _ => ?_) (fun h => absurd h (by decide))
    refine ct_254 (by omega) (fun h4 => ?_) (fun h4 => ?_)
    · have dy := h4
      refine And.intro (fun _ => ?_) (fun h => absurd h (by decide))
      have cb := s_sum_b (c := 1) (s_cf_b S (S (100 + a)) day) (S 0 5).toNat
      refine K23 _ _ (Eq.refl _) ?_ ?_ ?_
      · omega
      · exact t1
      · exact dy
    · have dn := h4
      refine And.intro (fun h => absurd h (by decide)) (fun _ => ?_)
      have ev0 : c_cfs S a day = (-3) := by
        unfold c_cfs
        repeat' split
        all_goals omega
      have hz := hQ m fr
      rw [ev0] at hz
      exact hz
  · refine And.intro (fun h => absurd h (by decide)) (fun _ => ?_)
    have ev0 : c_cfs S a day = (-2) := by
      unfold c_cfs
      repeat' split
      all_goals omega
    have hz := hQ m fr
    rw [ev0] at hz
    exact hz
def c_cl2 (S : aM) (day i v : Int) : Prop := if v_day day ∧ 0 ≤ i then ((∀ q, s_ci S day 1700 i q → v = s_cv q) ∧ (s_ct S day ≤ i → v = -3)) else v = -3
theorem ms_264 {d : Nat} {m : aM} {Q : aO → aM → Prop} {S : aM} {F : Int → aD} {day : Int} (hd : 60 ≤ d) (h : mI S F m)  (hQ : ∀ m', mFr m m' → Q (.inl (some (aI (c_cls S day)))) m') : am_wpc am_G am_T d 264 [aR 41, aI day] m Q := by
  have fr := mFr.rfl m
  have hS := h.2.1
  have s1 := hS.1
  obtain ⟨dk, hdk⟩ : ∃ k, d = k + 1 := ⟨d - 1, by omega⟩
  refine am_in (k := dk) rfl (by omega) (fun d hd => ?_)
  refine am_go 400 [] (am_wpc_cm _ _ _) wf_264 ?_
  refine ct_254 (by omega) (fun h1 => ?_) (fun h1 => ?_)
  · have dy := h1
    refine And.intro (fun _ => ?_) (fun h => absurd h (by decide))
    refine And.intro (rfl) ?_
    refine ct_265 (by omega) hS h.2.2.2.1 (by omega) (fun mc v2 fc h3 h4 h5 => ?_)
    have fr := fr.trans fc.R
    have cm := h3
    have ci := h4
    have cz := h5
    refine And.intro (rfl) ?_
    have ev0 : c_cls S day = (mc 41 39) := by
      unfold c_cls
      repeat' split
      all_goals omega
    have hz := hQ mc fr
    rw [ev0] at hz
    exact hz
  · have dn := h1
    refine And.intro (fun h => absurd h (by decide)) (fun _ => ?_)
    have ev0 : c_cls S day = (-3) := by
      unfold c_cls
      repeat' split
      all_goals omega
    have hz := hQ m fr
    rw [ev0] at hz
    exact hz
theorem s_ci_e {S : aM} {day i : Int} (h0 : 0 ≤ i) (h : i < s_ct S day) : ∃ q, s_ci S day 1700 i q := by
  have key : ∀ (N : Nat), i < s_sum (s_cl S day) N → ∃ q, 0 ≤ q ∧ q < (N : Int) ∧ s_cl S day q = 1 ∧ s_sum (s_cl S day) q.toNat = i := by
    intro N
    induction N with
    | zero => intro h; have : s_sum (s_cl S day) 0 = 0 := rfl; omega
    | succ N ih =>
      intro h
      have e : s_sum (s_cl S day) (N + 1) = s_sum (s_cl S day) N + s_cl S day (N : Int) := rfl
      have b := s_cl_b S day (N : Int)
      by_cases k : i < s_sum (s_cl S day) N
      · obtain ⟨q, a1, a2, a3, a4⟩ := ih k
        exact ⟨q, a1, by omega, a3, a4⟩
      · exact ⟨(N : Int), by omega, by omega, by omega, by rw [Int.toNat_natCast]; omega⟩
  obtain ⟨q, a1, a2, a3, a4⟩ := key 1700 h
  exact ⟨q, a1, a2, a3, a4⟩
theorem s_cv_n {q : Int} (h : 0 ≤ q) : s_cv q ≠ -1 := by unfold s_cv; omega
theorem c_cl_u {S : aM} {day i v v' : Int} (h : c_cl S day i v) (g : c_cl2 S day i v') : v = v' := by
  unfold c_cl at h
  unfold c_cl2 at g
  split at h
  · rw [if_pos ⟨by omega, by omega⟩] at g
    obtain ⟨q, hq⟩ := s_ci_e (S := S) (day := day) (i := i) (by omega) (by omega)
    rw [h q hq, g.1 q hq]
  · split at g
    · rw [h, g.2 (by omega)]
    · omega
theorem ms_267 {d : Nat} {m : aM} {Q : aO → aM → Prop} {S : aM} {F : Int → aD} {day i : Int} (hd : 60 ≤ d) (h : mI S F m)  (hQ : ∀ v m', mFr m m' → c_cl2 S day i v → Q (.inl (some (aI v))) m') : am_wpc am_G am_T d 267 [aR 41, aI day, aI i] m Q := by
  have fr := mFr.rfl m
  have hS := h.2.1
  have s1 := hS.1
  obtain ⟨dk, hdk⟩ : ∃ k, d = k + 1 := ⟨d - 1, by omega⟩
  refine am_in (k := dk) rfl (by omega) (fun d hd => ?_)
  refine am_go 400 [] (am_wpc_cm _ _ _) wf_267 ?_
  refine ct_254 (by omega) (fun h1 => ?_) (fun h1 => ?_)
  · have dy := h1
    refine And.intro (fun h => absurd h (by decide)) (fun _ => ?_)
    refine And.intro (fun h2 => ?_) (fun h2 => ?_)
    · refine And.intro (rfl) ?_
      refine ct_265 (by omega) hS h.2.2.2.1 (by omega) (fun mc v3 fc h4 h5 h6 => ?_)
      have fr := fr.trans fc.R
      have cm := h4
      have ci := h5
      have cz := h6
      refine And.intro (fun h7 => ?_) (fun h7 => ?_)
      · refine hQ _ _ fr ?_
        unfold c_cl2
        rw [if_pos ⟨dy, by omega⟩]
        exact ⟨ci, fun k => by have := cz k; omega⟩
      · refine hQ _ _ fr ?_
        unfold c_cl2
        rw [if_pos ⟨dy, by omega⟩]
        exact ⟨fun q hq => by have := ci q hq; have := s_cv_n hq.1; omega, fun _ => rfl⟩
    · refine hQ _ _ fr ?_
      unfold c_cl2
      rw [if_neg (by omega)]
  · have dn := h1
    refine And.intro (fun _ => ?_) (fun h => absurd h (by decide))
    refine hQ _ _ fr ?_
    unfold c_cl2
    rw [if_neg (by omega)]
