/-! needs: c19 -/
/-! The least rank whose place is not below one, house; by tools/genc20.py -/
set_option maxRecDepth 100000
set_option maxHeartbeats 8000000
theorem ct_140 {d : Nat} {m : aM} {Q : aO → aM → Prop} {n i : Int} {g : Int → Int} (hd : 1 ≤ d) (hn : 0 ≤ n ∧ n ≤ 21681) (hc : m 1 45 = n) (hg : ∀ r, 0 ≤ r → r < n → m 37 r = g r) (hm : ∀ a b, 0 ≤ a → a < b → b < n → g a < g b) (hQ : ∀ x, (0 ≤ x ∧ x ≤ n) → (∀ r, 0 ≤ r → r < x → g r < i) → (∀ r, x ≤ r → r < n → i ≤ g r) → Q (.inl (some (aI x))) m) : am_wpc am_G am_T d 140 [aR 1, aI i] m Q := by
  refine am_in rfl hd (fun d hd => ?_)
  have K7 : ∀ (Nm : Nat), ∀ (a : Int) (b : Int) (z4 : aV), (b - a).toNat = Nm → (0 ≤ a ∧ a ≤ b ∧ b ≤ n) → (∀ r, 0 ≤ r → r < a → g r < i) → (∀ r, b ≤ r → r < n → i ≤ g r) → am_WP am_G (am_wpc am_G am_T d) [] cd_140 Q 7 [aR 1, aI i, aI a, aI b, z4] [] m := by
    intro Nm
    induction Nm using Nat.strongRecOn with
    | _ Nm ih7 =>
      intro a b z4 hN hab l1 l2
      refine am_go 400 [7] (am_wpc_cm _ _ _) wf_140 ?_
      refine And.intro (fun h1 => ?_) (fun h1 => ?_)
      · exact hQ a (by omega) l1 (fun r x y => l2 r (by omega) y)
      · refine And.intro (show -2147483648 ≤ a + b ∧ a + b ≤ 2147483647 by first | omega | (simp only [mS_iff, eq_self, Int.reduceEq, true_and, and_true, false_and, and_false, and_self, ↓reduceIte]; omega) | (simp only [mS_iff, eq_self, Int.reduceEq, true_and, and_true, false_and, and_false, and_self, ↓reduceIte] at *; omega)) ?_
        refine And.intro (show 0 < 2 by first | omega | (simp only [mS_iff, eq_self, Int.reduceEq, true_and, and_true, false_and, and_false, and_self, ↓reduceIte]; omega) | (simp only [mS_iff, eq_self, Int.reduceEq, true_and, and_true, false_and, and_false, and_self, ↓reduceIte] at *; omega)) ?_
        have md : (a + b).tdiv 2 = (a + b) / 2 := Int.tdiv_eq_ediv_of_nonneg (by omega)
        have ev := hg ((a + b).tdiv 2) (by omega) (by omega)
        refine And.intro (rfl) ?_
        refine And.intro (⟨rfl, by omega⟩) ?_
        refine And.intro (fun h2 => ?_) (fun h2 => ?_)
        · refine ih7 _ ?_ _ _ _ (Eq.refl _) ?_ ?_ ?_
          · omega
          · omega
          · exact l1
          · intro r x y
            by_cases k : r = (a + b).tdiv 2
            · rw [k]; omega
            · have := hm ((a + b).tdiv 2) r (by omega) (by omega) y
              omega
        · refine And.intro (show -2147483648 ≤ ((a + b).tdiv 2) + 1 ∧ ((a + b).tdiv 2) + 1 ≤ 2147483647 by first | omega | (simp only [mS_iff, eq_self, Int.reduceEq, true_and, and_true, false_and, and_false, and_self, ↓reduceIte]; omega) | (simp only [mS_iff, eq_self, Int.reduceEq, true_and, and_true, false_and, and_false, and_self, ↓reduceIte] at *; omega)) ?_
          refine ih7 _ ?_ _ _ _ (Eq.refl _) ?_ ?_ ?_
          · omega
          · omega
          · intro r x y
            by_cases k : r = (a + b).tdiv 2
            · rw [k]; omega
            · have := hm r ((a + b).tdiv 2) x (by omega) (by omega)
              omega
          · exact l2
  refine am_go 400 [7] (am_wpc_cm _ _ _) wf_140 ?_
  refine And.intro (rfl) ?_
  refine K7 _ _ _ _ (Eq.refl _) ?_ ?_ ?_
  · omega
  · exact fun r x y => by omega
  · exact fun r x y => by omega
