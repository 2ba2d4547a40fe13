/-! needs: 82 -/
/-! CONTRACTS: drawing of the reference, whole; by tools/gen83.py -/
set_option maxRecDepth 100000
def mDr (m : aM) (w : Int → Int) : Prop := (∀ j, 0 ≤ j → j < 2880 → m 51 j = s_dot w j) ∧ (∀ l, 0 ≤ l → l < w 5 → m 52 l = s_szl w l)
def fr_mD (m m' : aM) : Prop := ∀ r j, (r < 51 ∨ 55 < r) → (r ≠ 41 ∨ (j ≠ 23 ∧ j ≠ 27)) → m' r j = m r j
theorem fr_mD.row {m m' : aM} (h : fr_mD m m') {a : Int} {w : Int → Int} (g : mRow m a w) : mRow m' a w := g.keep (fun j => h 42 j (by omega) (by omega))
theorem fr_mD.trans {a b c : aM} (h : fr_mD a b) (g : fr_mD b c) : fr_mD a c := fun r j x y => (g r j x y).trans (h r j x y)
theorem fr_mD.S {m m' : aM} (h : fr_mD m m') {c i v : Int} (hc : 51 ≤ c ∧ c ≤ 55) : fr_mD m (mS m' c i v) := fun r j a b => by rw [mS_a _ _ _ _ (by omega)]; exact h r j a b
theorem fr_mL.D {m m' : aM} (h : fr_mL m m') : fr_mD m m' := fun r j a b => h r j a (by omega)
theorem ct_237 {d : Nat} {m : aM} {Q : aO → aM → Prop} {a : Int} {w : Int → Int} (hd : 6 ≤ d) (hR : mRow m a w) (hk : okRow w) (htk : mTk m) (htr : 0 ≤ m 41 27 ∧ m 41 27 ≤ 800000) (hD : m 41 23 = a → mDr m w) (hQ : ∀ m', fr_mD m m' → m' 41 23 = a → mDr m' w → mTk m' → m 41 27 ≤ m' 41 27 ∧ m' 41 27 ≤ m 41 27 + 126 → Q (.inl none) m') : am_wpc am_G am_T d 237 [aR 41, aI a] m Q := by
  have hw5 := hk.cnt
  have hw2 : 0 ≤ w 2 ∧ w 2 ≤ 12 := hk.2.2.1
  refine am_in rfl hd (fun d hd => ?_)
  have K108 : ∀ (N : Nat), ∀ (l : Int) (x3 : aV), ∀ (m3 : aM), (6 - l).toNat = N → (0 ≤ l ∧ l ≤ w 5) → (fr_mD m m3) → (m3 41 23 = a) → (∀ j, 0 ≤ j → j < 2880 → m3 51 j = s_dn w l.toNat (j % 48) (j / 48)) → (∀ k, 0 ≤ k → k < l → m3 52 k = s_szl w k) → (mTk m3) → (m 41 27 ≤ m3 41 27 ∧ m3 41 27 ≤ m 41 27 + 21 * l) → am_WP am_G (am_wpc am_G am_T d) [] cd_237 Q 108 [aR 41, aI a, aI l, x3] [] m3 := by
    intro N
    induction N using Nat.strongRecOn with
    | _ N ih108 =>
      intro l x3 m3 hN l0 fr ed dd ss tk tr
      have hA : mRow m3 a w := fr.row hR
      refine am_go 400 [108, 16, 24] (am_wpc_cm _ _ _) wf_237 ?_
      refine And.intro (rfl) ?_
      refine ct_186 (by omega) hA (by omega) (fun v1 h2 => ?_)
      replace h2 : v1 = w 5 := h2
      refine And.intro (fun h3 => ?_) (fun h3 => ?_)
      · exact hQ _ fr ed ⟨fun j p q => by rw [dd j p q, show l = w 5 by omega]; rfl, fun k p q => ss k p (by omega)⟩ tk (by omega)
      · refine And.intro (rfl) ?_
        refine ct_242 (by omega) hA (by omega) (hk.2.2.2.2.2.2.2.1 l (by omega) (by omega)) tk (by omega) (fun mw4 h5 h6 => ?_)
        have dl := h5
        have d2 := h6
        refine And.intro (show -2147483648 ≤ l + 1 ∧ l + 1 ≤ 2147483647 by first | omega | (simp only [mS_iff, eq_self, Int.reduceEq, true_and, and_true, false_and, and_false, and_self, ↓reduceIte]; omega) | (simp only [mS_iff, eq_self, Int.reduceEq, true_and, and_true, false_and, and_false, and_self, ↓reduceIte] at *; omega)) ?_
        refine ih108 _ ?_ _ _ _ (Eq.refl _) ?_ ?_ ?_ ?_ ?_ ?_ ?_
        · omega
        · first | omega | (simp only [mS_iff, eq_self, Int.reduceEq, true_and, and_true, false_and, and_false, and_self, ↓reduceIte]; omega) | (simp only [mS_iff, eq_self, Int.reduceEq, true_and, and_true, false_and, and_false, and_self, ↓reduceIte] at *; omega)
        · exact fr.trans dl.1.D
        · rw [dl.1 41 23 (by omega) (by omega)]; exact ed
        · intro j p q
          rw [d2 j p q, s_dn_s w (by omega), dd j p q]
        · intro k p q
          by_cases e : k = l
          · rw [e, dl.2.1]; rfl
          · rw [dl.2.2.1 k e]; exact ss k p (by omega)
        · exact dl.2.2.2.1
        · have := dl.2.2.2.2; omega
  have K16 : ∀ (N : Nat), ∀ (y : Int) (x3 : aV), ∀ (m2 : aM), (60 - y).toNat = N → (0 ≤ y ∧ y ≤ 60) → (fr_mD m m2) → (m2 41 23 = a) → (m2 41 27 = m 41 27) → (mTk m2) → (∀ j, 0 ≤ j → j < 2880 → (j / 48 < y) → m2 51 j = s_d0 w (j % 48) (j / 48)) → am_WP am_G (am_wpc am_G am_T d) [] cd_237 Q 16 [aR 41, aI a, aI y, x3] [] m2 := by
    intro N
    induction N using Nat.strongRecOn with
    | _ N ih16 =>
      intro y x3 m2 hN i0 fr ed tr tk dd
      have hA : mRow m2 a w := fr.row hR
      have K24 : ∀ (N : Nat), ∀ (x : Int), ∀ (m4 : aM), (48 - x).toNat = N → (0 ≤ x ∧ x ≤ 48 ∧ y < 60) → (fr_mD m m4) → (m4 41 23 = a) → (m4 41 27 = m 41 27) → (mTk m4) → (∀ j, 0 ≤ j → j < 2880 → (j / 48 < y ∨ (j / 48 = y ∧ j % 48 < x)) → m4 51 j = s_d0 w (j % 48) (j / 48)) → am_WP am_G (am_wpc am_G am_T d) [] cd_237 Q 24 [aR 41, aI a, aI y, aI x] [] m4 := by
        intro N
        induction N using Nat.strongRecOn with
        | _ N ih24 =>
          intro x m4 hN xx fr ed tr tk dd
          have hA : mRow m4 a w := fr.row hR
          refine am_go 400 [108, 16, 24] (am_wpc_cm _ _ _) wf_237 ?_
          refine And.intro (fun h7 => ?_) (fun h7 => ?_)
          · refine And.intro (show -2147483648 ≤ y + 1 ∧ y + 1 ≤ 2147483647 by first | omega | (simp only [mS_iff, eq_self, Int.reduceEq, true_and, and_true, false_and, and_false, and_self, ↓reduceIte]; omega) | (simp only [mS_iff, eq_self, Int.reduceEq, true_and, and_true, false_and, and_false, and_self, ↓reduceIte] at *; omega)) ?_
            refine ih16 _ ?_ _ _ _ (Eq.refl _) ?_ ?_ ?_ ?_ ?_ ?_
            · omega
            · first | omega | (simp only [mS_iff, eq_self, Int.reduceEq, true_and, and_true, false_and, and_false, and_self, ↓reduceIte]; omega) | (simp only [mS_iff, eq_self, Int.reduceEq, true_and, and_true, false_and, and_false, and_self, ↓reduceIte] at *; omega)
            · exact fr
            · exact ed
            · exact tr
            · exact tk
            · intro j p q r
              exact dd j p q (by omega)
          · refine And.intro (rfl) ?_
            refine And.intro (show -2147483648 ≤ 48 * y ∧ 48 * y ≤ 2147483647 by first | omega | (simp only [mS_iff, eq_self, Int.reduceEq, true_and, and_true, false_and, and_false, and_self, ↓reduceIte]; omega) | (simp only [mS_iff, eq_self, Int.reduceEq, true_and, and_true, false_and, and_false, and_self, ↓reduceIte] at *; omega)) ?_
            refine And.intro (show -2147483648 ≤ (48 * y) + x ∧ (48 * y) + x ≤ 2147483647 by first | omega | (simp only [mS_iff, eq_self, Int.reduceEq, true_and, and_true, false_and, and_false, and_self, ↓reduceIte]; omega) | (simp only [mS_iff, eq_self, Int.reduceEq, true_and, and_true, false_and, and_false, and_self, ↓reduceIte] at *; omega)) ?_
            refine ct_238 (by omega) (fun h8 => ?_) (fun h8 => ?_)
            · have ins := h8
              refine And.intro (fun _ => ?_) (fun h => absurd h (by decide))
              refine And.intro (rfl) ?_
              refine ct_186 (by omega) hA (by omega) (fun v9 h10 => ?_)
              replace h10 : v9 = w 0 := h10
              refine And.intro (rfl) ?_
              refine ct_186 (by omega) hA (by omega) (fun v11 h12 => ?_)
              replace h12 : v11 = w 1 := h12
              refine And.intro (rfl) ?_
              refine ct_186 (by omega) hA (by omega) (fun v13 h14 => ?_)
              replace h14 : v13 = w 2 := h14
              refine ct_239 (by omega) (by omega) (by omega) (fun h15 => ?_) (fun h15 => ?_)
              · rw [h10, h12, h14] at h15
                have fs := h15
                refine And.intro (fun h => absurd h (by decide)) (fun _ => ?_)
                refine And.intro (rfl) ?_
                refine ct_186 (by omega) hA (by omega) (fun v16 h17 => ?_)
                replace h17 : v16 = w 3 := h17
                refine And.intro (⟨rfl, by first | omega | (simp only [mS_iff, eq_self, Int.reduceEq, true_and, and_true, false_and, and_false, and_self, ↓reduceIte]; omega) | (simp only [mS_iff, eq_self, Int.reduceEq, true_and, and_true, false_and, and_false, and_self, ↓reduceIte] at *; omega)⟩) ?_
                refine And.intro (show -2147483648 ≤ x + 1 ∧ x + 1 ≤ 2147483647 by first | omega | (simp only [mS_iff, eq_self, Int.reduceEq, true_and, and_true, false_and, and_false, and_self, ↓reduceIte]; omega) | (simp only [mS_iff, eq_self, Int.reduceEq, true_and, and_true, false_and, and_false, and_self, ↓reduceIte] at *; omega)) ?_
                refine ih24 _ ?_ _ _ (Eq.refl _) ?_ ?_ ?_ ?_ ?_ ?_
                · omega
                · first | omega | (simp only [mS_iff, eq_self, Int.reduceEq, true_and, and_true, false_and, and_false, and_self, ↓reduceIte]; omega) | (simp only [mS_iff, eq_self, Int.reduceEq, true_and, and_true, false_and, and_false, and_self, ↓reduceIte] at *; omega)
                · exact fr.S (by omega)
                · exact ed
                · exact tr
                · intro j p q
                  exact tk j p q
                · intro j p q r
                  by_cases e : j = 48 * y + x
                  · rw [e, mS_eq, show (48 * y + x) % 48 = x by omega, show (48 * y + x) / 48 = y by omega]
                    first
                      | exact (s_d0_o ins).symm
                      | (rw [s_d0_1 ins fs]; exact h17)
                      | (rw [s_d0_2 ins fs]; exact h17)
                  · rw [mS_i _ _ _ _ e]
                    exact dd j p q (by omega)
              · rw [h10, h12, h14] at h15
                have fs := h15
                refine And.intro (fun _ => ?_) (fun h => absurd h (by decide))
                refine And.intro (rfl) ?_
                refine ct_186 (by omega) hA (by omega) (fun v18 h19 => ?_)
                replace h19 : v18 = w 4 := h19
                refine And.intro (⟨rfl, by first | omega | (simp only [mS_iff, eq_self, Int.reduceEq, true_and, and_true, false_and, and_false, and_self, ↓reduceIte]; omega) | (simp only [mS_iff, eq_self, Int.reduceEq, true_and, and_true, false_and, and_false, and_self, ↓reduceIte] at *; omega)⟩) ?_
                refine And.intro (show -2147483648 ≤ x + 1 ∧ x + 1 ≤ 2147483647 by first | omega | (simp only [mS_iff, eq_self, Int.reduceEq, true_and, and_true, false_and, and_false, and_self, ↓reduceIte]; omega) | (simp only [mS_iff, eq_self, Int.reduceEq, true_and, and_true, false_and, and_false, and_self, ↓reduceIte] at *; omega)) ?_
                refine ih24 _ ?_ _ _ (Eq.refl _) ?_ ?_ ?_ ?_ ?_ ?_
                · omega
                · first | omega | (simp only [mS_iff, eq_self, Int.reduceEq, true_and, and_true, false_and, and_false, and_self, ↓reduceIte]; omega) | (simp only [mS_iff, eq_self, Int.reduceEq, true_and, and_true, false_and, and_false, and_self, ↓reduceIte] at *; omega)
                · exact fr.S (by omega)
                · exact ed
                · exact tr
                · intro j p q
                  exact tk j p q
                · intro j p q r
                  by_cases e : j = 48 * y + x
                  · rw [e, mS_eq, show (48 * y + x) % 48 = x by omega, show (48 * y + x) / 48 = y by omega]
                    first
                      | exact (s_d0_o ins).symm
                      | (rw [s_d0_1 ins fs]; exact h19)
                      | (rw [s_d0_2 ins fs]; exact h19)
                  · rw [mS_i _ _ _ _ e]
                    exact dd j p q (by omega)
            · have ins := h8
              refine And.intro (fun h => absurd h (by decide)) (fun _ => ?_)
              refine And.intro (⟨rfl, by first | omega | (simp only [mS_iff, eq_self, Int.reduceEq, true_and, and_true, false_and, and_false, and_self, ↓reduceIte]; omega) | (simp only [mS_iff, eq_self, Int.reduceEq, true_and, and_true, false_and, and_false, and_self, ↓reduceIte] at *; omega)⟩) ?_
              refine And.intro (show -2147483648 ≤ x + 1 ∧ x + 1 ≤ 2147483647 by first | omega | (simp only [mS_iff, eq_self, Int.reduceEq, true_and, and_true, false_and, and_false, and_self, ↓reduceIte]; omega) | (simp only [mS_iff, eq_self, Int.reduceEq, true_and, and_true, false_and, and_false, and_self, ↓reduceIte] at *; omega)) ?_
              refine ih24 _ ?_ _ _ (Eq.refl _) ?_ ?_ ?_ ?_ ?_ ?_
              · omega
              · first | omega | (simp only [mS_iff, eq_self, Int.reduceEq, true_and, and_true, false_and, and_false, and_self, ↓reduceIte]; omega) | (simp only [mS_iff, eq_self, Int.reduceEq, true_and, and_true, false_and, and_false, and_self, ↓reduceIte] at *; omega)
              · exact fr.S (by omega)
              · exact ed
              · exact tr
              · intro j p q
                exact tk j p q
              · intro j p q r
                by_cases e : j = 48 * y + x
                · rw [e, mS_eq, show (48 * y + x) % 48 = x by omega, show (48 * y + x) / 48 = y by omega]
                  first
                    | exact (s_d0_o ins).symm
                    | (rw [s_d0_1 ins fs]; exact ins)
                    | (rw [s_d0_2 ins fs]; exact ins)
                · rw [mS_i _ _ _ _ e]
                  exact dd j p q (by omega)
      refine am_go 400 [108, 16, 24] (am_wpc_cm _ _ _) wf_237 ?_
      refine And.intro (fun h20 => ?_) (fun h20 => ?_)
      · refine K108 _ _ _ _ (Eq.refl _) ?_ ?_ ?_ ?_ ?_ ?_ ?_
        · first | omega | (simp only [mS_iff, eq_self, Int.reduceEq, true_and, and_true, false_and, and_false, and_self, ↓reduceIte]; omega) | (simp only [mS_iff, eq_self, Int.reduceEq, true_and, and_true, false_and, and_false, and_self, ↓reduceIte] at *; omega)
        · exact fr
        · exact ed
        · intro j p q
          exact dd j p q (by omega)
        · intro k p q
          omega
        · exact tk
        · omega
      · refine K24 _ _ _ (Eq.refl _) ?_ ?_ ?_ ?_ ?_ ?_
        · first | omega | (simp only [mS_iff, eq_self, Int.reduceEq, true_and, and_true, false_and, and_false, and_self, ↓reduceIte]; omega) | (simp only [mS_iff, eq_self, Int.reduceEq, true_and, and_true, false_and, and_false, and_self, ↓reduceIte] at *; omega)
        · exact fr
        · exact ed
        · exact tr
        · exact tk
        · intro j p q r
          exact dd j p q (by omega)
  refine am_go 400 [108, 16, 24] (am_wpc_cm _ _ _) wf_237 ?_
  refine And.intro (rfl) ?_
  refine And.intro (fun h21 => ?_) (fun h21 => ?_)
  · refine And.intro (rfl) ?_
    refine K16 _ _ _ _ (Eq.refl _) ?_ ?_ ?_ ?_ ?_ ?_
    · first | omega | (simp only [mS_iff, eq_self, Int.reduceEq, true_and, and_true, false_and, and_false, and_self, ↓reduceIte]; omega) | (simp only [mS_iff, eq_self, Int.reduceEq, true_and, and_true, false_and, and_false, and_self, ↓reduceIte] at *; omega)
    · intro r j p q
      rw [mS_iff, if_neg (by omega)]
    · exact rfl
    · exact rfl
    · intro j p q
      exact htk j p q
    · intro j p q r
      omega
  · exact hQ _ (fun _ _ _ _ => rfl) (by omega) (hD (by omega)) htk (by omega)
