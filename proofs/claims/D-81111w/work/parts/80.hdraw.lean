/-! needs: 79 -/
/-! CONTRACTS: drawing of the house; by tools/gen80.py -/
set_option maxRecDepth 100000
/-- struck (8) is the ordinary's dots -/
def hStr (w : Int → Int) (b : Int) (st : Int → Int) : Prop := ∀ x y, s_in x y → (st (48 * y + x) = 1 ∧ s_od w b x y) ∨ (st (48 * y + x) = 0 ∧ ¬ s_od w b x y)
theorem ct_89 {d : Nat} {m : aM} {Q : aO → aM → Prop} {l b x y : Int} {w : Int → Int} (hd : 2 ≤ d) (h1 : m l (-1) = 7) (h3 : m l 3 = w (b + 4)) (hst : hStr w b (m 8)) (hQ1 : s_okd w b x y → m 9 (48 * y + x) ≠ m 1 14 → Q (.inl (some (aI 1))) (mS m 9 (48 * y + x) (m 1 14))) (hQ0 : (¬ s_okd w b x y ∨ (s_in x y ∧ m 9 (48 * y + x) = m 1 14)) → Q (.inl (some (aI 0))) m) : am_wpc am_G am_T d 89 [aR 1, aR l, aI x, aI y] m Q := by
  refine am_in rfl hd (fun d hd => ?_)
  refine am_go 400 [] (am_wpc_cm _ _ _) wf_89 ?_
  refine ct_80 (by omega) (fun h1 => ?_) (fun h1 => ?_)
  · have hi := h1
    have hb := h1.1
    refine And.intro (fun _ => ?_) (fun h => absurd h (by decide))
    refine And.intro (show -2147483648 ≤ 48 * y ∧ 48 * y ≤ 2147483647 by first | omega | (simp only [mS_iff, eq_self, Int.reduceEq, true_and, and_true, false_and, and_false, and_self, ↓reduceIte]; omega) | (simp only [mS_iff, eq_self, Int.reduceEq, true_and, and_true, false_and, and_false, and_self, ↓reduceIte] at *; omega)) ?_
    refine And.intro (show -2147483648 ≤ (48 * y) + x ∧ (48 * y) + x ≤ 2147483647 by first | omega | (simp only [mS_iff, eq_self, Int.reduceEq, true_and, and_true, false_and, and_false, and_self, ↓reduceIte]; omega) | (simp only [mS_iff, eq_self, Int.reduceEq, true_and, and_true, false_and, and_false, and_self, ↓reduceIte] at *; omega)) ?_
    rcases hst x y hi with ⟨st, od⟩ | ⟨st, od⟩
    · refine And.intro (rfl) ?_
      refine And.intro (⟨rfl, by first | omega | (simp only [mS_iff, eq_self, Int.reduceEq, true_and, and_true, false_and, and_false, and_self, ↓reduceIte]; omega) | (simp only [mS_iff, eq_self, Int.reduceEq, true_and, and_true, false_and, and_false, and_self, ↓reduceIte] at *; omega)⟩) ?_
      refine And.intro (rfl) ?_
      refine And.intro (fun h2 => ?_) (fun h2 => ?_)
      · refine And.intro (by first | omega | (simp only [mS_iff, eq_self, Int.reduceEq, true_and, and_true, false_and, and_false, and_self, ↓reduceIte]; omega) | (simp only [mS_iff, eq_self, Int.reduceEq, true_and, and_true, false_and, and_false, and_self, ↓reduceIte] at *; omega)) ?_
        first | exact hQ0 (Or.inl (fun q => hi q.1)) | exact hQ0 (Or.inr ⟨hi, by omega⟩) | exact hQ0 (Or.inl (fun q => q.2.1 (by omega) od)) | exact hQ0 (Or.inl (fun q => od (q.2.2 (by omega)))) | omega
      · refine And.intro (show (m l (-1)) = 7 by first | assumption | omega | (simp only [mS_iff, eq_self, Int.reduceEq, true_and, and_true, false_and, and_false, and_self, ↓reduceIte]; omega) | (simp only [mS_iff, eq_self, Int.reduceEq, true_and, and_true, false_and, and_false, and_self, ↓reduceIte] at *; omega)) ?_
        refine And.intro (fun h3 => ?_) (fun h3 => ?_)
        · refine And.intro (show (m l (-1)) = 7 by first | assumption | omega | (simp only [mS_iff, eq_self, Int.reduceEq, true_and, and_true, false_and, and_false, and_self, ↓reduceIte]; omega) | (simp only [mS_iff, eq_self, Int.reduceEq, true_and, and_true, false_and, and_false, and_self, ↓reduceIte] at *; omega)) ?_
          refine And.intro (fun h4 => ?_) (fun h4 => ?_)
          · refine And.intro (rfl) ?_
            refine And.intro (rfl) ?_
            refine And.intro (⟨rfl, by first | omega | (simp only [mS_iff, eq_self, Int.reduceEq, true_and, and_true, false_and, and_false, and_self, ↓reduceIte]; omega) | (simp only [mS_iff, eq_self, Int.reduceEq, true_and, and_true, false_and, and_false, and_self, ↓reduceIte] at *; omega)⟩) ?_
            refine And.intro (by first | omega | (simp only [mS_iff, eq_self, Int.reduceEq, true_and, and_true, false_and, and_false, and_self, ↓reduceIte]; omega) | (simp only [mS_iff, eq_self, Int.reduceEq, true_and, and_true, false_and, and_false, and_self, ↓reduceIte] at *; omega)) ?_
            exact hQ1 ⟨hi, fun q => by first | exact od | omega, fun q => by first | exact od | omega⟩ (by omega)
          · refine And.intro (rfl) ?_
            refine And.intro (⟨rfl, by first | omega | (simp only [mS_iff, eq_self, Int.reduceEq, true_and, and_true, false_and, and_false, and_self, ↓reduceIte]; omega) | (simp only [mS_iff, eq_self, Int.reduceEq, true_and, and_true, false_and, and_false, and_self, ↓reduceIte] at *; omega)⟩) ?_
            refine And.intro (fun h5 => ?_) (fun h5 => ?_)
            · refine And.intro (rfl) ?_
              refine And.intro (rfl) ?_
              refine And.intro (⟨rfl, by first | omega | (simp only [mS_iff, eq_self, Int.reduceEq, true_and, and_true, false_and, and_false, and_self, ↓reduceIte]; omega) | (simp only [mS_iff, eq_self, Int.reduceEq, true_and, and_true, false_and, and_false, and_self, ↓reduceIte] at *; omega)⟩) ?_
              refine And.intro (by first | omega | (simp only [mS_iff, eq_self, Int.reduceEq, true_and, and_true, false_and, and_false, and_self, ↓reduceIte]; omega) | (simp only [mS_iff, eq_self, Int.reduceEq, true_and, and_true, false_and, and_false, and_self, ↓reduceIte] at *; omega)) ?_
              exact hQ1 ⟨hi, fun q => by first | exact od | omega, fun q => by first | exact od | omega⟩ (by omega)
            · refine And.intro (by first | omega | (simp only [mS_iff, eq_self, Int.reduceEq, true_and, and_true, false_and, and_false, and_self, ↓reduceIte]; omega) | (simp only [mS_iff, eq_self, Int.reduceEq, true_and, and_true, false_and, and_false, and_self, ↓reduceIte] at *; omega)) ?_
              first | exact hQ0 (Or.inl (fun q => hi q.1)) | exact hQ0 (Or.inr ⟨hi, by omega⟩) | exact hQ0 (Or.inl (fun q => q.2.1 (by omega) od)) | exact hQ0 (Or.inl (fun q => od (q.2.2 (by omega)))) | omega
        · refine And.intro (rfl) ?_
          refine And.intro (⟨rfl, by first | omega | (simp only [mS_iff, eq_self, Int.reduceEq, true_and, and_true, false_and, and_false, and_self, ↓reduceIte]; omega) | (simp only [mS_iff, eq_self, Int.reduceEq, true_and, and_true, false_and, and_false, and_self, ↓reduceIte] at *; omega)⟩) ?_
          refine And.intro (fun h6 => ?_) (fun h6 => ?_)
          · refine And.intro (by first | omega | (simp only [mS_iff, eq_self, Int.reduceEq, true_and, and_true, false_and, and_false, and_self, ↓reduceIte]; omega) | (simp only [mS_iff, eq_self, Int.reduceEq, true_and, and_true, false_and, and_false, and_self, ↓reduceIte] at *; omega)) ?_
            first | exact hQ0 (Or.inl (fun q => hi q.1)) | exact hQ0 (Or.inr ⟨hi, by omega⟩) | exact hQ0 (Or.inl (fun q => q.2.1 (by omega) od)) | exact hQ0 (Or.inl (fun q => od (q.2.2 (by omega)))) | omega
          · refine And.intro (show (m l (-1)) = 7 by first | assumption | omega | (simp only [mS_iff, eq_self, Int.reduceEq, true_and, and_true, false_and, and_false, and_self, ↓reduceIte]; omega) | (simp only [mS_iff, eq_self, Int.reduceEq, true_and, and_true, false_and, and_false, and_self, ↓reduceIte] at *; omega)) ?_
            refine And.intro (fun h7 => ?_) (fun h7 => ?_)
            · refine And.intro (rfl) ?_
              refine And.intro (rfl) ?_
              refine And.intro (⟨rfl, by first | omega | (simp only [mS_iff, eq_self, Int.reduceEq, true_and, and_true, false_and, and_false, and_self, ↓reduceIte]; omega) | (simp only [mS_iff, eq_self, Int.reduceEq, true_and, and_true, false_and, and_false, and_self, ↓reduceIte] at *; omega)⟩) ?_
              refine And.intro (by first | omega | (simp only [mS_iff, eq_self, Int.reduceEq, true_and, and_true, false_and, and_false, and_self, ↓reduceIte]; omega) | (simp only [mS_iff, eq_self, Int.reduceEq, true_and, and_true, false_and, and_false, and_self, ↓reduceIte] at *; omega)) ?_
              exact hQ1 ⟨hi, fun q => by first | exact od | omega, fun q => by first | exact od | omega⟩ (by omega)
            · refine And.intro (rfl) ?_
              refine And.intro (⟨rfl, by first | omega | (simp only [mS_iff, eq_self, Int.reduceEq, true_and, and_true, false_and, and_false, and_self, ↓reduceIte]; omega) | (simp only [mS_iff, eq_self, Int.reduceEq, true_and, and_true, false_and, and_false, and_self, ↓reduceIte] at *; omega)⟩) ?_
              refine And.intro (fun h8 => ?_) (fun h8 => ?_)
              · refine And.intro (rfl) ?_
                refine And.intro (rfl) ?_
                refine And.intro (⟨rfl, by first | omega | (simp only [mS_iff, eq_self, Int.reduceEq, true_and, and_true, false_and, and_false, and_self, ↓reduceIte]; omega) | (simp only [mS_iff, eq_self, Int.reduceEq, true_and, and_true, false_and, and_false, and_self, ↓reduceIte] at *; omega)⟩) ?_
                refine And.intro (by first | omega | (simp only [mS_iff, eq_self, Int.reduceEq, true_and, and_true, false_and, and_false, and_self, ↓reduceIte]; omega) | (simp only [mS_iff, eq_self, Int.reduceEq, true_and, and_true, false_and, and_false, and_self, ↓reduceIte] at *; omega)) ?_
                exact hQ1 ⟨hi, fun q => by first | exact od | omega, fun q => by first | exact od | omega⟩ (by omega)
              · refine And.intro (by first | omega | (simp only [mS_iff, eq_self, Int.reduceEq, true_and, and_true, false_and, and_false, and_self, ↓reduceIte]; omega) | (simp only [mS_iff, eq_self, Int.reduceEq, true_and, and_true, false_and, and_false, and_self, ↓reduceIte] at *; omega)) ?_
                first | exact hQ0 (Or.inl (fun q => hi q.1)) | exact hQ0 (Or.inr ⟨hi, by omega⟩) | exact hQ0 (Or.inl (fun q => q.2.1 (by omega) od)) | exact hQ0 (Or.inl (fun q => od (q.2.2 (by omega)))) | omega
    · refine And.intro (rfl) ?_
      refine And.intro (⟨rfl, by first | omega | (simp only [mS_iff, eq_self, Int.reduceEq, true_and, and_true, false_and, and_false, and_self, ↓reduceIte]; omega) | (simp only [mS_iff, eq_self, Int.reduceEq, true_and, and_true, false_and, and_false, and_self, ↓reduceIte] at *; omega)⟩) ?_
      refine And.intro (rfl) ?_
      refine And.intro (fun h9 => ?_) (fun h9 => ?_)
      · refine And.intro (by first | omega | (simp only [mS_iff, eq_self, Int.reduceEq, true_and, and_true, false_and, and_false, and_self, ↓reduceIte]; omega) | (simp only [mS_iff, eq_self, Int.reduceEq, true_and, and_true, false_and, and_false, and_self, ↓reduceIte] at *; omega)) ?_
        first | exact hQ0 (Or.inl (fun q => hi q.1)) | exact hQ0 (Or.inr ⟨hi, by omega⟩) | exact hQ0 (Or.inl (fun q => q.2.1 (by omega) od)) | exact hQ0 (Or.inl (fun q => od (q.2.2 (by omega)))) | omega
      · refine And.intro (show (m l (-1)) = 7 by first | assumption | omega | (simp only [mS_iff, eq_self, Int.reduceEq, true_and, and_true, false_and, and_false, and_self, ↓reduceIte]; omega) | (simp only [mS_iff, eq_self, Int.reduceEq, true_and, and_true, false_and, and_false, and_self, ↓reduceIte] at *; omega)) ?_
        refine And.intro (fun h10 => ?_) (fun h10 => ?_)
        · refine And.intro (show (m l (-1)) = 7 by first | assumption | omega | (simp only [mS_iff, eq_self, Int.reduceEq, true_and, and_true, false_and, and_false, and_self, ↓reduceIte]; omega) | (simp only [mS_iff, eq_self, Int.reduceEq, true_and, and_true, false_and, and_false, and_self, ↓reduceIte] at *; omega)) ?_
          refine And.intro (fun h11 => ?_) (fun h11 => ?_)
          · refine And.intro (rfl) ?_
            refine And.intro (rfl) ?_
            refine And.intro (⟨rfl, by first | omega | (simp only [mS_iff, eq_self, Int.reduceEq, true_and, and_true, false_and, and_false, and_self, ↓reduceIte]; omega) | (simp only [mS_iff, eq_self, Int.reduceEq, true_and, and_true, false_and, and_false, and_self, ↓reduceIte] at *; omega)⟩) ?_
            refine And.intro (by first | omega | (simp only [mS_iff, eq_self, Int.reduceEq, true_and, and_true, false_and, and_false, and_self, ↓reduceIte]; omega) | (simp only [mS_iff, eq_self, Int.reduceEq, true_and, and_true, false_and, and_false, and_self, ↓reduceIte] at *; omega)) ?_
            exact hQ1 ⟨hi, fun q => by first | exact od | omega, fun q => by first | exact od | omega⟩ (by omega)
          · refine And.intro (rfl) ?_
            refine And.intro (⟨rfl, by first | omega | (simp only [mS_iff, eq_self, Int.reduceEq, true_and, and_true, false_and, and_false, and_self, ↓reduceIte]; omega) | (simp only [mS_iff, eq_self, Int.reduceEq, true_and, and_true, false_and, and_false, and_self, ↓reduceIte] at *; omega)⟩) ?_
            refine And.intro (fun h12 => ?_) (fun h12 => ?_)
            · refine And.intro (rfl) ?_
              refine And.intro (rfl) ?_
              refine And.intro (⟨rfl, by first | omega | (simp only [mS_iff, eq_self, Int.reduceEq, true_and, and_true, false_and, and_false, and_self, ↓reduceIte]; omega) | (simp only [mS_iff, eq_self, Int.reduceEq, true_and, and_true, false_and, and_false, and_self, ↓reduceIte] at *; omega)⟩) ?_
              refine And.intro (by first | omega | (simp only [mS_iff, eq_self, Int.reduceEq, true_and, and_true, false_and, and_false, and_self, ↓reduceIte]; omega) | (simp only [mS_iff, eq_self, Int.reduceEq, true_and, and_true, false_and, and_false, and_self, ↓reduceIte] at *; omega)) ?_
              exact hQ1 ⟨hi, fun q => by first | exact od | omega, fun q => by first | exact od | omega⟩ (by omega)
            · refine And.intro (by first | omega | (simp only [mS_iff, eq_self, Int.reduceEq, true_and, and_true, false_and, and_false, and_self, ↓reduceIte]; omega) | (simp only [mS_iff, eq_self, Int.reduceEq, true_and, and_true, false_and, and_false, and_self, ↓reduceIte] at *; omega)) ?_
              first | exact hQ0 (Or.inl (fun q => hi q.1)) | exact hQ0 (Or.inr ⟨hi, by omega⟩) | exact hQ0 (Or.inl (fun q => q.2.1 (by omega) od)) | exact hQ0 (Or.inl (fun q => od (q.2.2 (by omega)))) | omega
        · refine And.intro (rfl) ?_
          refine And.intro (⟨rfl, by first | omega | (simp only [mS_iff, eq_self, Int.reduceEq, true_and, and_true, false_and, and_false, and_self, ↓reduceIte]; omega) | (simp only [mS_iff, eq_self, Int.reduceEq, true_and, and_true, false_and, and_false, and_self, ↓reduceIte] at *; omega)⟩) ?_
          refine And.intro (fun h13 => ?_) (fun h13 => ?_)
          · refine And.intro (by first | omega | (simp only [mS_iff, eq_self, Int.reduceEq, true_and, and_true, false_and, and_false, and_self, ↓reduceIte]; omega) | (simp only [mS_iff, eq_self, Int.reduceEq, true_and, and_true, false_and, and_false, and_self, ↓reduceIte] at *; omega)) ?_
            first | exact hQ0 (Or.inl (fun q => hi q.1)) | exact hQ0 (Or.inr ⟨hi, by omega⟩) | exact hQ0 (Or.inl (fun q => q.2.1 (by omega) od)) | exact hQ0 (Or.inl (fun q => od (q.2.2 (by omega)))) | omega
          · refine And.intro (show (m l (-1)) = 7 by first | assumption | omega | (simp only [mS_iff, eq_self, Int.reduceEq, true_and, and_true, false_and, and_false, and_self, ↓reduceIte]; omega) | (simp only [mS_iff, eq_self, Int.reduceEq, true_and, and_true, false_and, and_false, and_self, ↓reduceIte] at *; omega)) ?_
            refine And.intro (fun h14 => ?_) (fun h14 => ?_)
            · refine And.intro (rfl) ?_
              refine And.intro (rfl) ?_
              refine And.intro (⟨rfl, by first | omega | (simp only [mS_iff, eq_self, Int.reduceEq, true_and, and_true, false_and, and_false, and_self, ↓reduceIte]; omega) | (simp only [mS_iff, eq_self, Int.reduceEq, true_and, and_true, false_and, and_false, and_self, ↓reduceIte] at *; omega)⟩) ?_
              refine And.intro (by first | omega | (simp only [mS_iff, eq_self, Int.reduceEq, true_and, and_true, false_and, and_false, and_self, ↓reduceIte]; omega) | (simp only [mS_iff, eq_self, Int.reduceEq, true_and, and_true, false_and, and_false, and_self, ↓reduceIte] at *; omega)) ?_
              exact hQ1 ⟨hi, fun q => by first | exact od | omega, fun q => by first | exact od | omega⟩ (by omega)
            · refine And.intro (rfl) ?_
              refine And.intro (⟨rfl, by first | omega | (simp only [mS_iff, eq_self, Int.reduceEq, true_and, and_true, false_and, and_false, and_self, ↓reduceIte]; omega) | (simp only [mS_iff, eq_self, Int.reduceEq, true_and, and_true, false_and, and_false, and_self, ↓reduceIte] at *; omega)⟩) ?_
              refine And.intro (fun h15 => ?_) (fun h15 => ?_)
              · refine And.intro (rfl) ?_
                refine And.intro (rfl) ?_
                refine And.intro (⟨rfl, by first | omega | (simp only [mS_iff, eq_self, Int.reduceEq, true_and, and_true, false_and, and_false, and_self, ↓reduceIte]; omega) | (simp only [mS_iff, eq_self, Int.reduceEq, true_and, and_true, false_and, and_false, and_self, ↓reduceIte] at *; omega)⟩) ?_
                refine And.intro (by first | omega | (simp only [mS_iff, eq_self, Int.reduceEq, true_and, and_true, false_and, and_false, and_self, ↓reduceIte]; omega) | (simp only [mS_iff, eq_self, Int.reduceEq, true_and, and_true, false_and, and_false, and_self, ↓reduceIte] at *; omega)) ?_
                exact hQ1 ⟨hi, fun q => by first | exact od | omega, fun q => by first | exact od | omega⟩ (by omega)
              · refine And.intro (by first | omega | (simp only [mS_iff, eq_self, Int.reduceEq, true_and, and_true, false_and, and_false, and_self, ↓reduceIte]; omega) | (simp only [mS_iff, eq_self, Int.reduceEq, true_and, and_true, false_and, and_false, and_self, ↓reduceIte] at *; omega)) ?_
                first | exact hQ0 (Or.inl (fun q => hi q.1)) | exact hQ0 (Or.inr ⟨hi, by omega⟩) | exact hQ0 (Or.inl (fun q => q.2.1 (by omega) od)) | exact hQ0 (Or.inl (fun q => od (q.2.2 (by omega)))) | omega
  · have hi := h1
    refine And.intro (fun h => absurd h (by decide)) (fun _ => ?_)
    refine And.intro (by first | omega | (simp only [mS_iff, eq_self, Int.reduceEq, true_and, and_true, false_and, and_false, and_self, ↓reduceIte]; omega) | (simp only [mS_iff, eq_self, Int.reduceEq, true_and, and_true, false_and, and_false, and_self, ↓reduceIte] at *; omega)) ?_
    first | exact hQ0 (Or.inl (fun q => hi q.1)) | exact hQ0 (Or.inr ⟨hi, by omega⟩) | exact hQ0 (Or.inl (fun q => q.2.1 (by omega) od)) | exact hQ0 (Or.inl (fun q => od (q.2.2 (by omega)))) | omega
/-- marks (9) and tries are written -/
def fr_F (m m' : aM) : Prop := ∀ r j, r ≠ 9 → (r ≠ 1 ∨ j ≠ 14) → m' r j = m r j
theorem fr_F.at {m m' : aM} (h : fr_F m m') {r : Int} (h1 : r ≠ 9) (h2 : r ≠ 1) : m' r = m r := funext fun j => h r j h1 (Or.inl h2)
theorem fr_F.rfl (m : aM) : fr_F m m := fun _ _ _ _ => Eq.refl _
theorem fr_F.trans {a b c : aM} (h : fr_F a b) (g : fr_F b c) : fr_F a c := fun r j x y => (g r j x y).trans (h r j x y)
def hPl (m : aM) (w : Int → Int) (b : Int) : Prop := ∀ k, 0 ≤ k → k < w (b + 5) → m 11 k = s_px w b k ∧ m 12 k = s_py w b k
def hTk (m : aM) : Prop := ∀ i, 0 ≤ i → i < 2880 → m 9 i ≤ m 1 14
theorem ct_87 {d : Nat} {m : aM} {Q : aO → aM → Prop} {l lo hi b s : Int} {w : Int → Int} (hd : 3 ≤ d) (h29 : 29 ≤ lo) (hL : hLay m lo hi l w b) (hg : m l 2 ≠ 0) (hpl : hPl m w b) (hst : hStr w b (m 8)) (htk : hTk m) (htr : 0 ≤ m 1 14 ∧ m 1 14 ≤ 1000000) (hs : 0 ≤ s ∧ s ≤ 20) (hQ1 : s_fit w b s → ∀ m', fr_F m m' → m' 1 14 = m 1 14 + 1 → hTk m' → Q (.inl (some (aI 1))) m') (hQ0 : ¬ s_fit w b s → ∀ m', fr_F m m' → m' 1 14 = m 1 14 + 1 → hTk m' → Q (.inl (some (aI 0))) m') : am_wpc am_G am_T d 87 [aR 1, aR l, aI s] m Q := by
  obtain ⟨g1, g2, g3, g4, g5, g6, -⟩ := hL.grp hg
  obtain ⟨l1, l2, -, -, -, -, l7, -, l9, -⟩ := id hL
  have ho : w (b + 4) = 3 → 0 ≤ w (b + 1) ∧ w (b + 1) ≤ 7 := fun e => by
    have := hL.2.2.2.2.1
    unfold hOrd okOrd noOrd at this
    omega
  have gb : 1 ≤ w (b + 5) ∧ w (b + 5) ≤ 12 ∧ 0 ≤ w (b + 6) := ⟨g4.2.2.1, g4.2.2.2.1, g4.2.2.2.2.1⟩
  refine am_in rfl hd (fun d hd => ?_)
  have K12 : ∀ (N : Nat), ∀ (k : Int) (x4 : aV) (x5 : aV), ∀ (m2 : aM), (w (b + 5) - k).toNat = N → (0 ≤ k ∧ k ≤ w (b + 5)) → (fr_F m m2) → (m2 1 14 = m 1 14 + 1) → (s_sc (s_c w b s) (s_okd w b) k (fun _ _ => False) (m2 9) (m 1 14 + 1)) → am_WP am_G (am_wpc am_G am_T d) [] cd_87 Q 12 [aR 1, aR l, aI s, aI k, x4, x5] [] m2 := by
    intro N
    induction N using Nat.strongRecOn with
    | _ N ih12 =>
      intro k x4 x5 m2 hN i0 fr tr sc
      have el : m2 l = m l := fr.at (by omega) (by omega)
      have eg : m2 (m l 2) = m (m l 2) := fr.at (by omega) (by omega)
      have c2 : m2 l (-1) = 7 := by rw [el]; exact l2
      have ex2 : m2 l 2 = m l 2 := by rw [el]
      have c3 : m2 (m2 l 2) (-1) = 10 := by rw [ex2, eg]; exact g3
      have c5 : m2 (m2 l 2) 0 = w (b + 5) := by rw [ex2, eg]; exact g5
      have c6 : m2 (m2 l 2) 1 = w (b + 6) := by rw [ex2, eg]; exact g6
      have K33 : ∀ (N : Nat), ∀ (y : Int) (x5 : aV), ∀ (m3 : aM), (s_py w b k + s + 1 - y).toNat = N → (k < w (b + 5) ∧ s_py w b k - s ≤ y ∧ y ≤ s_py w b k + s + 1) → (fr_F m m3) → (m3 1 14 = m 1 14 + 1) → (s_sc (s_c w b s) (s_okd w b) k (fun x' y' => y' < y) (m3 9) (m 1 14 + 1)) → am_WP am_G (am_wpc am_G am_T d) [] cd_87 Q 33 [aR 1, aR l, aI s, aI k, aI y, x5] [] m3 := by
        intro N
        induction N using Nat.strongRecOn with
        | _ N ih33 =>
          intro y x5 m3 hN kk fr tr sc
          have el : m3 l = m l := fr.at (by omega) (by omega)
          have eg : m3 (m l 2) = m (m l 2) := fr.at (by omega) (by omega)
          have c2 : m3 l (-1) = 7 := by rw [el]; exact l2
          have ex2 : m3 l 2 = m l 2 := by rw [el]
          have c3 : m3 (m3 l 2) (-1) = 10 := by rw [ex2, eg]; exact g3
          have c5 : m3 (m3 l 2) 0 = w (b + 5) := by rw [ex2, eg]; exact g5
          have c6 : m3 (m3 l 2) 1 = w (b + 6) := by rw [ex2, eg]; exact g6
          have pk := hpl k (by omega) (by omega)
          have pb := s_p_b g4 ho (k := k) (by omega) (by omega)
          have p1 : m3 11 k = s_px w b k := by rw [fr.at (by omega) (by omega)]; exact pk.1
          have p2 : m3 12 k = s_py w b k := by rw [fr.at (by omega) (by omega)]; exact pk.2
          have K56 : ∀ (N : Nat), ∀ (x : Int), ∀ (m4 : aM), (s_px w b k + s + 1 - x).toNat = N → (y ≤ s_py w b k + s ∧ s_px w b k - s ≤ x ∧ x ≤ s_px w b k + s + 1) → (fr_F m m4) → (m4 1 14 = m 1 14 + 1) → (s_sc (s_c w b s) (s_okd w b) k (fun x' y' => y' < y ∨ (y' = y ∧ x' < x)) (m4 9) (m 1 14 + 1)) → am_WP am_G (am_wpc am_G am_T d) [] cd_87 Q 56 [aR 1, aR l, aI s, aI k, aI y, aI x] [] m4 := by
            intro N
            induction N using Nat.strongRecOn with
            | _ N ih56 =>
              intro x m4 hN jj fr tr sc
              have el : m4 l = m l := fr.at (by omega) (by omega)
              have eg : m4 (m l 2) = m (m l 2) := fr.at (by omega) (by omega)
              have c2 : m4 l (-1) = 7 := by rw [el]; exact l2
              have ex2 : m4 l 2 = m l 2 := by rw [el]
              have c3 : m4 (m4 l 2) (-1) = 10 := by rw [ex2, eg]; exact g3
              have c5 : m4 (m4 l 2) 0 = w (b + 5) := by rw [ex2, eg]; exact g5
              have c6 : m4 (m4 l 2) 1 = w (b + 6) := by rw [ex2, eg]; exact g6
              have pk := hpl k (by omega) (by omega)
              have pb := s_p_b g4 ho (k := k) (by omega) (by omega)
              have p1 : m4 11 k = s_px w b k := by rw [fr.at (by omega) (by omega)]; exact pk.1
              have p2 : m4 12 k = s_py w b k := by rw [fr.at (by omega) (by omega)]; exact pk.2
              refine am_go 400 [12, 33, 56] (am_wpc_cm _ _ _) wf_87 ?_
              refine And.intro (rfl) ?_
              refine And.intro (⟨rfl, by first | omega | (simp only [mS_iff, eq_self, Int.reduceEq, true_and, and_true, false_and, and_false, and_self, ↓reduceIte]; omega) | (simp only [mS_iff, eq_self, Int.reduceEq, true_and, and_true, false_and, and_false, and_self, ↓reduceIte] at *; omega)⟩) ?_
              refine And.intro (show -2147483648 ≤ (m4 11 k) + s ∧ (m4 11 k) + s ≤ 2147483647 by first | omega | (simp only [mS_iff, eq_self, Int.reduceEq, true_and, and_true, false_and, and_false, and_self, ↓reduceIte]; omega) | (simp only [mS_iff, eq_self, Int.reduceEq, true_and, and_true, false_and, and_false, and_self, ↓reduceIte] at *; omega)) ?_
              refine And.intro (fun h1 => ?_) (fun h1 => ?_)
              · refine And.intro (show -2147483648 ≤ y + 1 ∧ y + 1 ≤ 2147483647 by first | omega | (simp only [mS_iff, eq_self, Int.reduceEq, true_and, and_true, false_and, and_false, and_self, ↓reduceIte]; omega) | (simp only [mS_iff, eq_self, Int.reduceEq, true_and, and_true, false_and, and_false, and_self, ↓reduceIte] at *; omega)) ?_
                refine ih33 _ ?_ _ _ _ (Eq.refl _) ?_ ?_ ?_ ?_
                · omega
                · first | omega | (simp only [mS_iff, eq_self, Int.reduceEq, true_and, and_true, false_and, and_false, and_self, ↓reduceIte]; omega) | (simp only [mS_iff, eq_self, Int.reduceEq, true_and, and_true, false_and, and_false, and_self, ↓reduceIte] at *; omega)
                · exact fr
                · exact tr
                · exact sc.eqv (fun x' y' c => by have := s_c_box hs.1 c; omega)
              · refine And.intro (show (m4 l (-1)) = 7 by first | assumption | omega | (simp only [mS_iff, eq_self, Int.reduceEq, true_and, and_true, false_and, and_false, and_self, ↓reduceIte]; omega) | (simp only [mS_iff, eq_self, Int.reduceEq, true_and, and_true, false_and, and_false, and_self, ↓reduceIte] at *; omega)) ?_
                refine And.intro (show (m4 (m4 l 2) (-1)) = 10 by first | assumption | omega | (simp only [mS_iff, eq_self, Int.reduceEq, true_and, and_true, false_and, and_false, and_self, ↓reduceIte]; omega) | (simp only [mS_iff, eq_self, Int.reduceEq, true_and, and_true, false_and, and_false, and_self, ↓reduceIte] at *; omega)) ?_
                refine And.intro (rfl) ?_
                refine And.intro (⟨rfl, by first | omega | (simp only [mS_iff, eq_self, Int.reduceEq, true_and, and_true, false_and, and_false, and_self, ↓reduceIte]; omega) | (simp only [mS_iff, eq_self, Int.reduceEq, true_and, and_true, false_and, and_false, and_self, ↓reduceIte] at *; omega)⟩) ?_
                refine And.intro (show -2147483648 ≤ x - (m4 11 k) ∧ x - (m4 11 k) ≤ 2147483647 by first | omega | (simp only [mS_iff, eq_self, Int.reduceEq, true_and, and_true, false_and, and_false, and_self, ↓reduceIte]; omega) | (simp only [mS_iff, eq_self, Int.reduceEq, true_and, and_true, false_and, and_false, and_self, ↓reduceIte] at *; omega)) ?_
                refine ct_29 (by omega) (by omega) (fun v2 h3 => ?_)
                refine And.intro (rfl) ?_
                refine And.intro (⟨rfl, by first | omega | (simp only [mS_iff, eq_self, Int.reduceEq, true_and, and_true, false_and, and_false, and_self, ↓reduceIte]; omega) | (simp only [mS_iff, eq_self, Int.reduceEq, true_and, and_true, false_and, and_false, and_self, ↓reduceIte] at *; omega)⟩) ?_
                refine And.intro (show -2147483648 ≤ y - (m4 12 k) ∧ y - (m4 12 k) ≤ 2147483647 by first | omega | (simp only [mS_iff, eq_self, Int.reduceEq, true_and, and_true, false_and, and_false, and_self, ↓reduceIte]; omega) | (simp only [mS_iff, eq_self, Int.reduceEq, true_and, and_true, false_and, and_false, and_self, ↓reduceIte] at *; omega)) ?_
                refine ct_29 (by omega) (by omega) (fun v4 h5 => ?_)
                refine ct_88 (by omega) (by omega) (by omega) (by omega) (by omega) (fun h6 => ?_) (fun h6 => ?_)
                · have cc : s_c w b s k x y := by unfold s_c s_ab; rw [← p1, ← p2, ← c6, ← h3, ← h5]; exact h6
                  refine And.intro (fun h => absurd h (by decide)) (fun _ => ?_)
                  refine And.intro (rfl) ?_
                  refine ct_89 (w := w) (b := b) (by omega) c2 (by rw [el]; exact l7) (by rw [fr.at (by omega) (by omega)]; exact hst) (fun h7 h8 => ?_) (fun h7 => ?_)
                  · have oo := h7
                    have nn := h8
                    refine And.intro (fun _ => ?_) (fun h => absurd h (by decide))
                    refine And.intro (show -2147483648 ≤ x + 1 ∧ x + 1 ≤ 2147483647 by first | omega | (simp only [mS_iff, eq_self, Int.reduceEq, true_and, and_true, false_and, and_false, and_self, ↓reduceIte]; omega) | (simp only [mS_iff, eq_self, Int.reduceEq, true_and, and_true, false_and, and_false, and_self, ↓reduceIte] at *; omega)) ?_
                    refine ih56 _ ?_ _ _ (Eq.refl _) ?_ ?_ ?_ ?_
                    · omega
                    · first | omega | (simp only [mS_iff, eq_self, Int.reduceEq, true_and, and_true, false_and, and_false, and_self, ↓reduceIte]; omega) | (simp only [mS_iff, eq_self, Int.reduceEq, true_and, and_true, false_and, and_false, and_self, ↓reduceIte] at *; omega)
                    · intro r j h1 h2
                      rw [mS_a _ _ _ _ h1]
                      exact fr r j h1 h2
                    · exact tr
                    · exact sc.put (by omega) cc oo oo.1 (by rw [← tr]; exact nn) (fun x' y' => by omega) (by rw [mS_eq]; exact tr) (fun i hi => mS_i _ _ _ _ hi)
                  · have oo := h7
                    refine And.intro (fun h => absurd h (by decide)) (fun _ => ?_)
                    refine And.intro (by first | omega | (simp only [mS_iff, eq_self, Int.reduceEq, true_and, and_true, false_and, and_false, and_self, ↓reduceIte]; omega) | (simp only [mS_iff, eq_self, Int.reduceEq, true_and, and_true, false_and, and_false, and_self, ↓reduceIte] at *; omega)) ?_
                    refine hQ0 ?_ _ fr tr (fun i a b => by rw [tr]; exact sc.2.2 i a b)
                    rcases oo with oo | oo
                    · exact s_bad1 (by omega) (by omega) cc oo
                    · exact sc.bad (by omega) (by omega) cc oo.1 (by rw [oo.2]; exact tr) (fun q => by have q2 : y < y ∨ (y = y ∧ x < x) := q; omega)
                · have cc : ¬ s_c w b s k x y := by unfold s_c s_ab; rw [← p1, ← p2, ← c6, ← h3, ← h5]; exact h6
                  refine And.intro (fun _ => ?_) (fun h => absurd h (by decide))
                  refine And.intro (show -2147483648 ≤ x + 1 ∧ x + 1 ≤ 2147483647 by first | omega | (simp only [mS_iff, eq_self, Int.reduceEq, true_and, and_true, false_and, and_false, and_self, ↓reduceIte]; omega) | (simp only [mS_iff, eq_self, Int.reduceEq, true_and, and_true, false_and, and_false, and_self, ↓reduceIte] at *; omega)) ?_
                  refine ih56 _ ?_ _ _ (Eq.refl _) ?_ ?_ ?_ ?_
                  · omega
                  · first | omega | (simp only [mS_iff, eq_self, Int.reduceEq, true_and, and_true, false_and, and_false, and_self, ↓reduceIte]; omega) | (simp only [mS_iff, eq_self, Int.reduceEq, true_and, and_true, false_and, and_false, and_self, ↓reduceIte] at *; omega)
                  · exact fr
                  · exact tr
                  · exact sc.skip cc (fun x' y' => by omega)
          refine am_go 400 [12, 33, 56] (am_wpc_cm _ _ _) wf_87 ?_
          refine And.intro (rfl) ?_
          refine And.intro (⟨rfl, by first | omega | (simp only [mS_iff, eq_self, Int.reduceEq, true_and, and_true, false_and, and_false, and_self, ↓reduceIte]; omega) | (simp only [mS_iff, eq_self, Int.reduceEq, true_and, and_true, false_and, and_false, and_self, ↓reduceIte] at *; omega)⟩) ?_
          refine And.intro (show -2147483648 ≤ (m3 12 k) + s ∧ (m3 12 k) + s ≤ 2147483647 by first | omega | (simp only [mS_iff, eq_self, Int.reduceEq, true_and, and_true, false_and, and_false, and_self, ↓reduceIte]; omega) | (simp only [mS_iff, eq_self, Int.reduceEq, true_and, and_true, false_and, and_false, and_self, ↓reduceIte] at *; omega)) ?_
          refine And.intro (fun h9 => ?_) (fun h9 => ?_)
          · refine And.intro (show -2147483648 ≤ k + 1 ∧ k + 1 ≤ 2147483647 by first | omega | (simp only [mS_iff, eq_self, Int.reduceEq, true_and, and_true, false_and, and_false, and_self, ↓reduceIte]; omega) | (simp only [mS_iff, eq_self, Int.reduceEq, true_and, and_true, false_and, and_false, and_self, ↓reduceIte] at *; omega)) ?_
            refine ih12 _ ?_ _ _ _ _ (Eq.refl _) ?_ ?_ ?_ ?_
            · omega
            · first | omega | (simp only [mS_iff, eq_self, Int.reduceEq, true_and, and_true, false_and, and_false, and_self, ↓reduceIte]; omega) | (simp only [mS_iff, eq_self, Int.reduceEq, true_and, and_true, false_and, and_false, and_self, ↓reduceIte] at *; omega)
            · exact fr
            · exact tr
            · exact sc.next (by omega) (fun x' y' c => by have := s_c_box hs.1 c; omega)
          · refine And.intro (rfl) ?_
            refine And.intro (⟨rfl, by first | omega | (simp only [mS_iff, eq_self, Int.reduceEq, true_and, and_true, false_and, and_false, and_self, ↓reduceIte]; omega) | (simp only [mS_iff, eq_self, Int.reduceEq, true_and, and_true, false_and, and_false, and_self, ↓reduceIte] at *; omega)⟩) ?_
            refine And.intro (show -2147483648 ≤ (m3 11 k) - s ∧ (m3 11 k) - s ≤ 2147483647 by first | omega | (simp only [mS_iff, eq_self, Int.reduceEq, true_and, and_true, false_and, and_false, and_self, ↓reduceIte]; omega) | (simp only [mS_iff, eq_self, Int.reduceEq, true_and, and_true, false_and, and_false, and_self, ↓reduceIte] at *; omega)) ?_
            refine K56 _ _ _ (Eq.refl _) ?_ ?_ ?_ ?_
            · first | omega | (simp only [mS_iff, eq_self, Int.reduceEq, true_and, and_true, false_and, and_false, and_self, ↓reduceIte]; omega) | (simp only [mS_iff, eq_self, Int.reduceEq, true_and, and_true, false_and, and_false, and_self, ↓reduceIte] at *; omega)
            · exact fr
            · exact tr
            · exact sc.eqv (fun x' y' c => by have := s_c_box hs.1 c; omega)
      refine am_go 400 [12, 33, 56] (am_wpc_cm _ _ _) wf_87 ?_
      refine And.intro (show (m2 l (-1)) = 7 by first | assumption | omega | (simp only [mS_iff, eq_self, Int.reduceEq, true_and, and_true, false_and, and_false, and_self, ↓reduceIte]; omega) | (simp only [mS_iff, eq_self, Int.reduceEq, true_and, and_true, false_and, and_false, and_self, ↓reduceIte] at *; omega)) ?_
      refine And.intro (show (m2 (m2 l 2) (-1)) = 10 by first | assumption | omega | (simp only [mS_iff, eq_self, Int.reduceEq, true_and, and_true, false_and, and_false, and_self, ↓reduceIte]; omega) | (simp only [mS_iff, eq_self, Int.reduceEq, true_and, and_true, false_and, and_false, and_self, ↓reduceIte] at *; omega)) ?_
      refine And.intro (fun h10 => ?_) (fun h10 => ?_)
      · refine And.intro (by first | omega | (simp only [mS_iff, eq_self, Int.reduceEq, true_and, and_true, false_and, and_false, and_self, ↓reduceIte]; omega) | (simp only [mS_iff, eq_self, Int.reduceEq, true_and, and_true, false_and, and_false, and_self, ↓reduceIte] at *; omega)) ?_
        exact hQ1 (s_sc.fit (A := fun _ _ => False) (by rw [show w (b + 5) = k by omega]; exact sc)) _ fr tr (fun i a b => by rw [tr]; exact sc.2.2 i a b)
      · have pk := hpl k (by omega) (by omega)
        have pb := s_p_b g4 ho (k := k) (by omega) (by omega)
        have p1 : m2 11 k = s_px w b k := by rw [fr.at (by omega) (by omega)]; exact pk.1
        have p2 : m2 12 k = s_py w b k := by rw [fr.at (by omega) (by omega)]; exact pk.2
        refine And.intro (rfl) ?_
        refine And.intro (⟨rfl, by first | omega | (simp only [mS_iff, eq_self, Int.reduceEq, true_and, and_true, false_and, and_false, and_self, ↓reduceIte]; omega) | (simp only [mS_iff, eq_self, Int.reduceEq, true_and, and_true, false_and, and_false, and_self, ↓reduceIte] at *; omega)⟩) ?_
        refine And.intro (show -2147483648 ≤ (m2 12 k) - s ∧ (m2 12 k) - s ≤ 2147483647 by first | omega | (simp only [mS_iff, eq_self, Int.reduceEq, true_and, and_true, false_and, and_false, and_self, ↓reduceIte]; omega) | (simp only [mS_iff, eq_self, Int.reduceEq, true_and, and_true, false_and, and_false, and_self, ↓reduceIte] at *; omega)) ?_
        refine K33 _ _ _ _ (Eq.refl _) ?_ ?_ ?_ ?_
        · first | omega | (simp only [mS_iff, eq_self, Int.reduceEq, true_and, and_true, false_and, and_false, and_self, ↓reduceIte]; omega) | (simp only [mS_iff, eq_self, Int.reduceEq, true_and, and_true, false_and, and_false, and_self, ↓reduceIte] at *; omega)
        · exact fr
        · exact tr
        · exact sc.eqv (fun x' y' c => by have := s_c_box hs.1 c; constructor <;> intro h <;> first | exact h.elim | omega)
  refine am_go 400 [12, 33, 56] (am_wpc_cm _ _ _) wf_87 ?_
  refine And.intro (rfl) ?_
  refine And.intro (show -2147483648 ≤ (m 1 14) + 1 ∧ (m 1 14) + 1 ≤ 2147483647 by first | omega | (simp only [mS_iff, eq_self, Int.reduceEq, true_and, and_true, false_and, and_false, and_self, ↓reduceIte]; omega) | (simp only [mS_iff, eq_self, Int.reduceEq, true_and, and_true, false_and, and_false, and_self, ↓reduceIte] at *; omega)) ?_
  refine And.intro (rfl) ?_
  refine K12 _ _ _ _ _ (Eq.refl _) ?_ ?_ ?_ ?_
  · first | omega | (simp only [mS_iff, eq_self, Int.reduceEq, true_and, and_true, false_and, and_false, and_self, ↓reduceIte]; omega) | (simp only [mS_iff, eq_self, Int.reduceEq, true_and, and_true, false_and, and_false, and_self, ↓reduceIte] at *; omega)
  · intro r j h1 h2
    rw [mS_iff, if_neg (by omega)]
  · exact rfl
  · refine s_sc.ini (fun i a b => ?_)
    have := htk i a b
    show m 9 i < _
    omega
theorem ct_90 {d : Nat} {m : aM} {Q : aO → aM → Prop} {g b s k : Int} {w : Int → Int} (hd : 3 ≤ d) (hg : g ≠ 6) (g1 : m g (-1) = 10) (g6 : m g 1 = w (b + 6)) (g8 : m g 3 = w (b + 8)) (ht : 0 ≤ w (b + 6)) (hk : 0 ≤ k ∧ k < 12) (hpk : m 11 k = s_px w b k ∧ m 12 k = s_py w b k) (pb : (0 ≤ s_px w b k ∧ s_px w b k ≤ 100) ∧ (0 ≤ s_py w b k ∧ s_py w b k ≤ 100)) (hs : 0 ≤ s ∧ s ≤ 20) (hin : ∀ x y, s_c w b s k x y → s_in x y) (hQ : ∀ m', (∀ r, r ≠ 6 → m' r = m r) → (∀ j, 0 ≤ j → j < 2880 → (s_c w b s k (j % 48) (j / 48) → m' 6 j = w (b + 8)) ∧ (¬ s_c w b s k (j % 48) (j / 48) → m' 6 j = m 6 j)) → Q (.inl none) m') : am_wpc am_G am_T d 90 [aR 1, aR g, aI k, aI s] m Q := by
  refine am_in rfl hd (fun d hd => ?_)
  have K10 : ∀ (N : Nat), ∀ (y : Int) (x5 : aV), ∀ (m3 : aM), (s_py w b k + s + 1 - y).toNat = N → (s_py w b k - s ≤ y ∧ y ≤ s_py w b k + s + 1) → (∀ r, r ≠ 6 → m3 r = m r) → (∀ j, 0 ≤ j → j < 2880 → ((s_c w b s k (j % 48) (j / 48) ∧ (j / 48 < y)) → m3 6 j = w (b + 8)) ∧ (¬ (s_c w b s k (j % 48) (j / 48) ∧ (j / 48 < y)) → m3 6 j = m 6 j)) → am_WP am_G (am_wpc am_G am_T d) [] cd_90 Q 10 [aR 1, aR g, aI k, aI s, aI y, x5] [] m3 := by
    intro N
    induction N using Nat.strongRecOn with
    | _ N ih10 =>
      intro y x5 m3 hN kk fr dd
      have p1 : m3 11 k = s_px w b k := by rw [fr 11 (by omega)]; exact hpk.1
      have p2 : m3 12 k = s_py w b k := by rw [fr 12 (by omega)]; exact hpk.2
      have c1 : m3 g (-1) = 10 := by rw [fr g hg]; exact g1
      have c6 : m3 g 1 = w (b + 6) := by rw [fr g hg]; exact g6
      have c8 : m3 g 3 = w (b + 8) := by rw [fr g hg]; exact g8
      have K33 : ∀ (N : Nat), ∀ (x : Int), ∀ (m4 : aM), (s_px w b k + s + 1 - x).toNat = N → (y ≤ s_py w b k + s ∧ s_px w b k - s ≤ x ∧ x ≤ s_px w b k + s + 1) → (∀ r, r ≠ 6 → m4 r = m r) → (∀ j, 0 ≤ j → j < 2880 → ((s_c w b s k (j % 48) (j / 48) ∧ (j / 48 < y ∨ (j / 48 = y ∧ j % 48 < x))) → m4 6 j = w (b + 8)) ∧ (¬ (s_c w b s k (j % 48) (j / 48) ∧ (j / 48 < y ∨ (j / 48 = y ∧ j % 48 < x))) → m4 6 j = m 6 j)) → am_WP am_G (am_wpc am_G am_T d) [] cd_90 Q 33 [aR 1, aR g, aI k, aI s, aI y, aI x] [] m4 := by
        intro N
        induction N using Nat.strongRecOn with
        | _ N ih33 =>
          intro x m4 hN jj fr dd
          have p1 : m4 11 k = s_px w b k := by rw [fr 11 (by omega)]; exact hpk.1
          have p2 : m4 12 k = s_py w b k := by rw [fr 12 (by omega)]; exact hpk.2
          have c1 : m4 g (-1) = 10 := by rw [fr g hg]; exact g1
          have c6 : m4 g 1 = w (b + 6) := by rw [fr g hg]; exact g6
          have c8 : m4 g 3 = w (b + 8) := by rw [fr g hg]; exact g8
          refine am_go 400 [10, 33] (am_wpc_cm _ _ _) wf_90 ?_
          refine And.intro (rfl) ?_
          refine And.intro (⟨rfl, by first | omega | (simp only [mS_iff, eq_self, Int.reduceEq, true_and, and_true, false_and, and_false, and_self, ↓reduceIte]; omega) | (simp only [mS_iff, eq_self, Int.reduceEq, true_and, and_true, false_and, and_false, and_self, ↓reduceIte] at *; omega)⟩) ?_
          refine And.intro (show -2147483648 ≤ (m4 11 k) + s ∧ (m4 11 k) + s ≤ 2147483647 by first | omega | (simp only [mS_iff, eq_self, Int.reduceEq, true_and, and_true, false_and, and_false, and_self, ↓reduceIte]; omega) | (simp only [mS_iff, eq_self, Int.reduceEq, true_and, and_true, false_and, and_false, and_self, ↓reduceIte] at *; omega)) ?_
          refine And.intro (fun h1 => ?_) (fun h1 => ?_)
          · refine And.intro (show -2147483648 ≤ y + 1 ∧ y + 1 ≤ 2147483647 by first | omega | (simp only [mS_iff, eq_self, Int.reduceEq, true_and, and_true, false_and, and_false, and_self, ↓reduceIte]; omega) | (simp only [mS_iff, eq_self, Int.reduceEq, true_and, and_true, false_and, and_false, and_self, ↓reduceIte] at *; omega)) ?_
            refine ih10 _ ?_ _ _ _ (Eq.refl _) ?_ ?_ ?_
            · omega
            · first | omega | (simp only [mS_iff, eq_self, Int.reduceEq, true_and, and_true, false_and, and_false, and_self, ↓reduceIte]; omega) | (simp only [mS_iff, eq_self, Int.reduceEq, true_and, and_true, false_and, and_false, and_self, ↓reduceIte] at *; omega)
            · exact fr
            · exact fun j j0 j1 => ⟨fun q => (dd j j0 j1).1 ⟨q.1, by have := s_c_box hs.1 q.1; have := q.2; omega⟩, fun q => (dd j j0 j1).2 (fun z => q ⟨z.1, by have := s_c_box hs.1 z.1; have := z.2; omega⟩)⟩
          · refine And.intro (show (m4 g (-1)) = 10 by first | assumption | omega | (simp only [mS_iff, eq_self, Int.reduceEq, true_and, and_true, false_and, and_false, and_self, ↓reduceIte]; omega) | (simp only [mS_iff, eq_self, Int.reduceEq, true_and, and_true, false_and, and_false, and_self, ↓reduceIte] at *; omega)) ?_
            refine And.intro (rfl) ?_
            refine And.intro (⟨rfl, by first | omega | (simp only [mS_iff, eq_self, Int.reduceEq, true_and, and_true, false_and, and_false, and_self, ↓reduceIte]; omega) | (simp only [mS_iff, eq_self, Int.reduceEq, true_and, and_true, false_and, and_false, and_self, ↓reduceIte] at *; omega)⟩) ?_
            refine And.intro (show -2147483648 ≤ x - (m4 11 k) ∧ x - (m4 11 k) ≤ 2147483647 by first | omega | (simp only [mS_iff, eq_self, Int.reduceEq, true_and, and_true, false_and, and_false, and_self, ↓reduceIte]; omega) | (simp only [mS_iff, eq_self, Int.reduceEq, true_and, and_true, false_and, and_false, and_self, ↓reduceIte] at *; omega)) ?_
            refine ct_29 (by omega) (by omega) (fun v2 h3 => ?_)
            refine And.intro (rfl) ?_
            refine And.intro (⟨rfl, by first | omega | (simp only [mS_iff, eq_self, Int.reduceEq, true_and, and_true, false_and, and_false, and_self, ↓reduceIte]; omega) | (simp only [mS_iff, eq_self, Int.reduceEq, true_and, and_true, false_and, and_false, and_self, ↓reduceIte] at *; omega)⟩) ?_
            refine And.intro (show -2147483648 ≤ y - (m4 12 k) ∧ y - (m4 12 k) ≤ 2147483647 by first | omega | (simp only [mS_iff, eq_self, Int.reduceEq, true_and, and_true, false_and, and_false, and_self, ↓reduceIte]; omega) | (simp only [mS_iff, eq_self, Int.reduceEq, true_and, and_true, false_and, and_false, and_self, ↓reduceIte] at *; omega)) ?_
            refine ct_29 (by omega) (by omega) (fun v4 h5 => ?_)
            refine ct_88 (by omega) (by omega) (by omega) (by omega) (by omega) (fun h6 => ?_) (fun h6 => ?_)
            · have cc : s_c w b s k x y := by unfold s_c s_ab; rw [← p1, ← p2, ← c6, ← h3, ← h5]; exact h6
              refine And.intro (fun h => absurd h (by decide)) (fun _ => ?_)
              have hb := (hin x y cc).1
              refine And.intro (rfl) ?_
              refine And.intro (show -2147483648 ≤ 48 * y ∧ 48 * y ≤ 2147483647 by first | omega | (simp only [mS_iff, eq_self, Int.reduceEq, true_and, and_true, false_and, and_false, and_self, ↓reduceIte]; omega) | (simp only [mS_iff, eq_self, Int.reduceEq, true_and, and_true, false_and, and_false, and_self, ↓reduceIte] at *; omega)) ?_
              refine And.intro (show -2147483648 ≤ (48 * y) + x ∧ (48 * y) + x ≤ 2147483647 by first | omega | (simp only [mS_iff, eq_self, Int.reduceEq, true_and, and_true, false_and, and_false, and_self, ↓reduceIte]; omega) | (simp only [mS_iff, eq_self, Int.reduceEq, true_and, and_true, false_and, and_false, and_self, ↓reduceIte] at *; omega)) ?_
              refine And.intro (show (m4 g (-1)) = 10 by first | assumption | omega | (simp only [mS_iff, eq_self, Int.reduceEq, true_and, and_true, false_and, and_false, and_self, ↓reduceIte]; omega) | (simp only [mS_iff, eq_self, Int.reduceEq, true_and, and_true, false_and, and_false, and_self, ↓reduceIte] at *; omega)) ?_
              refine And.intro (⟨rfl, by first | omega | (simp only [mS_iff, eq_self, Int.reduceEq, true_and, and_true, false_and, and_false, and_self, ↓reduceIte]; omega) | (simp only [mS_iff, eq_self, Int.reduceEq, true_and, and_true, false_and, and_false, and_self, ↓reduceIte] at *; omega)⟩) ?_
              refine And.intro (show -2147483648 ≤ x + 1 ∧ x + 1 ≤ 2147483647 by first | omega | (simp only [mS_iff, eq_self, Int.reduceEq, true_and, and_true, false_and, and_false, and_self, ↓reduceIte]; omega) | (simp only [mS_iff, eq_self, Int.reduceEq, true_and, and_true, false_and, and_false, and_self, ↓reduceIte] at *; omega)) ?_
              refine ih33 _ ?_ _ _ (Eq.refl _) ?_ ?_ ?_
              · omega
              · first | omega | (simp only [mS_iff, eq_self, Int.reduceEq, true_and, and_true, false_and, and_false, and_self, ↓reduceIte]; omega) | (simp only [mS_iff, eq_self, Int.reduceEq, true_and, and_true, false_and, and_false, and_self, ↓reduceIte] at *; omega)
              · intro r hr
                rw [← fr r hr]
                exact funext fun j => mS_a _ _ _ _ hr
              · intro j j0 j1
                by_cases e : j = 48 * y + x
                · refine ⟨fun _ => ?_, fun q => absurd ⟨?_, by omega⟩ q⟩
                  · rw [e, mS_eq]
                    exact c8
                  · rw [show j % 48 = x by omega, show j / 48 = y by omega]
                    exact cc
                · rw [mS_i _ _ _ _ e]
                  exact ⟨fun q => (dd j j0 j1).1 ⟨q.1, by have := q.2; omega⟩, fun q => (dd j j0 j1).2 (fun z => q ⟨z.1, by have := z.2; omega⟩)⟩
            · have cc : ¬ s_c w b s k x y := by unfold s_c s_ab; rw [← p1, ← p2, ← c6, ← h3, ← h5]; exact h6
              refine And.intro (fun _ => ?_) (fun h => absurd h (by decide))
              refine And.intro (show -2147483648 ≤ x + 1 ∧ x + 1 ≤ 2147483647 by first | omega | (simp only [mS_iff, eq_self, Int.reduceEq, true_and, and_true, false_and, and_false, and_self, ↓reduceIte]; omega) | (simp only [mS_iff, eq_self, Int.reduceEq, true_and, and_true, false_and, and_false, and_self, ↓reduceIte] at *; omega)) ?_
              refine ih33 _ ?_ _ _ (Eq.refl _) ?_ ?_ ?_
              · omega
              · first | omega | (simp only [mS_iff, eq_self, Int.reduceEq, true_and, and_true, false_and, and_false, and_self, ↓reduceIte]; omega) | (simp only [mS_iff, eq_self, Int.reduceEq, true_and, and_true, false_and, and_false, and_self, ↓reduceIte] at *; omega)
              · exact fr
              · intro j j0 j1
                by_cases e : j % 48 = x ∧ j / 48 = y
                · have nc : ¬ s_c w b s k (j % 48) (j / 48) := by rw [e.1, e.2]; exact cc
                  exact ⟨fun q => absurd q.1 nc, fun q => (dd j j0 j1).2 (fun z => nc z.1)⟩
                · exact ⟨fun q => (dd j j0 j1).1 ⟨q.1, by have := q.2; omega⟩, fun q => (dd j j0 j1).2 (fun z => q ⟨z.1, by have := z.2; omega⟩)⟩
      refine am_go 400 [10, 33] (am_wpc_cm _ _ _) wf_90 ?_
      refine And.intro (rfl) ?_
      refine And.intro (⟨rfl, by first | omega | (simp only [mS_iff, eq_self, Int.reduceEq, true_and, and_true, false_and, and_false, and_self, ↓reduceIte]; omega) | (simp only [mS_iff, eq_self, Int.reduceEq, true_and, and_true, false_and, and_false, and_self, ↓reduceIte] at *; omega)⟩) ?_
      refine And.intro (show -2147483648 ≤ (m3 12 k) + s ∧ (m3 12 k) + s ≤ 2147483647 by first | omega | (simp only [mS_iff, eq_self, Int.reduceEq, true_and, and_true, false_and, and_false, and_self, ↓reduceIte]; omega) | (simp only [mS_iff, eq_self, Int.reduceEq, true_and, and_true, false_and, and_false, and_self, ↓reduceIte] at *; omega)) ?_
      refine And.intro (fun h7 => ?_) (fun h7 => ?_)
      · exact hQ _ fr (fun j j0 j1 => ⟨fun c => (dd j j0 j1).1 ⟨c, by have := s_c_box hs.1 c; omega⟩, fun c => (dd j j0 j1).2 (fun z => c z.1)⟩)
      · refine And.intro (rfl) ?_
        refine And.intro (⟨rfl, by first | omega | (simp only [mS_iff, eq_self, Int.reduceEq, true_and, and_true, false_and, and_false, and_self, ↓reduceIte]; omega) | (simp only [mS_iff, eq_self, Int.reduceEq, true_and, and_true, false_and, and_false, and_self, ↓reduceIte] at *; omega)⟩) ?_
        refine And.intro (show -2147483648 ≤ (m3 11 k) - s ∧ (m3 11 k) - s ≤ 2147483647 by first | omega | (simp only [mS_iff, eq_self, Int.reduceEq, true_and, and_true, false_and, and_false, and_self, ↓reduceIte]; omega) | (simp only [mS_iff, eq_self, Int.reduceEq, true_and, and_true, false_and, and_false, and_self, ↓reduceIte] at *; omega)) ?_
        refine K33 _ _ _ (Eq.refl _) ?_ ?_ ?_
        · first | omega | (simp only [mS_iff, eq_self, Int.reduceEq, true_and, and_true, false_and, and_false, and_self, ↓reduceIte]; omega) | (simp only [mS_iff, eq_self, Int.reduceEq, true_and, and_true, false_and, and_false, and_self, ↓reduceIte] at *; omega)
        · exact fr
        · exact fun j j0 j1 => ⟨fun q => (dd j j0 j1).1 ⟨q.1, by have := s_c_box hs.1 q.1; have := q.2; omega⟩, fun q => (dd j j0 j1).2 (fun z => q ⟨z.1, by have := s_c_box hs.1 z.1; have := z.2; omega⟩)⟩
  refine am_go 400 [10, 33] (am_wpc_cm _ _ _) wf_90 ?_
  refine And.intro (rfl) ?_
  refine And.intro (⟨rfl, by first | omega | (simp only [mS_iff, eq_self, Int.reduceEq, true_and, and_true, false_and, and_false, and_self, ↓reduceIte]; omega) | (simp only [mS_iff, eq_self, Int.reduceEq, true_and, and_true, false_and, and_false, and_self, ↓reduceIte] at *; omega)⟩) ?_
  refine And.intro (show -2147483648 ≤ (m 12 k) - s ∧ (m 12 k) - s ≤ 2147483647 by first | omega | (simp only [mS_iff, eq_self, Int.reduceEq, true_and, and_true, false_and, and_false, and_self, ↓reduceIte]; omega) | (simp only [mS_iff, eq_self, Int.reduceEq, true_and, and_true, false_and, and_false, and_self, ↓reduceIte] at *; omega)) ?_
  refine K10 _ _ _ _ (Eq.refl _) ?_ ?_ ?_
  · first | omega | (simp only [mS_iff, eq_self, Int.reduceEq, true_and, and_true, false_and, and_false, and_self, ↓reduceIte]; omega) | (simp only [mS_iff, eq_self, Int.reduceEq, true_and, and_true, false_and, and_false, and_self, ↓reduceIte] at *; omega)
  · exact fun _ _ => rfl
  · intro j j0 j1
    exact ⟨fun q => by have := s_c_box hs.1 q.1; have := q.2; omega, fun _ => rfl⟩
/-- the dots inside -/
def hIns (m : aM) : Prop := ∀ j, 0 ≤ j → j < 2880 → (m 7 j = 1 ∧ s_in (j % 48) (j / 48)) ∨ (m 7 j = 0 ∧ ¬ s_in (j % 48) (j / 48))
/-- what drawing of a layer writes -/
def fr_L (m m' : aM) : Prop := ∀ r j, r ≠ 6 → r ≠ 8 → r ≠ 9 → r ≠ 10 → r ≠ 11 → r ≠ 12 → (r ≠ 1 ∨ j ≠ 14) → m' r j = m r j
theorem fr_L.at {m m' : aM} (h : fr_L m m') {r : Int} (hr : 13 ≤ r ∨ r ≤ 0 ∨ r = 7) : m' r = m r := funext fun j => h r j (by omega) (by omega) (by omega) (by omega) (by omega) (by omega) (by omega)
theorem fr_L.trans {a b c : aM} (h : fr_L a b) (g : fr_L b c) : fr_L a c := fun r j x1 x2 x3 x4 x5 x6 x7 => (g r j x1 x2 x3 x4 x5 x6 x7).trans (h r j x1 x2 x3 x4 x5 x6 x7)
theorem fr_2.L {a b : Int} {m m' : aM} (h : fr_2 a b m m') (ha : 6 ≤ a ∧ a ≤ 12 ∧ a ≠ 7) (hb : 6 ≤ b ∧ b ≤ 12 ∧ b ≠ 7) : fr_L m m' := fun r j _ _ _ _ _ _ _ => by rw [h r (by omega) (by omega)]
theorem fr_F.L {m m' : aM} (h : fr_F m m') : fr_L m m' := fun r j _ _ c _ _ _ g => h r j c g
theorem fr_L.hK {lo hi : Int} {m m' : aM} (h : fr_L m m') (hl : 29 ≤ lo) : hKeep m m' lo hi := fun r x y => by
  have := h.at (r := r) (by omega)
  exact ⟨by rw [this], fun _ => this⟩
theorem s_ob_y {w : Int → Int} {b c x y : Int} (h : s_od w b x y) : s_ob w b c x y = w (b + 3) := by unfold s_ob; rw [if_pos h]
theorem s_ob_n {w : Int → Int} {b c x y : Int} (h : ¬ s_od w b x y) : s_ob w b c x y = c := by unfold s_ob; rw [if_neg h]
theorem hStr_of {w : Int → Int} {b : Int} {st : Int → Int} (h : ∀ j, 0 ≤ j → j < 2880 → (st j = 1 ∧ s_od w b (j % 48) (j / 48)) ∨ (st j = 0 ∧ ¬ s_od w b (j % 48) (j / 48))) : hStr w b st := fun x y i => by
  have a := i.1
  have q := h (48 * y + x) (by omega) (by omega)
  rw [show (48 * y + x) % 48 = x by omega, show (48 * y + x) / 48 = y by omega] at q
  exact q
theorem lp_83 {d : Nat} {m : aM} {Q : aO → aM → Prop} {l k lo hi b : Int} {w : Int → Int} (hd : 3 ≤ d) (h29 : 29 ≤ lo) (hC : hCst m) (hL : hLay m lo hi l w b) (hI : hIns m) (hQ : ∀ m2 v, fr_2 6 8 m m2 → hStr w b (m2 8) → (∀ j, 0 ≤ j → j < 2880 → m2 6 j = s_ob w b (m 6 j) (j % 48) (j / 48)) → am_WP am_G (am_wpc am_G am_T d) [] cd_83 Q 93 [aR 1, aR l, aI k, v, aU] [] m2) : am_WP am_G (am_wpc am_G am_T d) [] cd_83 Q 2 [aR 1, aR l, aI k, aI 0, aU] [] m := by
  obtain ⟨l1, l2, -, -, l5, -, -, -, -, -⟩ := id hL
  have K2 : ∀ (N : Nat), ∀ (i : Int), ∀ (m2 : aM), (2880 - i).toNat = N → (0 ≤ i ∧ i ≤ 2880) → (fr_2 6 8 m m2) → (∀ j, 0 ≤ j → j < i → ((m2 8 j = 1 ∧ s_od w b (j % 48) (j / 48)) ∨ (m2 8 j = 0 ∧ ¬ s_od w b (j % 48) (j / 48))) ∧ m2 6 j = s_ob w b (m 6 j) (j % 48) (j / 48)) → (∀ j, i ≤ j → m2 6 j = m 6 j) → am_WP am_G (am_wpc am_G am_T d) [] cd_83 Q 2 [aR 1, aR l, aI k, aI i, aU] [] m2 := by
    intro N
    induction N using Nat.strongRecOn with
    | _ N ih2 =>
      intro i m2 hN i0 fr i1 i2
      have el : m2 l = m l := fr l (by omega) (by omega)
      have c2 : m2 l (-1) = 7 := by rw [el]; exact l2
      have c1 : m2 l 1 = m l 1 := by rw [el]
      refine am_go 400 [93, 2] (am_wpc_cm _ _ _) wf_83 ?_
      refine And.intro (rfl) ?_
      refine And.intro (rfl) ?_
      refine And.intro (fun h7 => ?_) (fun h7 => ?_)
      · exact hQ m2 _ fr (hStr_of (fun j a b => (i1 j a (by omega)).1)) (fun j a b => (i1 j a (by omega)).2)
      · by_cases on : m l 1 = 0
        · have od : ¬ s_od w b (i % 48) (i / 48) := fun q => by
            have := q.1
            unfold hOrd noOrd okOrd at l5
            omega
          refine And.intro (rfl) ?_
          refine And.intro (show (m2 l (-1)) = 7 by first | assumption | omega | (simp only [mS_iff, eq_self, Int.reduceEq, true_and, and_true, false_and, and_false, and_self, ↓reduceIte]; omega) | (simp only [mS_iff, eq_self, Int.reduceEq, true_and, and_true, false_and, and_false, and_self, ↓reduceIte] at *; omega)) ?_
          refine And.intro (show (m2 l 1) ≠ -9 by first | omega | (simp only [mS_iff, eq_self, Int.reduceEq, true_and, and_true, false_and, and_false, and_self, ↓reduceIte]; omega) | (simp only [mS_iff, eq_self, Int.reduceEq, true_and, and_true, false_and, and_false, and_self, ↓reduceIte] at *; omega)) ?_
          refine And.intro (fun _ => ?_) (fun h => absurd h (by omega))
          refine And.intro (⟨rfl, by omega, by omega⟩) ?_
          refine And.intro (rfl) ?_
          refine And.intro (rfl) ?_
          refine And.intro (⟨rfl, by first | omega | (simp only [mS_iff, eq_self, Int.reduceEq, true_and, and_true, false_and, and_false, and_self, ↓reduceIte]; omega) | (simp only [mS_iff, eq_self, Int.reduceEq, true_and, and_true, false_and, and_false, and_self, ↓reduceIte] at *; omega)⟩) ?_
          refine And.intro (fun _ => ?_) (fun h => absurd h (by first | (rw [mS_eq]; omega) | (simp only [mS_eq]; decide)))
          refine And.intro (rfl) ?_
          refine And.intro (⟨rfl, by first | omega | (simp only [mS_iff, eq_self, Int.reduceEq, true_and, and_true, false_and, and_false, and_self, ↓reduceIte]; omega) | (simp only [mS_iff, eq_self, Int.reduceEq, true_and, and_true, false_and, and_false, and_self, ↓reduceIte] at *; omega)⟩) ?_
          refine And.intro (⟨rfl, by first | omega | (simp only [mS_iff, eq_self, Int.reduceEq, true_and, and_true, false_and, and_false, and_self, ↓reduceIte]; omega) | (simp only [mS_iff, eq_self, Int.reduceEq, true_and, and_true, false_and, and_false, and_self, ↓reduceIte] at *; omega)⟩) ?_
          refine And.intro (show -2147483648 ≤ i + 1 ∧ i + 1 ≤ 2147483647 by first | omega | (simp only [mS_iff, eq_self, Int.reduceEq, true_and, and_true, false_and, and_false, and_self, ↓reduceIte]; omega) | (simp only [mS_iff, eq_self, Int.reduceEq, true_and, and_true, false_and, and_false, and_self, ↓reduceIte] at *; omega)) ?_
          refine ih2 _ ?_ _ _ (Eq.refl _) ?_ ?_ ?_ ?_
          · omega
          · first | omega | (simp only [mS_iff, eq_self, Int.reduceEq, true_and, and_true, false_and, and_false, and_self, ↓reduceIte]; omega) | (simp only [mS_iff, eq_self, Int.reduceEq, true_and, and_true, false_and, and_false, and_self, ↓reduceIte] at *; omega)
          · exact (fr.S (by decide)).S (by decide)
          · intro j j0 j1
            by_cases e : j = i
            · subst e
              refine ⟨?_, ?_⟩
              · rw [mS_a _ _ _ _ (by omega), mS_eq]
                first | exact Or.inl ⟨rfl, od⟩ | exact Or.inr ⟨rfl, od⟩
              · rw [mS_eq]
                first
                  | (rw [s_ob_y od]; rw [show mS m2 8 j 1 l = m2 l from funext fun q => mS_a _ _ _ _ (by omega), mS_a _ _ _ _ (by omega)]; exact d7)
                  | (rw [s_ob_n od]; rw [mS_a _ _ _ _ (by omega)]; exact i2 j (by omega))
            · have q := i1 j j0 (by omega)
              refine ⟨?_, ?_⟩
              · rw [mS_a _ _ _ _ (by omega), mS_i _ _ _ _ e]; exact q.1
              · rw [mS_i _ _ _ _ e, mS_a _ _ _ _ (by omega)]; exact q.2
          · intro j hj
            rw [mS_i _ _ _ _ (by omega), mS_a _ _ _ _ (by omega)]
            exact i2 j (by omega)
        · obtain ⟨o1, o2, o3, o4, o5, o6, o7, -⟩ := hL.ord on
          have eo : m2 (m l 1) = m (m l 1) := fr _ (by omega) (by omega)
          have d3 : m2 (m2 l 1) (-1) = 8 := by rw [c1, eo]; exact o3
          have d5 : m2 (m2 l 1) 0 = w (b + 1) := by rw [c1, eo]; exact o5
          have d6 : m2 (m2 l 1) 1 = w (b + 2) := by rw [c1, eo]; exact o6
          have d7 : m2 (m2 l 1) 2 = w (b + 3) := by rw [c1, eo]; exact o7
          refine And.intro (rfl) ?_
          refine And.intro (show (m2 l (-1)) = 7 by first | assumption | omega | (simp only [mS_iff, eq_self, Int.reduceEq, true_and, and_true, false_and, and_false, and_self, ↓reduceIte]; omega) | (simp only [mS_iff, eq_self, Int.reduceEq, true_and, and_true, false_and, and_false, and_self, ↓reduceIte] at *; omega)) ?_
          refine And.intro (show (m2 l 1) ≠ -9 by first | omega | (simp only [mS_iff, eq_self, Int.reduceEq, true_and, and_true, false_and, and_false, and_self, ↓reduceIte]; omega) | (simp only [mS_iff, eq_self, Int.reduceEq, true_and, and_true, false_and, and_false, and_self, ↓reduceIte] at *; omega)) ?_
          refine And.intro (fun h => absurd h (by omega)) (fun _ => ?_)
          refine And.intro (rfl) ?_
          refine And.intro (⟨rfl, by first | omega | (simp only [mS_iff, eq_self, Int.reduceEq, true_and, and_true, false_and, and_false, and_self, ↓reduceIte]; omega) | (simp only [mS_iff, eq_self, Int.reduceEq, true_and, and_true, false_and, and_false, and_self, ↓reduceIte] at *; omega)⟩) ?_
          rcases hI i (by omega) (by omega) with ⟨i7, ins⟩ | ⟨i7, ins⟩
          · have e7 : m2 7 i = 1 := by rw [fr 7 (by omega) (by omega)]; exact i7
            refine And.intro (fun h => absurd h (by first | omega | (simp only [mS_iff, eq_self, Int.reduceEq, true_and, and_true, false_and, and_false, and_self, ↓reduceIte]; omega) | (simp only [mS_iff, eq_self, Int.reduceEq, true_and, and_true, false_and, and_false, and_self, ↓reduceIte] at *; omega))) (fun _ => ?_)
            have tm := Int.tmod_eq_emod_of_nonneg (b := 48) i0.1
            have td := Int.tdiv_eq_ediv_of_nonneg (b := 48) i0.1
            refine And.intro (show (m2 l (-1)) = 7 by first | assumption | omega | (simp only [mS_iff, eq_self, Int.reduceEq, true_and, and_true, false_and, and_false, and_self, ↓reduceIte]; omega) | (simp only [mS_iff, eq_self, Int.reduceEq, true_and, and_true, false_and, and_false, and_self, ↓reduceIte] at *; omega)) ?_
            refine And.intro (show 0 < 48 by first | omega | (simp only [mS_iff, eq_self, Int.reduceEq, true_and, and_true, false_and, and_false, and_self, ↓reduceIte]; omega) | (simp only [mS_iff, eq_self, Int.reduceEq, true_and, and_true, false_and, and_false, and_self, ↓reduceIte] at *; omega)) ?_
            refine And.intro (show 0 < 48 by first | omega | (simp only [mS_iff, eq_self, Int.reduceEq, true_and, and_true, false_and, and_false, and_self, ↓reduceIte]; omega) | (simp only [mS_iff, eq_self, Int.reduceEq, true_and, and_true, false_and, and_false, and_self, ↓reduceIte] at *; omega)) ?_
            refine ct_84 (by omega) (by intro r hr; rw [fr r (by omega) (by omega)]; exact hC r hr) d3 (by rw [tm, td]; omega) (fun h8 => ?_) (fun h8 => ?_)
            · rw [d5, d6, tm, td] at h8
              have od : s_od w b (i % 48) (i / 48) := ⟨o4.1, ins, h8⟩
              refine And.intro (fun h => absurd h (by decide)) (fun _ => ?_)
              refine And.intro (⟨rfl, by omega, by omega⟩) ?_
              refine And.intro (rfl) ?_
              refine And.intro (rfl) ?_
              refine And.intro (⟨rfl, by first | omega | (simp only [mS_iff, eq_self, Int.reduceEq, true_and, and_true, false_and, and_false, and_self, ↓reduceIte]; omega) | (simp only [mS_iff, eq_self, Int.reduceEq, true_and, and_true, false_and, and_false, and_self, ↓reduceIte] at *; omega)⟩) ?_
              refine And.intro (fun h => absurd h (by first | (rw [mS_eq]; omega) | (simp only [mS_eq]; decide))) (fun _ => ?_)
              refine And.intro (show ((mS m2 8 i 1) l (-1)) = 7 by first | assumption | omega | (simp only [mS_iff, eq_self, Int.reduceEq, true_and, and_true, false_and, and_false, and_self, ↓reduceIte]; omega) | (simp only [mS_iff, eq_self, Int.reduceEq, true_and, and_true, false_and, and_false, and_self, ↓reduceIte] at *; omega)) ?_
              refine And.intro (show mS m2 8 i 1 (mS m2 8 i 1 l 1) (-1) = 8 by rw [show mS m2 8 i 1 l = m2 l from funext fun q => mS_a _ _ _ _ (by omega), mS_a _ _ _ _ (by omega)]; exact d3) ?_
              refine And.intro (⟨rfl, by first | omega | (simp only [mS_iff, eq_self, Int.reduceEq, true_and, and_true, false_and, and_false, and_self, ↓reduceIte]; omega) | (simp only [mS_iff, eq_self, Int.reduceEq, true_and, and_true, false_and, and_false, and_self, ↓reduceIte] at *; omega)⟩) ?_
              refine And.intro (show -2147483648 ≤ i + 1 ∧ i + 1 ≤ 2147483647 by first | omega | (simp only [mS_iff, eq_self, Int.reduceEq, true_and, and_true, false_and, and_false, and_self, ↓reduceIte]; omega) | (simp only [mS_iff, eq_self, Int.reduceEq, true_and, and_true, false_and, and_false, and_self, ↓reduceIte] at *; omega)) ?_
              refine ih2 _ ?_ _ _ (Eq.refl _) ?_ ?_ ?_ ?_
              · omega
              · first | omega | (simp only [mS_iff, eq_self, Int.reduceEq, true_and, and_true, false_and, and_false, and_self, ↓reduceIte]; omega) | (simp only [mS_iff, eq_self, Int.reduceEq, true_and, and_true, false_and, and_false, and_self, ↓reduceIte] at *; omega)
              · exact (fr.S (by decide)).S (by decide)
              · intro j j0 j1
                by_cases e : j = i
                · subst e
                  refine ⟨?_, ?_⟩
                  · rw [mS_a _ _ _ _ (by omega), mS_eq]
                    first | exact Or.inl ⟨rfl, od⟩ | exact Or.inr ⟨rfl, od⟩
                  · rw [mS_eq]
                    first
                      | (rw [s_ob_y od]; rw [show mS m2 8 j 1 l = m2 l from funext fun q => mS_a _ _ _ _ (by omega), mS_a _ _ _ _ (by omega)]; exact d7)
                      | (rw [s_ob_n od]; rw [mS_a _ _ _ _ (by omega)]; exact i2 j (by omega))
                · have q := i1 j j0 (by omega)
                  refine ⟨?_, ?_⟩
                  · rw [mS_a _ _ _ _ (by omega), mS_i _ _ _ _ e]; exact q.1
                  · rw [mS_i _ _ _ _ e, mS_a _ _ _ _ (by omega)]; exact q.2
              · intro j hj
                rw [mS_i _ _ _ _ (by omega), mS_a _ _ _ _ (by omega)]
                exact i2 j (by omega)
            · rw [d5, d6, tm, td] at h8
              have od : ¬ s_od w b (i % 48) (i / 48) := fun q => h8 q.2.2
              refine And.intro (fun _ => ?_) (fun h => absurd h (by decide))
              refine And.intro (⟨rfl, by omega, by omega⟩) ?_
              refine And.intro (rfl) ?_
              refine And.intro (rfl) ?_
              refine And.intro (⟨rfl, by first | omega | (simp only [mS_iff, eq_self, Int.reduceEq, true_and, and_true, false_and, and_false, and_self, ↓reduceIte]; omega) | (simp only [mS_iff, eq_self, Int.reduceEq, true_and, and_true, false_and, and_false, and_self, ↓reduceIte] at *; omega)⟩) ?_
              refine And.intro (fun _ => ?_) (fun h => absurd h (by first | (rw [mS_eq]; omega) | (simp only [mS_eq]; decide)))
              refine And.intro (rfl) ?_
              refine And.intro (⟨rfl, by first | omega | (simp only [mS_iff, eq_self, Int.reduceEq, true_and, and_true, false_and, and_false, and_self, ↓reduceIte]; omega) | (simp only [mS_iff, eq_self, Int.reduceEq, true_and, and_true, false_and, and_false, and_self, ↓reduceIte] at *; omega)⟩) ?_
              refine And.intro (⟨rfl, by first | omega | (simp only [mS_iff, eq_self, Int.reduceEq, true_and, and_true, false_and, and_false, and_self, ↓reduceIte]; omega) | (simp only [mS_iff, eq_self, Int.reduceEq, true_and, and_true, false_and, and_false, and_self, ↓reduceIte] at *; omega)⟩) ?_
              refine And.intro (show -2147483648 ≤ i + 1 ∧ i + 1 ≤ 2147483647 by first | omega | (simp only [mS_iff, eq_self, Int.reduceEq, true_and, and_true, false_and, and_false, and_self, ↓reduceIte]; omega) | (simp only [mS_iff, eq_self, Int.reduceEq, true_and, and_true, false_and, and_false, and_self, ↓reduceIte] at *; omega)) ?_
              refine ih2 _ ?_ _ _ (Eq.refl _) ?_ ?_ ?_ ?_
              · omega
              · first | omega | (simp only [mS_iff, eq_self, Int.reduceEq, true_and, and_true, false_and, and_false, and_self, ↓reduceIte]; omega) | (simp only [mS_iff, eq_self, Int.reduceEq, true_and, and_true, false_and, and_false, and_self, ↓reduceIte] at *; omega)
              · exact (fr.S (by decide)).S (by decide)
              · intro j j0 j1
                by_cases e : j = i
                · subst e
                  refine ⟨?_, ?_⟩
                  · rw [mS_a _ _ _ _ (by omega), mS_eq]
                    first | exact Or.inl ⟨rfl, od⟩ | exact Or.inr ⟨rfl, od⟩
                  · rw [mS_eq]
                    first
                      | (rw [s_ob_y od]; rw [show mS m2 8 j 1 l = m2 l from funext fun q => mS_a _ _ _ _ (by omega), mS_a _ _ _ _ (by omega)]; exact d7)
                      | (rw [s_ob_n od]; rw [mS_a _ _ _ _ (by omega)]; exact i2 j (by omega))
                · have q := i1 j j0 (by omega)
                  refine ⟨?_, ?_⟩
                  · rw [mS_a _ _ _ _ (by omega), mS_i _ _ _ _ e]; exact q.1
                  · rw [mS_i _ _ _ _ e, mS_a _ _ _ _ (by omega)]; exact q.2
              · intro j hj
                rw [mS_i _ _ _ _ (by omega), mS_a _ _ _ _ (by omega)]
                exact i2 j (by omega)
          · have e7 : m2 7 i = 0 := by rw [fr 7 (by omega) (by omega)]; exact i7
            have od : ¬ s_od w b (i % 48) (i / 48) := fun q => ins q.2.1
            refine And.intro (fun _ => ?_) (fun h => absurd h (by first | omega | (simp only [mS_iff, eq_self, Int.reduceEq, true_and, and_true, false_and, and_false, and_self, ↓reduceIte]; omega) | (simp only [mS_iff, eq_self, Int.reduceEq, true_and, and_true, false_and, and_false, and_self, ↓reduceIte] at *; omega)))
            refine And.intro (⟨rfl, by omega, by omega⟩) ?_
            refine And.intro (rfl) ?_
            refine And.intro (rfl) ?_
            refine And.intro (⟨rfl, by first | omega | (simp only [mS_iff, eq_self, Int.reduceEq, true_and, and_true, false_and, and_false, and_self, ↓reduceIte]; omega) | (simp only [mS_iff, eq_self, Int.reduceEq, true_and, and_true, false_and, and_false, and_self, ↓reduceIte] at *; omega)⟩) ?_
            refine And.intro (fun _ => ?_) (fun h => absurd h (by first | (rw [mS_eq]; omega) | (simp only [mS_eq]; decide)))
            refine And.intro (rfl) ?_
            refine And.intro (⟨rfl, by first | omega | (simp only [mS_iff, eq_self, Int.reduceEq, true_and, and_true, false_and, and_false, and_self, ↓reduceIte]; omega) | (simp only [mS_iff, eq_self, Int.reduceEq, true_and, and_true, false_and, and_false, and_self, ↓reduceIte] at *; omega)⟩) ?_
            refine And.intro (⟨rfl, by first | omega | (simp only [mS_iff, eq_self, Int.reduceEq, true_and, and_true, false_and, and_false, and_self, ↓reduceIte]; omega) | (simp only [mS_iff, eq_self, Int.reduceEq, true_and, and_true, false_and, and_false, and_self, ↓reduceIte] at *; omega)⟩) ?_
            refine And.intro (show -2147483648 ≤ i + 1 ∧ i + 1 ≤ 2147483647 by first | omega | (simp only [mS_iff, eq_self, Int.reduceEq, true_and, and_true, false_and, and_false, and_self, ↓reduceIte]; omega) | (simp only [mS_iff, eq_self, Int.reduceEq, true_and, and_true, false_and, and_false, and_self, ↓reduceIte] at *; omega)) ?_
            refine ih2 _ ?_ _ _ (Eq.refl _) ?_ ?_ ?_ ?_
            · omega
            · first | omega | (simp only [mS_iff, eq_self, Int.reduceEq, true_and, and_true, false_and, and_false, and_self, ↓reduceIte]; omega) | (simp only [mS_iff, eq_self, Int.reduceEq, true_and, and_true, false_and, and_false, and_self, ↓reduceIte] at *; omega)
            · exact (fr.S (by decide)).S (by decide)
            · intro j j0 j1
              by_cases e : j = i
              · subst e
                refine ⟨?_, ?_⟩
                · rw [mS_a _ _ _ _ (by omega), mS_eq]
                  first | exact Or.inl ⟨rfl, od⟩ | exact Or.inr ⟨rfl, od⟩
                · rw [mS_eq]
                  first
                    | (rw [s_ob_y od]; rw [show mS m2 8 j 1 l = m2 l from funext fun q => mS_a _ _ _ _ (by omega), mS_a _ _ _ _ (by omega)]; exact d7)
                    | (rw [s_ob_n od]; rw [mS_a _ _ _ _ (by omega)]; exact i2 j (by omega))
              · have q := i1 j j0 (by omega)
                refine ⟨?_, ?_⟩
                · rw [mS_a _ _ _ _ (by omega), mS_i _ _ _ _ e]; exact q.1
                · rw [mS_i _ _ _ _ e, mS_a _ _ _ _ (by omega)]; exact q.2
            · intro j hj
              rw [mS_i _ _ _ _ (by omega), mS_a _ _ _ _ (by omega)]
              exact i2 j (by omega)
  exact K2 _ 0 m (Eq.refl _) (by omega) (fr_2.rfl _ _ _) (fun j a b => by omega) (fun _ _ => rfl)
theorem s_gd_y {w : Int → Int} {b n c x y : Int} (h : 0 < w (b + 4)) (h0 : 0 ≤ s_sz w b) (h1 : s_mem w b (s_sz w b) n x y) : s_gd w b n c x y = w (b + 8) := by unfold s_gd; rw [if_pos ⟨h, h0, h1⟩]
theorem s_gd_n {w : Int → Int} {b n c x y : Int} (h : ¬ (0 < w (b + 4) ∧ 0 ≤ s_sz w b ∧ s_mem w b (s_sz w b) n x y)) : s_gd w b n c x y = c := by unfold s_gd; rw [if_neg h]
theorem s_gd_0 (w : Int → Int) (b c x y : Int) : s_gd w b 0 c x y = c := s_gd_n (fun q => by obtain ⟨k, a, b, -⟩ := q.2.2; omega)
theorem s_gd_s {w : Int → Int} {b n c x y : Int} (h : 0 < w (b + 4)) (h0 : 0 ≤ s_sz w b) (hn : 0 ≤ n) : (s_c w b (s_sz w b) n x y → s_gd w b (n + 1) c x y = w (b + 8)) ∧ (¬ s_c w b (s_sz w b) n x y → s_gd w b (n + 1) c x y = s_gd w b n c x y) := by
  refine ⟨fun q => s_gd_y h h0 ((s_mem_s hn).mpr (Or.inr q)), fun q => ?_⟩
  by_cases e : s_mem w b (s_sz w b) n x y
  · rw [s_gd_y h h0 e, s_gd_y h h0 ((s_mem_s hn).mpr (Or.inl e))]
  · rw [s_gd_n (fun z => e z.2.2), s_gd_n (fun z => by
      rcases (s_mem_s hn).mp z.2.2 with g | g
      · exact e g
      · exact q g)]
theorem fr_L.rfl (m : aM) : fr_L m m := fun _ _ _ _ _ _ _ _ _ => Eq.refl _
theorem fr_L.S {m m' : aM} (h : fr_L m m') {c i v : Int} (hc : 6 ≤ c ∧ c ≤ 12 ∧ c ≠ 7) : fr_L m (mS m' c i v) := fun r j a1 a2 a3 a4 a5 a6 a7 => by rw [mS_a _ _ _ _ (by omega)]; exact h r j a1 a2 a3 a4 a5 a6 a7
/-- the state of a layer that is being drawn -/
def hDL (m m' : aM) (k z : Int) : Prop := fr_L m m' ∧ m' 10 k = z ∧ (∀ i, i ≠ k → m' 10 i = m 10 i) ∧ hTk m' ∧ m 1 14 ≤ m' 1 14 ∧ m' 1 14 ≤ m 1 14 + 21
theorem ct_83 {d : Nat} {m : aM} {Q : aO → aM → Prop} {l k lo hi b : Int} {w : Int → Int} (hd : 4 ≤ d) (h29 : 29 ≤ lo) (hC : hCst m) (hL : hLay m lo hi l w b) (hk : 0 ≤ k ∧ k < 6) (hI : hIns m) (htk : hTk m) (htr : 0 ≤ m 1 14 ∧ m 1 14 ≤ 900000) (hQ : ∀ m', hDL m m' k (if w (b + 4) = 0 then -1 else s_sz w b) → (∀ j, 0 ≤ j → j < 2880 → m' 6 j = s_dl w b (m 6 j) (j % 48) (j / 48)) → Q (.inl none) m') : am_wpc am_G am_T d 83 [aR 1, aR l, aI k] m Q := by
  refine am_in rfl hd (fun d hd => ?_)
  obtain ⟨l1, l2, -, -, -, l6, l7, -, l9, -⟩ := id hL
  have KK : ∀ m1 v, fr_2 6 8 m m1 → hStr w b (m1 8) → (∀ j, 0 ≤ j → j < 2880 → m1 6 j = s_ob w b (m 6 j) (j % 48) (j / 48)) → am_WP am_G (am_wpc am_G am_T d) [] cd_83 Q 93 [aR 1, aR l, aI k, v, aU] [] m1 := by
    intro m1 v f1 st1 d1
    have K144 : ∀ (N : Nat), ∀ (s : Int) (n : Int), ∀ (m5 : aM), (w (b + 5) - n).toNat = N → (m l 2 ≠ 0) → (0 ≤ n ∧ n ≤ w (b + 5)) → (s = s_sz w b) → (hDL m m5 k s) → (hPl m5 w b) → (∀ j, 0 ≤ j → j < 2880 → m5 6 j = s_gd w b n (s_ob w b (m 6 j) (j % 48) (j / 48)) (j % 48) (j / 48)) → am_WP am_G (am_wpc am_G am_T d) [] cd_83 Q 144 [aR 1, aR l, aI k, aI s, aI n] [] m5 := by
      intro N
      induction N using Nat.strongRecOn with
      | _ N ih144 =>
        intro s n m5 hN hg n0 hz dl hpl dd
        have f := dl.1
        have el : m5 l = m l := f.at (by omega)
        have c2 : m5 l (-1) = 7 := by rw [el]; exact l2
        have ex2 : m5 l 2 = m l 2 := by rw [el]
        obtain ⟨g1, g2, g3, g4, g5, g6, -, g8, -⟩ := hL.grp hg
        have eg : m5 (m l 2) = m (m l 2) := f.at (by omega)
        have c3 : m5 (m5 l 2) (-1) = 10 := by rw [ex2, eg]; exact g3
        have c5 : m5 (m5 l 2) 0 = w (b + 5) := by rw [ex2, eg]; exact g5
        have gb : 1 ≤ w (b + 5) ∧ w (b + 5) ≤ 12 ∧ 0 ≤ w (b + 6) ∧ 1 ≤ w (b + 4) := ⟨g4.2.2.1, g4.2.2.2.1, g4.2.2.2.2.1, g4.1⟩
        have ho : w (b + 4) = 3 → 0 ≤ w (b + 1) ∧ w (b + 1) ≤ 7 := fun e => by
          have := hL.2.2.2.2.1
          unfold hOrd okOrd noOrd at this
          omega
        have tb := s_top_b (s_fit w b) 21
        have hz2 : s_sz w b = s_top (s_fit w b) 21 := rfl
        have fitz : 0 ≤ s → s_fit w b s := fun e => by rcases tb with q | q; (rw [hz, hz2] at e; omega); (rw [hz, hz2]; exact q.2.2)
        refine am_go 400 [144, 115, 100] (am_wpc_cm _ _ _) wf_83 ?_
        refine And.intro (show (m5 l (-1)) = 7 by first | assumption | omega | (simp only [mS_iff, eq_self, Int.reduceEq, true_and, and_true, false_and, and_false, and_self, ↓reduceIte]; omega) | (simp only [mS_iff, eq_self, Int.reduceEq, true_and, and_true, false_and, and_false, and_self, ↓reduceIte] at *; omega)) ?_
        refine And.intro (show (m5 (m5 l 2) (-1)) = 10 by first | assumption | omega | (simp only [mS_iff, eq_self, Int.reduceEq, true_and, and_true, false_and, and_false, and_self, ↓reduceIte]; omega) | (simp only [mS_iff, eq_self, Int.reduceEq, true_and, and_true, false_and, and_false, and_self, ↓reduceIte] at *; omega)) ?_
        refine And.intro (fun h1 => ?_) (fun h1 => ?_)
        · refine hQ _ (by rw [if_neg (by omega), ← hz]; exact dl) (fun j j0 j1 => ?_)
          rw [dd j j0 j1]
          unfold s_dl
          first
            | rw [show n = w (b + 5) by omega]
            | rw [s_gd_n (fun q => by have := q.2.1; omega), s_gd_n (fun q => by have := q.2.1; omega)]
        · refine And.intro (fun h2 => ?_) (fun h2 => ?_)
          · refine hQ _ (by rw [if_neg (by omega), ← hz]; exact dl) (fun j j0 j1 => ?_)
            rw [dd j j0 j1]
            unfold s_dl
            first
              | rw [show n = w (b + 5) by omega]
              | rw [s_gd_n (fun q => by have := q.2.1; omega), s_gd_n (fun q => by have := q.2.1; omega)]
          · have fitz := fitz (by omega)
            refine And.intro (show (m5 l (-1)) = 7 by first | assumption | omega | (simp only [mS_iff, eq_self, Int.reduceEq, true_and, and_true, false_and, and_false, and_self, ↓reduceIte]; omega) | (simp only [mS_iff, eq_self, Int.reduceEq, true_and, and_true, false_and, and_false, and_self, ↓reduceIte] at *; omega)) ?_
            refine And.intro (rfl) ?_
            refine ct_90 (w := w) (b := b) (s := s) (k := n) (by omega) (by omega) c3 (by rw [ex2, eg]; exact g6) (by rw [ex2, eg]; exact g8) (by omega) (by omega) (hpl n (by omega) (by omega)) (s_p_b g4 ho (by omega) (by omega)) (by omega) (fun x y c => (fitz n (by omega) (by omega) x y c).1.1) (fun mw3 h4 h5 => ?_)
            have f5 := h4
            have d5 := h5
            refine And.intro (show -2147483648 ≤ n + 1 ∧ n + 1 ≤ 2147483647 by first | omega | (simp only [mS_iff, eq_self, Int.reduceEq, true_and, and_true, false_and, and_false, and_self, ↓reduceIte]; omega) | (simp only [mS_iff, eq_self, Int.reduceEq, true_and, and_true, false_and, and_false, and_self, ↓reduceIte] at *; omega)) ?_
            refine ih144 _ ?_ _ _ _ (Eq.refl _) ?_ ?_ ?_ ?_ ?_ ?_
            · omega
            · exact hg
            · omega
            · exact hz
            · exact ⟨fun r j a1 a2 a3 a4 a5 a6 a7 => by rw [f5 r a1]; exact f r j a1 a2 a3 a4 a5 a6 a7, by rw [f5 10 (by omega)]; exact dl.2.1, fun i hi => by rw [f5 10 (by omega)]; exact dl.2.2.1 i hi, fun i a c => by rw [f5 9 (by omega), f5 1 (by omega)]; exact dl.2.2.2.1 i a c, by rw [f5 1 (by omega)]; exact dl.2.2.2.2.1, by rw [f5 1 (by omega)]; exact dl.2.2.2.2.2⟩
            · intro i a c
              rw [f5 11 (by omega), f5 12 (by omega)]
              exact hpl i a c
            · intro j a c
              have g := s_gd_s (w := w) (b := b) (n := n) (c := s_ob w b (m 6 j) (j % 48) (j / 48)) (x := j % 48) (y := j / 48) (by omega) (by omega) (by omega)
              by_cases e : s_c w b s n (j % 48) (j / 48)
              · rw [(d5 j a c).1 e, g.1 (by rw [← hz]; exact e)]
              · rw [(d5 j a c).2 e, g.2 (by rw [← hz]; exact e)]; exact dd j a c
    have K115 : ∀ (N : Nat), ∀ (s : Int), ∀ (m4 : aM), (s + 1).toNat = N → (m l 2 ≠ 0) → (-1 ≤ s ∧ s ≤ 20) → (s_top (s_fit w b) 21 = s_top (s_fit w b) (s + 1).toNat) → (hDL m m4 k (-1)) → (m4 1 14 = m 1 14 + (20 - s)) → (hStr w b (m4 8)) → (hPl m4 w b) → (∀ j, 0 ≤ j → j < 2880 → m4 6 j = s_ob w b (m 6 j) (j % 48) (j / 48)) → am_WP am_G (am_wpc am_G am_T d) [] cd_83 Q 115 [aR 1, aR l, aI k, aI s, aU] [] m4 := by
      intro N
      induction N using Nat.strongRecOn with
      | _ N ih115 =>
        intro s m4 hN hg s0 hz dl tr hst hpl dd
        have f := dl.1
        have tk := dl.2.2.2.1
        have sz1 : 0 ≤ s → s_fit w b s → s_sz w b = s := fun h0 fi => by unfold s_sz; rw [hz]; exact s_top_y h0 fi
        have sz0 : s = -1 → s_sz w b = s := fun e => by unfold s_sz; rw [hz, e]; rfl
        have el : m4 l = m l := f.at (by omega)
        have c2 : m4 l (-1) = 7 := by rw [el]; exact l2
        have ex2 : m4 l 2 = m l 2 := by rw [el]
        obtain ⟨g1, g2, g3, g4, g5, g6, -, g8, -⟩ := hL.grp hg
        have eg : m4 (m l 2) = m (m l 2) := f.at (by omega)
        have c3 : m4 (m4 l 2) (-1) = 10 := by rw [ex2, eg]; exact g3
        have c5 : m4 (m4 l 2) 0 = w (b + 5) := by rw [ex2, eg]; exact g5
        have gb : 1 ≤ w (b + 5) ∧ w (b + 5) ≤ 12 ∧ 0 ≤ w (b + 6) ∧ 1 ≤ w (b + 4) := ⟨g4.2.2.1, g4.2.2.2.1, g4.2.2.2.2.1, g4.1⟩
        have ho : w (b + 4) = 3 → 0 ≤ w (b + 1) ∧ w (b + 1) ≤ 7 := fun e => by
          have := hL.2.2.2.2.1
          unfold hOrd okOrd noOrd at this
          omega
        refine am_go 400 [144, 115, 100] (am_wpc_cm _ _ _) wf_83 ?_
        refine And.intro (fun h6 => ?_) (fun h6 => ?_)
        · refine And.intro (rfl) ?_
          refine And.intro (⟨rfl, by first | omega | (simp only [mS_iff, eq_self, Int.reduceEq, true_and, and_true, false_and, and_false, and_self, ↓reduceIte]; omega) | (simp only [mS_iff, eq_self, Int.reduceEq, true_and, and_true, false_and, and_false, and_self, ↓reduceIte] at *; omega)⟩) ?_
          refine K144 _ _ _ _ (Eq.refl _) ?_ ?_ ?_ ?_ ?_ ?_
          · exact hg
          · omega
          · first | exact (sz1 (by omega) fi).symm | exact (sz0 (by omega)).symm | exact hz
          · exact ⟨f.S (by omega), mS_eq _ _ _ _, fun i hi => by rw [mS_i _ _ _ _ hi]; exact dl.2.2.1 i hi, fun i a c => tk i a c, dl.2.2.2.2.1, dl.2.2.2.2.2⟩
          · intro i a c
            show m4 11 i = _ ∧ m4 12 i = _
            exact hpl i a c
          · intro j a c
            rw [s_gd_0]
            show m4 6 j = _
            exact dd j a c
        · refine And.intro (rfl) ?_
          refine ct_87 (by omega) h29 (hL.keep (f.hK h29)) (by omega) hpl hst tk (by omega) (by omega) (fun h8 mw7 h9 h10 h11 => ?_) (fun h8 mw7 h9 h10 h11 => ?_)
          · have fi := h8
            have f5 := h9
            have t5 := h10
            have k5 := h11
            refine And.intro (fun _ => ?_) (fun h => absurd h (by decide))
            refine And.intro (rfl) ?_
            refine And.intro (⟨rfl, by first | omega | (simp only [mS_iff, eq_self, Int.reduceEq, true_and, and_true, false_and, and_false, and_self, ↓reduceIte]; omega) | (simp only [mS_iff, eq_self, Int.reduceEq, true_and, and_true, false_and, and_false, and_self, ↓reduceIte] at *; omega)⟩) ?_
            refine K144 _ _ _ _ (Eq.refl _) ?_ ?_ ?_ ?_ ?_ ?_
            · exact hg
            · omega
            · first | exact (sz1 (by omega) fi).symm | exact (sz0 (by omega)).symm | exact hz
            · exact ⟨f5.L |> (f.trans ·) |> fun q => q.S (by omega), mS_eq _ _ _ _, fun i hi => by rw [mS_i _ _ _ _ hi, f5.at (by omega) (by omega)]; exact dl.2.2.1 i hi, fun i a c => k5 i a c, by show m 1 14 ≤ mw7 1 14; omega, by show mw7 1 14 ≤ m 1 14 + 21; omega⟩
            · intro i a c
              show mw7 11 i = _ ∧ mw7 12 i = _
              rw [f5.at (by omega) (by omega), f5.at (by omega) (by omega)]
              exact hpl i a c
            · intro j a c
              rw [s_gd_0]
              show mw7 6 j = _
              rw [f5.at (by omega) (by omega)]
              exact dd j a c
          · have fi := h8
            have f5 := h9
            have t5 := h10
            have k5 := h11
            refine And.intro (fun h => absurd h (by decide)) (fun _ => ?_)
            refine And.intro (show -2147483648 ≤ s + (-1) ∧ s + (-1) ≤ 2147483647 by first | omega | (simp only [mS_iff, eq_self, Int.reduceEq, true_and, and_true, false_and, and_false, and_self, ↓reduceIte]; omega) | (simp only [mS_iff, eq_self, Int.reduceEq, true_and, and_true, false_and, and_false, and_self, ↓reduceIte] at *; omega)) ?_
            refine ih115 _ ?_ _ _ (Eq.refl _) ?_ ?_ ?_ ?_ ?_ ?_ ?_ ?_
            · omega
            · exact hg
            · omega
            · rw [hz, s_top_n (by omega) fi, show s + -1 + 1 = s by omega]
            · exact ⟨f.trans f5.L, by rw [f5.at (by omega) (by omega)]; exact dl.2.1, fun i hi => by rw [f5.at (by omega) (by omega)]; exact dl.2.2.1 i hi, k5, by omega, by omega⟩
            · omega
            · rw [f5.at (by omega) (by omega)]; exact hst
            · intro i a c
              rw [f5.at (by omega) (by omega), f5.at (by omega) (by omega)]
              exact hpl i a c
            · intro j a c
              rw [f5.at (by omega) (by omega)]
              exact dd j a c
    have K100 : ∀ (m3 : aM), (hDL m m3 k (-1)) → (m3 1 14 = m 1 14) → (hStr w b (m3 8)) → (∀ j, 0 ≤ j → j < 2880 → m3 6 j = s_ob w b (m 6 j) (j % 48) (j / 48)) → am_WP am_G (am_wpc am_G am_T d) [] cd_83 Q 100 [aR 1, aR l, aI k, v, aU] [] m3 := by
      intro m3 dl tr hst dd
      have f := dl.1
      have el : m3 l = m l := f.at (by omega)
      have c2 : m3 l (-1) = 7 := by rw [el]; exact l2
      have ex2 : m3 l 2 = m l 2 := by rw [el]
      refine am_go 400 [144, 115, 100] (am_wpc_cm _ _ _) wf_83 ?_
      refine And.intro (show (m3 l (-1)) = 7 by first | assumption | omega | (simp only [mS_iff, eq_self, Int.reduceEq, true_and, and_true, false_and, and_false, and_self, ↓reduceIte]; omega) | (simp only [mS_iff, eq_self, Int.reduceEq, true_and, and_true, false_and, and_false, and_self, ↓reduceIte] at *; omega)) ?_
      by_cases hg : m l 2 = 0
      · refine And.intro (show (m3 l 2) ≠ -9 by first | omega | (simp only [mS_iff, eq_self, Int.reduceEq, true_and, and_true, false_and, and_false, and_self, ↓reduceIte]; omega) | (simp only [mS_iff, eq_self, Int.reduceEq, true_and, and_true, false_and, and_false, and_self, ↓reduceIte] at *; omega)) ?_
        refine And.intro (fun _ => ?_) (fun h => absurd h (by omega))
        refine hQ _ (by rw [if_pos (by unfold hGrp noGrp at l6; omega)]; exact dl) (fun j j0 j1 => ?_)
        rw [dd j j0 j1]
        unfold s_dl
        rw [s_gd_n (fun q => by have := q.1; unfold hGrp noGrp at l6; omega)]
      · obtain ⟨g1, g2, g3, g4, g5, g6, -, g8, -⟩ := hL.grp hg
        have eg : m3 (m l 2) = m (m l 2) := f.at (by omega)
        have c3 : m3 (m3 l 2) (-1) = 10 := by rw [ex2, eg]; exact g3
        have c5 : m3 (m3 l 2) 0 = w (b + 5) := by rw [ex2, eg]; exact g5
        have gb : 1 ≤ w (b + 5) ∧ w (b + 5) ≤ 12 ∧ 0 ≤ w (b + 6) ∧ 1 ≤ w (b + 4) := ⟨g4.2.2.1, g4.2.2.2.1, g4.2.2.2.2.1, g4.1⟩
        have ho : w (b + 4) = 3 → 0 ≤ w (b + 1) ∧ w (b + 1) ≤ 7 := fun e => by
          have := hL.2.2.2.2.1
          unfold hOrd okOrd noOrd at this
          omega
        refine And.intro (show (m3 l 2) ≠ -9 by first | omega | (simp only [mS_iff, eq_self, Int.reduceEq, true_and, and_true, false_and, and_false, and_self, ↓reduceIte]; omega) | (simp only [mS_iff, eq_self, Int.reduceEq, true_and, and_true, false_and, and_false, and_self, ↓reduceIte] at *; omega)) ?_
        refine And.intro (fun h => absurd h (by omega)) (fun _ => ?_)
        refine And.intro (rfl) ?_
        refine ct_85 (by omega) h29 (by intro r hr; rw [f.at (by omega)]; exact hC r hr) (hL.keep (f.hK h29)) (by omega) (fun mw12 h13 h14 => ?_)
        have f2 := h13
        have hpl : hPl mw12 w b := h14
        refine K115 _ _ _ (Eq.refl _) ?_ ?_ ?_ ?_ ?_ ?_ ?_ ?_
        · exact hg
        · omega
        · exact rfl
        · exact ⟨f.trans (f2.L (by omega) (by omega)), by rw [f2 10 (by omega) (by omega)]; exact dl.2.1, fun i hi => by rw [f2 10 (by omega) (by omega)]; exact dl.2.2.1 i hi, fun i a c => by rw [f2 9 (by omega) (by omega), f2 1 (by omega) (by omega)]; exact dl.2.2.2.1 i a c, by rw [f2 1 (by omega) (by omega)]; exact dl.2.2.2.2.1, by rw [f2 1 (by omega) (by omega)]; exact dl.2.2.2.2.2⟩
        · rw [f2 1 (by omega) (by omega), tr]; omega
        · rw [f2 8 (by omega) (by omega)]; exact hst
        · exact hpl
        · intro j a c
          rw [f2 6 (by omega) (by omega)]
          exact dd j a c
    refine am_go 400 [144, 115, 100] (am_wpc_cm _ _ _) wf_83 ?_
    refine And.intro (rfl) ?_
    refine And.intro (⟨rfl, by first | omega | (simp only [mS_iff, eq_self, Int.reduceEq, true_and, and_true, false_and, and_false, and_self, ↓reduceIte]; omega) | (simp only [mS_iff, eq_self, Int.reduceEq, true_and, and_true, false_and, and_false, and_self, ↓reduceIte] at *; omega)⟩) ?_
    refine K100 _ ?_ ?_ ?_ ?_
    · exact ⟨(f1.L (by omega) (by omega)).S (by omega), mS_eq _ _ _ _, fun i hi => by rw [mS_i _ _ _ _ hi, f1 10 (by omega) (by omega)], fun i a c => by show m1 9 i ≤ m1 1 14; rw [f1 9 (by omega) (by omega), f1 1 (by omega) (by omega)]; exact htk i a c, by show m 1 14 ≤ m1 1 14; rw [f1 1 (by omega) (by omega)]; omega, by show m1 1 14 ≤ m 1 14 + 21; rw [f1 1 (by omega) (by omega)]; omega⟩
    · show m1 1 14 = _; rw [f1 1 (by omega) (by omega)]
    · exact st1
    · exact d1
  refine am_go 400 [2, 93] (am_wpc_cm _ _ _) wf_83 ?_
  exact lp_83 (by omega) h29 hC hL hI KK
