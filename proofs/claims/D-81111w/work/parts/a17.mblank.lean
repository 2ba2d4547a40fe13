/-! needs: a16 -/
/-! CONTRACTS: blank rows, the start, of the reference; by tools/gena17.py -/
set_option maxRecDepth 100000
/-- numbers a .. b - 1 of the arms of the reference are told anew -/
def fr_B (a b : Int) (m m' : aM) : Prop := ∀ r j, (r ≠ 42 ∨ j < a ∨ b ≤ j) → m' r j = m r j
theorem fr_B.rfl (a b : Int) (m : aM) : fr_B a b m m := fun _ _ _ => Eq.refl _
theorem fr_B.trans {a b : Int} {x y z : aM} (h : fr_B a b x y) (g : fr_B a b y z) : fr_B a b x z := fun r j v => (g r j v).trans (h r j v)
theorem fr_B.wd {a b a' b' : Int} {x y : aM} (h : fr_B a b x y) (ha : a' ≤ a) (hb : b ≤ b') : fr_B a' b' x y := fun r j v => h r j (by omega)
theorem fr_B.p {a b i v : Int} {x y : aM} (h : fr_B a b x y) (hi : a ≤ i ∧ i < b) : fr_B a b x (mS y 42 i v) := fun r j w => by rw [mS_iff, if_neg (by omega)]; exact h r j w
theorem fr_B.Y {a b : Int} {x y : aM} (h : fr_B a b x y) : fr_Y a b x y := fun r j _ w => h r j w
theorem mSg.B {a b c s : Int} {x y : aM} {u : Int → Int} (h : mSg x c s u) (g : fr_B a b x y) (e : c + s ≤ a ∨ b ≤ c) : mSg y c s u := fun j j0 j1 => by rw [g 42 _ (by omega)]; exact h j j0 j1
theorem mSg.Y {a b c s : Int} {x y : aM} {u : Int → Int} (h : mSg x c s u) (g : fr_Y a b x y) (e : c + s ≤ a ∨ b ≤ c) : mSg y c s u := fun j j0 j1 => by rw [g 42 _ (by omega) (by omega)]; exact h j j0 j1
theorem ct_184a {d : Nat} {m : aM} {Q : aO → aM → Prop} {a l j v : Int} (hd : 1 ≤ d) (ha : 0 ≤ a ∧ a ≤ 51) (hl : 0 ≤ l ∧ l ≤ 5) (hj : 0 ≤ j ∧ j ≤ 9) (hQ : ∀ m', m' = mS m 42 (66 * a + 6 + 10 * l + j) v → Q (.inl none) m') : am_wpc am_G am_T d 184 [aR 41, aI a, aI l, aI j, aI v] m Q := by
  refine am_in rfl hd (fun d hd => ?_)
  refine am_go 400 [] (am_wpc_cm _ _ _) wf_184 ?_
  refine And.intro (rfl) ?_
  refine And.intro (show -2147483648 ≤ 66 * a ∧ 66 * a ≤ 2147483647 by first | omega | (simp only [mS_iff, eq_self, Int.reduceEq, true_and, and_true, false_and, and_false, and_self, ↓reduceIte]; omega) | (simp only [mS_iff, eq_self, Int.reduceEq, true_and, and_true, false_and, and_false, and_self, ↓reduceIte] at *; omega)) ?_
  refine And.intro (show -2147483648 ≤ (66 * a) + 6 ∧ (66 * a) + 6 ≤ 2147483647 by first | omega | (simp only [mS_iff, eq_self, Int.reduceEq, true_and, and_true, false_and, and_false, and_self, ↓reduceIte]; omega) | (simp only [mS_iff, eq_self, Int.reduceEq, true_and, and_true, false_and, and_false, and_self, ↓reduceIte] at *; omega)) ?_
  refine And.intro (show -2147483648 ≤ 10 * l ∧ 10 * l ≤ 2147483647 by first | omega | (simp only [mS_iff, eq_self, Int.reduceEq, true_and, and_true, false_and, and_false, and_self, ↓reduceIte]; omega) | (simp only [mS_iff, eq_self, Int.reduceEq, true_and, and_true, false_and, and_false, and_self, ↓reduceIte] at *; omega)) ?_
  refine And.intro (show -2147483648 ≤ ((66 * a) + 6) + (10 * l) ∧ ((66 * a) + 6) + (10 * l) ≤ 2147483647 by first | omega | (simp only [mS_iff, eq_self, Int.reduceEq, true_and, and_true, false_and, and_false, and_self, ↓reduceIte]; omega) | (simp only [mS_iff, eq_self, Int.reduceEq, true_and, and_true, false_and, and_false, and_self, ↓reduceIte] at *; omega)) ?_
  refine And.intro (show -2147483648 ≤ (((66 * a) + 6) + (10 * l)) + j ∧ (((66 * a) + 6) + (10 * l)) + j ≤ 2147483647 by first | omega | (simp only [mS_iff, eq_self, Int.reduceEq, true_and, and_true, false_and, and_false, and_self, ↓reduceIte]; omega) | (simp only [mS_iff, eq_self, Int.reduceEq, true_and, and_true, false_and, and_false, and_self, ↓reduceIte] at *; omega)) ?_
  refine And.intro (⟨rfl, by first | omega | (simp only [mS_iff, eq_self, Int.reduceEq, true_and, and_true, false_and, and_false, and_self, ↓reduceIte]; omega) | (simp only [mS_iff, eq_self, Int.reduceEq, true_and, and_true, false_and, and_false, and_self, ↓reduceIte] at *; omega)⟩) ?_
  exact hQ _ rfl
theorem ct_183 {d : Nat} {m : aM} {Q : aO → aM → Prop} {a l : Int} (hd : 2 ≤ d) (ha : 0 ≤ a ∧ a ≤ 51) (hl : 0 ≤ l ∧ l ≤ 5) (hQ : ∀ m', fr_B (66 * a + 6 + 10 * l) (66 * a + 16 + 10 * l) m m' → mSg m' (66 * a + 6 + 10 * l) 10 l_no → Q (.inl none) m') : am_wpc am_G am_T d 183 [aR 41, aI a, aI l] m Q := by
  refine am_in rfl hd (fun d hd => ?_)
  have K2 : ∀ (Nm : Nat), ∀ (k : Int), ∀ (mu : aM), (10 - k).toNat = Nm → (0 ≤ k ∧ k ≤ 10) → (fr_B (66 * a + 6 + 10 * l) (66 * a + 16 + 10 * l) m mu) → (mSg mu (66 * a + 6 + 10 * l) k l_no) → am_WP am_G (am_wpc am_G am_T d) [] cd_183 Q 2 [aR 41, aI a, aI l, aI k] [] mu := by
    intro Nm
    induction Nm using Nat.strongRecOn with
    | _ Nm ih2 =>
      intro k mu hN i0 fb sg
      refine am_go 400 [2] (am_wpc_cm _ _ _) wf_183 ?_
      refine And.intro (fun h1 => ?_) (fun h1 => ?_)
      · exact hQ _ fb (by rw [show k = 10 by omega] at sg; exact sg)
      · refine And.intro (fun h2 => ?_) (fun h2 => ?_)
        · refine And.intro (rfl) ?_
          refine ct_184a (by omega) (by omega) (by omega) (by omega) (fun mw3 h4 => ?_)
          have em := h4
          refine And.intro (show -2147483648 ≤ k + 1 ∧ k + 1 ≤ 2147483647 by first | omega | (simp only [mS_iff, eq_self, Int.reduceEq, true_and, and_true, false_and, and_false, and_self, ↓reduceIte]; omega) | (simp only [mS_iff, eq_self, Int.reduceEq, true_and, and_true, false_and, and_false, and_self, ↓reduceIte] at *; omega)) ?_
          refine ih2 _ ?_ _ _ (Eq.refl _) ?_ ?_ ?_
          · omega
          · first | omega | (simp only [mS_iff, eq_self, Int.reduceEq, true_and, and_true, false_and, and_false, and_self, ↓reduceIte]; omega) | (simp only [mS_iff, eq_self, Int.reduceEq, true_and, and_true, false_and, and_false, and_self, ↓reduceIte] at *; omega)
          · rw [em]; exact fb.p (by omega)
          · intro j x y
            rw [em, mS_iff]
            by_cases e : j = k
            · rw [if_pos ⟨rfl, by omega⟩, e]; unfold l_no; first | rw [if_pos (by omega)] | rw [if_neg (by omega)]
            · rw [if_neg (by omega)]; exact sg j x (by omega)
        · refine And.intro (fun h5 => ?_) (fun h5 => ?_)
          · refine And.intro (rfl) ?_
            refine ct_184a (by omega) (by omega) (by omega) (by omega) (fun mw6 h7 => ?_)
            have em := h7
            refine And.intro (show -2147483648 ≤ k + 1 ∧ k + 1 ≤ 2147483647 by first | omega | (simp only [mS_iff, eq_self, Int.reduceEq, true_and, and_true, false_and, and_false, and_self, ↓reduceIte]; omega) | (simp only [mS_iff, eq_self, Int.reduceEq, true_and, and_true, false_and, and_false, and_self, ↓reduceIte] at *; omega)) ?_
            refine ih2 _ ?_ _ _ (Eq.refl _) ?_ ?_ ?_
            · omega
            · first | omega | (simp only [mS_iff, eq_self, Int.reduceEq, true_and, and_true, false_and, and_false, and_self, ↓reduceIte]; omega) | (simp only [mS_iff, eq_self, Int.reduceEq, true_and, and_true, false_and, and_false, and_self, ↓reduceIte] at *; omega)
            · rw [em]; exact fb.p (by omega)
            · intro j x y
              rw [em, mS_iff]
              by_cases e : j = k
              · rw [if_pos ⟨rfl, by omega⟩, e]; unfold l_no; first | rw [if_pos (by omega)] | rw [if_neg (by omega)]
              · rw [if_neg (by omega)]; exact sg j x (by omega)
          · refine And.intro (fun h8 => ?_) (fun h8 => ?_)
            · refine And.intro (rfl) ?_
              refine ct_184a (by omega) (by omega) (by omega) (by omega) (fun mw9 h10 => ?_)
              have em := h10
              refine And.intro (show -2147483648 ≤ k + 1 ∧ k + 1 ≤ 2147483647 by first | omega | (simp only [mS_iff, eq_self, Int.reduceEq, true_and, and_true, false_and, and_false, and_self, ↓reduceIte]; omega) | (simp only [mS_iff, eq_self, Int.reduceEq, true_and, and_true, false_and, and_false, and_self, ↓reduceIte] at *; omega)) ?_
              refine ih2 _ ?_ _ _ (Eq.refl _) ?_ ?_ ?_
              · omega
              · first | omega | (simp only [mS_iff, eq_self, Int.reduceEq, true_and, and_true, false_and, and_false, and_self, ↓reduceIte]; omega) | (simp only [mS_iff, eq_self, Int.reduceEq, true_and, and_true, false_and, and_false, and_self, ↓reduceIte] at *; omega)
              · rw [em]; exact fb.p (by omega)
              · intro j x y
                rw [em, mS_iff]
                by_cases e : j = k
                · rw [if_pos ⟨rfl, by omega⟩, e]; unfold l_no; first | rw [if_pos (by omega)] | rw [if_neg (by omega)]
                · rw [if_neg (by omega)]; exact sg j x (by omega)
            · refine And.intro (fun h11 => ?_) (fun h11 => ?_)
              · refine And.intro (rfl) ?_
                refine ct_184a (by omega) (by omega) (by omega) (by omega) (fun mw12 h13 => ?_)
                have em := h13
                refine And.intro (show -2147483648 ≤ k + 1 ∧ k + 1 ≤ 2147483647 by first | omega | (simp only [mS_iff, eq_self, Int.reduceEq, true_and, and_true, false_and, and_false, and_self, ↓reduceIte]; omega) | (simp only [mS_iff, eq_self, Int.reduceEq, true_and, and_true, false_and, and_false, and_self, ↓reduceIte] at *; omega)) ?_
                refine ih2 _ ?_ _ _ (Eq.refl _) ?_ ?_ ?_
                · omega
                · first | omega | (simp only [mS_iff, eq_self, Int.reduceEq, true_and, and_true, false_and, and_false, and_self, ↓reduceIte]; omega) | (simp only [mS_iff, eq_self, Int.reduceEq, true_and, and_true, false_and, and_false, and_self, ↓reduceIte] at *; omega)
                · rw [em]; exact fb.p (by omega)
                · intro j x y
                  rw [em, mS_iff]
                  by_cases e : j = k
                  · rw [if_pos ⟨rfl, by omega⟩, e]; unfold l_no; first | rw [if_pos (by omega)] | rw [if_neg (by omega)]
                  · rw [if_neg (by omega)]; exact sg j x (by omega)
              · refine And.intro (fun h14 => ?_) (fun h14 => ?_)
                · refine And.intro (rfl) ?_
                  refine ct_184a (by omega) (by omega) (by omega) (by omega) (fun mw15 h16 => ?_)
                  have em := h16
                  refine And.intro (show -2147483648 ≤ k + 1 ∧ k + 1 ≤ 2147483647 by first | omega | (simp only [mS_iff, eq_self, Int.reduceEq, true_and, and_true, false_and, and_false, and_self, ↓reduceIte]; omega) | (simp only [mS_iff, eq_self, Int.reduceEq, true_and, and_true, false_and, and_false, and_self, ↓reduceIte] at *; omega)) ?_
                  refine ih2 _ ?_ _ _ (Eq.refl _) ?_ ?_ ?_
                  · omega
                  · first | omega | (simp only [mS_iff, eq_self, Int.reduceEq, true_and, and_true, false_and, and_false, and_self, ↓reduceIte]; omega) | (simp only [mS_iff, eq_self, Int.reduceEq, true_and, and_true, false_and, and_false, and_self, ↓reduceIte] at *; omega)
                  · rw [em]; exact fb.p (by omega)
                  · intro j x y
                    rw [em, mS_iff]
                    by_cases e : j = k
                    · rw [if_pos ⟨rfl, by omega⟩, e]; unfold l_no; first | rw [if_pos (by omega)] | rw [if_neg (by omega)]
                    · rw [if_neg (by omega)]; exact sg j x (by omega)
                · refine And.intro (rfl) ?_
                  refine ct_184a (by omega) (by omega) (by omega) (by omega) (fun mw17 h18 => ?_)
                  have em := h18
                  refine And.intro (show -2147483648 ≤ k + 1 ∧ k + 1 ≤ 2147483647 by first | omega | (simp only [mS_iff, eq_self, Int.reduceEq, true_and, and_true, false_and, and_false, and_self, ↓reduceIte]; omega) | (simp only [mS_iff, eq_self, Int.reduceEq, true_and, and_true, false_and, and_false, and_self, ↓reduceIte] at *; omega)) ?_
                  refine ih2 _ ?_ _ _ (Eq.refl _) ?_ ?_ ?_
                  · omega
                  · first | omega | (simp only [mS_iff, eq_self, Int.reduceEq, true_and, and_true, false_and, and_false, and_self, ↓reduceIte]; omega) | (simp only [mS_iff, eq_self, Int.reduceEq, true_and, and_true, false_and, and_false, and_self, ↓reduceIte] at *; omega)
                  · rw [em]; exact fb.p (by omega)
                  · intro j x y
                    rw [em, mS_iff]
                    by_cases e : j = k
                    · rw [if_pos ⟨rfl, by omega⟩, e]; unfold l_no; first | rw [if_pos (by omega)] | rw [if_neg (by omega)]
                    · rw [if_neg (by omega)]; exact sg j x (by omega)
  refine am_go 400 [2] (am_wpc_cm _ _ _) wf_183 ?_
  refine K2 _ _ _ (Eq.refl _) ?_ ?_ ?_
  · first | omega | (simp only [mS_iff, eq_self, Int.reduceEq, true_and, and_true, false_and, and_false, and_self, ↓reduceIte]; omega) | (simp only [mS_iff, eq_self, Int.reduceEq, true_and, and_true, false_and, and_false, and_self, ↓reduceIte] at *; omega)
  · exact fr_B.rfl _ _ m
  · intro j x y
    omega
/-- a blank row -/
def p_b6 (k : Int) : Int := if k = 4 then -1 else 0
theorem ct_182 {d : Nat} {m : aM} {Q : aO → aM → Prop} {a : Int} (hd : 3 ≤ d) (ha : 0 ≤ a ∧ a ≤ 51) (hQ : ∀ m', fr_B (66 * a) (66 * a + 66) m m' → mSg m' (66 * a) 6 p_b6 → (∀ l, 0 ≤ l → l < 6 → mSg m' (66 * a + 6 + 10 * l) 10 l_no) → Q (.inl none) m') : am_wpc am_G am_T d 182 [aR 41, aI a] m Q := by
  refine am_in rfl hd (fun d hd => ?_)
  have K48 : ∀ (Nm : Nat), ∀ (k : Int), ∀ (mv : aM), (6 - k).toNat = Nm → (0 ≤ k ∧ k ≤ 6) → (fr_B (66 * a) (66 * a + 66) m mv) → (mSg mv (66 * a) 6 p_b6) → (∀ l, 0 ≤ l → l < k → mSg mv (66 * a + 6 + 10 * l) 10 l_no) → am_WP am_G (am_wpc am_G am_T d) [] cd_182 Q 48 [aR 41, aI a, aI k] [] mv := by
    intro Nm
    induction Nm using Nat.strongRecOn with
    | _ Nm ih48 =>
      intro k mv hN i0 fb sg sl
      refine am_go 400 [48, 2] (am_wpc_cm _ _ _) wf_182 ?_
      refine And.intro (fun h1 => ?_) (fun h1 => ?_)
      · exact hQ _ fb sg (fun l x y => sl l x (by omega))
      · refine And.intro (rfl) ?_
        refine ct_183 (by omega) (by omega) (by omega) (fun mw2 h3 h4 => ?_)
        have fz := h3
        have sz := h4
        refine And.intro (show -2147483648 ≤ k + 1 ∧ k + 1 ≤ 2147483647 by first | omega | (simp only [mS_iff, eq_self, Int.reduceEq, true_and, and_true, false_and, and_false, and_self, ↓reduceIte]; omega) | (simp only [mS_iff, eq_self, Int.reduceEq, true_and, and_true, false_and, and_false, and_self, ↓reduceIte] at *; omega)) ?_
        refine ih48 _ ?_ _ _ (Eq.refl _) ?_ ?_ ?_ ?_
        · omega
        · first | omega | (simp only [mS_iff, eq_self, Int.reduceEq, true_and, and_true, false_and, and_false, and_self, ↓reduceIte]; omega) | (simp only [mS_iff, eq_self, Int.reduceEq, true_and, and_true, false_and, and_false, and_self, ↓reduceIte] at *; omega)
        · exact fb.trans (fz.wd (by omega) (by omega))
        · exact sg.B fz (by omega)
        · intro l x y
          by_cases e : l = k
          · rw [e]; exact sz
          · exact (sl l x (by omega)).B fz (by omega)
  have K2 : ∀ (Nm : Nat), ∀ (k : Int), ∀ (mu : aM), (5 - k).toNat = Nm → (0 ≤ k ∧ k ≤ 5) → (fr_B (66 * a) (66 * a + 66) m mu) → (mSg mu (66 * a) k p_b6) → am_WP am_G (am_wpc am_G am_T d) [] cd_182 Q 2 [aR 41, aI a, aI k] [] mu := by
    intro Nm
    induction Nm using Nat.strongRecOn with
    | _ Nm ih2 =>
      intro k mu hN i0 fb sg
      refine am_go 400 [48, 2] (am_wpc_cm _ _ _) wf_182 ?_
      refine And.intro (fun h5 => ?_) (fun h5 => ?_)
      · refine And.intro (rfl) ?_
        refine And.intro (show -2147483648 ≤ 66 * a ∧ 66 * a ≤ 2147483647 by first | omega | (simp only [mS_iff, eq_self, Int.reduceEq, true_and, and_true, false_and, and_false, and_self, ↓reduceIte]; omega) | (simp only [mS_iff, eq_self, Int.reduceEq, true_and, and_true, false_and, and_false, and_self, ↓reduceIte] at *; omega)) ?_
        refine And.intro (show -2147483648 ≤ (66 * a) + 5 ∧ (66 * a) + 5 ≤ 2147483647 by first | omega | (simp only [mS_iff, eq_self, Int.reduceEq, true_and, and_true, false_and, and_false, and_self, ↓reduceIte]; omega) | (simp only [mS_iff, eq_self, Int.reduceEq, true_and, and_true, false_and, and_false, and_self, ↓reduceIte] at *; omega)) ?_
        refine And.intro (⟨rfl, by first | omega | (simp only [mS_iff, eq_self, Int.reduceEq, true_and, and_true, false_and, and_false, and_self, ↓reduceIte]; omega) | (simp only [mS_iff, eq_self, Int.reduceEq, true_and, and_true, false_and, and_false, and_self, ↓reduceIte] at *; omega)⟩) ?_
        refine K48 _ _ _ (Eq.refl _) ?_ ?_ ?_ ?_
        · first | omega | (simp only [mS_iff, eq_self, Int.reduceEq, true_and, and_true, false_and, and_false, and_self, ↓reduceIte]; omega) | (simp only [mS_iff, eq_self, Int.reduceEq, true_and, and_true, false_and, and_false, and_self, ↓reduceIte] at *; omega)
        · exact fb.p (by omega)
        · intro j x y
          rw [mS_iff]
          by_cases e : j = 5
          · rw [if_pos ⟨rfl, by omega⟩, e]; rfl
          · rw [if_neg (by omega)]; exact sg j x (by omega)
        · intro l x y
          omega
      · refine And.intro (rfl) ?_
        refine And.intro (show -2147483648 ≤ 66 * a ∧ 66 * a ≤ 2147483647 by first | omega | (simp only [mS_iff, eq_self, Int.reduceEq, true_and, and_true, false_and, and_false, and_self, ↓reduceIte]; omega) | (simp only [mS_iff, eq_self, Int.reduceEq, true_and, and_true, false_and, and_false, and_self, ↓reduceIte] at *; omega)) ?_
        refine And.intro (show -2147483648 ≤ (66 * a) + k ∧ (66 * a) + k ≤ 2147483647 by first | omega | (simp only [mS_iff, eq_self, Int.reduceEq, true_and, and_true, false_and, and_false, and_self, ↓reduceIte]; omega) | (simp only [mS_iff, eq_self, Int.reduceEq, true_and, and_true, false_and, and_false, and_self, ↓reduceIte] at *; omega)) ?_
        refine And.intro (fun h6 => ?_) (fun h6 => ?_)
        · refine And.intro (⟨rfl, by first | omega | (simp only [mS_iff, eq_self, Int.reduceEq, true_and, and_true, false_and, and_false, and_self, ↓reduceIte]; omega) | (simp only [mS_iff, eq_self, Int.reduceEq, true_and, and_true, false_and, and_false, and_self, ↓reduceIte] at *; omega)⟩) ?_
          refine And.intro (show -2147483648 ≤ k + 1 ∧ k + 1 ≤ 2147483647 by first | omega | (simp only [mS_iff, eq_self, Int.reduceEq, true_and, and_true, false_and, and_false, and_self, ↓reduceIte]; omega) | (simp only [mS_iff, eq_self, Int.reduceEq, true_and, and_true, false_and, and_false, and_self, ↓reduceIte] at *; omega)) ?_
          refine ih2 _ ?_ _ _ (Eq.refl _) ?_ ?_ ?_
          · omega
          · first | omega | (simp only [mS_iff, eq_self, Int.reduceEq, true_and, and_true, false_and, and_false, and_self, ↓reduceIte]; omega) | (simp only [mS_iff, eq_self, Int.reduceEq, true_and, and_true, false_and, and_false, and_self, ↓reduceIte] at *; omega)
          · exact fb.p (by omega)
          · intro j x y
            rw [mS_iff]
            by_cases e : j = k
            · rw [if_pos ⟨rfl, by omega⟩, e]; unfold p_b6; first | rw [if_pos (by omega)] | rw [if_neg (by omega)]
            · rw [if_neg (by omega)]; exact sg j x (by omega)
        · refine And.intro (⟨rfl, by first | omega | (simp only [mS_iff, eq_self, Int.reduceEq, true_and, and_true, false_and, and_false, and_self, ↓reduceIte]; omega) | (simp only [mS_iff, eq_self, Int.reduceEq, true_and, and_true, false_and, and_false, and_self, ↓reduceIte] at *; omega)⟩) ?_
          refine And.intro (show -2147483648 ≤ k + 1 ∧ k + 1 ≤ 2147483647 by first | omega | (simp only [mS_iff, eq_self, Int.reduceEq, true_and, and_true, false_and, and_false, and_self, ↓reduceIte]; omega) | (simp only [mS_iff, eq_self, Int.reduceEq, true_and, and_true, false_and, and_false, and_self, ↓reduceIte] at *; omega)) ?_
          refine ih2 _ ?_ _ _ (Eq.refl _) ?_ ?_ ?_
          · omega
          · first | omega | (simp only [mS_iff, eq_self, Int.reduceEq, true_and, and_true, false_and, and_false, and_self, ↓reduceIte]; omega) | (simp only [mS_iff, eq_self, Int.reduceEq, true_and, and_true, false_and, and_false, and_self, ↓reduceIte] at *; omega)
          · exact fb.p (by omega)
          · intro j x y
            rw [mS_iff]
            by_cases e : j = k
            · rw [if_pos ⟨rfl, by omega⟩, e]; unfold p_b6; first | rw [if_pos (by omega)] | rw [if_neg (by omega)]
            · rw [if_neg (by omega)]; exact sg j x (by omega)
  refine am_go 400 [48, 2] (am_wpc_cm _ _ _) wf_182 ?_
  refine K2 _ _ _ (Eq.refl _) ?_ ?_ ?_
  · first | omega | (simp only [mS_iff, eq_self, Int.reduceEq, true_and, and_true, false_and, and_false, and_self, ↓reduceIte]; omega) | (simp only [mS_iff, eq_self, Int.reduceEq, true_and, and_true, false_and, and_false, and_self, ↓reduceIte] at *; omega)
  · exact fr_B.rfl _ _ m
  · intro j x y
    omega
theorem ct_193 {d : Nat} {m : aM} {Q : aO → aM → Prop} {n : Int} {K A V E : Int → Int} {N p : Int} (hd : 3 ≤ d) (hn : m 41 3 = n ∧ 0 ≤ n ∧ n ≤ 1200) (hb : ∀ k, 0 ≤ k → k < n → 0 ≤ m 43 k ∧ m 43 k ≤ 255) (hlx : x_lx (m 43) n K A V E N) (hQ : ∀ m', fr_M m m' → mTx m' n K A V E N 0 0 p → Q (.inl none) m') : am_wpc am_G am_T d 193 [aR 41] m Q := by
  refine am_in rfl hd (fun d hd => ?_)
  refine am_go 400 [] (am_wpc_cm _ _ _) wf_193 ?_
  refine And.intro (rfl) ?_
  refine And.intro (⟨rfl, by first | omega | (simp only [mS_iff, eq_self, Int.reduceEq, true_and, and_true, false_and, and_false, and_self, ↓reduceIte]; omega) | (simp only [mS_iff, eq_self, Int.reduceEq, true_and, and_true, false_and, and_false, and_self, ↓reduceIte] at *; omega)⟩) ?_
  refine And.intro (rfl) ?_
  refine And.intro (rfl) ?_
  refine ct_194 (n := n) (by omega) hn (by show 0 ≤ (0 : Int) ∧ (0 : Int) ≤ n; omega) hb (fun mw1 h2 h3 h4 => ?_)
  have h1 := hlx.1
  have e43 : mw1 43 = m 43 := funext fun k => h2 43 k (by omega)
  have ej : mw1 41 14 = A 0 := x_sk_u h3 hlx.2.1
  rw [ej] at h4
  have tr := x_tk_mk (hlx.2.2.1 0 (by omega) (by omega)) h4
  have z3 : mw1 41 3 = m 41 3 := h2 41 3 (by omega)
  have z16 : mw1 41 16 = 0 := h2 41 16 (by omega)
  have z17 : mw1 41 17 = 0 := h2 41 17 (by omega)
  refine hQ _ (fun r j x => ?_) ⟨by rw [z3]; exact hn, by rw [e43]; exact hb, by rw [e43]; exact hlx, by omega, by omega, by omega, fun _ => ⟨z16, z17, tr.2, ej, tr.1.symm⟩, fun z => absurd rfl z⟩
  rw [fr_N.M h2 r j x, mS_iff, if_neg (by omega), mS_iff, if_neg (by omega), mS_iff, if_neg (by omega)]
