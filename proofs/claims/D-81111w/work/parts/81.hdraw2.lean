/-! needs: 80 -/
/-! CONTRACTS: drawing of the house, whole; by tools/gen81.py -/
set_option maxRecDepth 100000
def hDr (m : aM) (w : Int → Int) : Prop := (∀ j, 0 ≤ j → j < 2880 → m 6 j = s_dot w j) ∧ (∀ l, 0 ≤ l → l < w 5 → m 10 l = s_szl w l)
def fr_D (m m' : aM) : Prop := ∀ r j, (r < 6 ∨ 12 < r) → (r ≠ 1 ∨ (j ≠ 13 ∧ j ≠ 14)) → m' r j = m r j
theorem fr_D.at {m m' : aM} (h : fr_D m m') {r : Int} (hr : 13 ≤ r ∨ r ≤ 0 ∨ r = 4) : m' r = m r := funext fun j => h r j (by omega) (by omega)
theorem fr_D.trans {a b c : aM} (h : fr_D a b) (g : fr_D b c) : fr_D a c := fun r j x y => (g r j x y).trans (h r j x y)
theorem fr_L.D {m m' : aM} (h : fr_L m m') : fr_D m m' := fun r j a b => h r j (by omega) (by omega) (by omega) (by omega) (by omega) (by omega) (by omega)
theorem fr_D.K {m m' : aM} (h : fr_D m m') : hK m m' := hK.of (by rw [h.at (by omega)]) (fun r a _ j => by rw [h.at (by omega)])
theorem fr_D.S {m m' : aM} (h : fr_D m m') {c i v : Int} (hc : 6 ≤ c ∧ c ≤ 12) : fr_D m (mS m' c i v) := fun r j a b => by rw [mS_a _ _ _ _ (by omega)]; exact h r j a b
theorem s_d0_o {w : Int → Int} {x y : Int} (h : ¬ s_in x y) : s_d0 w x y = -1 := by unfold s_d0; rw [if_neg h]
theorem s_d0_1 {w : Int → Int} {x y : Int} (h : s_in x y) (g : s_fs (w 0) (w 1) (w 2) x y) : s_d0 w x y = w 3 := by unfold s_d0; rw [if_pos h, if_pos g]
theorem s_d0_2 {w : Int → Int} {x y : Int} (h : s_in x y) (g : ¬ s_fs (w 0) (w 1) (w 2) x y) : s_d0 w x y = w 4 := by unfold s_d0; rw [if_pos h, if_neg g]
theorem ct_79 {d : Nat} {m : aM} {Q : aO → aM → Prop} {r lo hi : Int} {w : Int → Int} (hd : 5 ≤ d) (hA : hArms m lo hi r w) (hC : hCst m) (htk : hTk m) (htr : 0 ≤ m 1 14 ∧ m 1 14 ≤ 800000) (hdr : 0 ≤ m 1 13) (hD : m 1 13 = r → hDr m w) (hQ : ∀ m', fr_D m m' → m' 1 13 = r → hDr m' w → hTk m' → m 1 14 ≤ m' 1 14 ∧ m' 1 14 ≤ m 1 14 + 126 → Q (.inl none) m') : am_wpc am_G am_T d 79 [aR 1, aR r] m Q := by
  obtain ⟨a1, a2, a3, a4, a5, a6, a7, a8, a9⟩ := hA.basic
  obtain ⟨f1, f2, f3, f4, f5, f6, f7, -⟩ := hA.fld
  have hw2 : 0 ≤ w 2 ∧ w 2 ≤ 12 := hA.row.2.2.1
  refine am_in rfl hd (fun d hd => ?_)
  have K105 : ∀ (N : Nat), ∀ (l : Int) (x3 : aV) (x4 : aV), ∀ (m3 : aM), (6 - l).toNat = N → (0 ≤ l ∧ l ≤ w 5) → (fr_D m m3) → (m3 1 13 = r) → (hIns m3) → (∀ j, 0 ≤ j → j < 2880 → m3 6 j = s_dn w l.toNat (j % 48) (j / 48)) → (∀ k, 0 ≤ k → k < l → m3 10 k = s_szl w k) → (hTk m3) → (m 1 14 ≤ m3 1 14 ∧ m3 1 14 ≤ m 1 14 + 21 * l) → am_WP am_G (am_wpc am_G am_T d) [] cd_79 Q 105 [aR 1, aR r, aI l, x3, x4] [] m3 := by
    intro N
    induction N using Nat.strongRecOn with
    | _ N ih105 =>
      intro l x3 x4 m3 hN l0 fr ed hI dd ss tk tr
      have er : m3 r = m r := fr.at (by omega)
      have e0 : m3 r 0 = m r 0 := by rw [er]
      have e1 : m3 r 1 = m r 1 := by rw [er]
      have b5 : m3 r (-1) = 4 := by rw [er]; exact a5
      have el : m3 (m r 1) = m (m r 1) := fr.at (by omega)
      have b7 : m3 (m3 r 1) (-1) = 45 := by rw [e1, el]; exact a7
      have b8 : m3 (m3 r 1) (-2) = w 5 := by rw [e1, el]; exact a8
      refine am_go 400 [105, 16] (am_wpc_cm _ _ _) wf_79 ?_
      refine And.intro (show (m3 r (-1)) = 4 by first | assumption | omega | (simp only [mS_iff, eq_self, Int.reduceEq, true_and, and_true, false_and, and_false, and_self, ↓reduceIte]; omega) | (simp only [mS_iff, eq_self, Int.reduceEq, true_and, and_true, false_and, and_false, and_self, ↓reduceIte] at *; omega)) ?_
      refine And.intro (by first | omega | (simp only [mS_iff, eq_self, Int.reduceEq, true_and, and_true, false_and, and_false, and_self, ↓reduceIte]; omega) | (simp only [mS_iff, eq_self, Int.reduceEq, true_and, and_true, false_and, and_false, and_self, ↓reduceIte] at *; omega)) ?_
      refine And.intro (fun h1 => ?_) (fun h1 => ?_)
      · exact hQ _ fr ed ⟨fun j a c => by rw [dd j a c, show l = w 5 by omega]; rfl, fun k a c => ss k a (by omega)⟩ tk (by omega)
      · refine And.intro (show (m3 r (-1)) = 4 by first | assumption | omega | (simp only [mS_iff, eq_self, Int.reduceEq, true_and, and_true, false_and, and_false, and_self, ↓reduceIte]; omega) | (simp only [mS_iff, eq_self, Int.reduceEq, true_and, and_true, false_and, and_false, and_self, ↓reduceIte] at *; omega)) ?_
        refine And.intro (⟨by first | assumption | omega | (simp only [mS_iff, eq_self, Int.reduceEq, true_and, and_true, false_and, and_false, and_self, ↓reduceIte]; omega), by first | omega | (simp only [mS_iff, eq_self, Int.reduceEq, true_and, and_true, false_and, and_false, and_self, ↓reduceIte]; omega) | (simp only [mS_iff, eq_self, Int.reduceEq, true_and, and_true, false_and, and_false, and_self, ↓reduceIte] at *; omega)⟩) ?_
        refine And.intro (rfl) ?_
        refine ct_83 (by omega) a1 (fun q hq => by rw [fr.at (by omega)]; exact hC q hq) (by rw [e1, el]; exact (hA.lay (k := l) (by omega) (by omega)).keep (fun q x y => ⟨by rw [fr.at (by omega)], fun _ => fr.at (by omega)⟩)) (by omega) hI tk (by omega) (fun mw2 h3 h4 => ?_)
        have dl := h3
        have dd2 := h4
        refine And.intro (show -2147483648 ≤ l + 1 ∧ l + 1 ≤ 2147483647 by first | omega | (simp only [mS_iff, eq_self, Int.reduceEq, true_and, and_true, false_and, and_false, and_self, ↓reduceIte]; omega) | (simp only [mS_iff, eq_self, Int.reduceEq, true_and, and_true, false_and, and_false, and_self, ↓reduceIte] at *; omega)) ?_
        refine ih105 _ ?_ _ _ _ _ (Eq.refl _) ?_ ?_ ?_ ?_ ?_ ?_ ?_ ?_
        · omega
        · first | omega | (simp only [mS_iff, eq_self, Int.reduceEq, true_and, and_true, false_and, and_false, and_self, ↓reduceIte]; omega) | (simp only [mS_iff, eq_self, Int.reduceEq, true_and, and_true, false_and, and_false, and_self, ↓reduceIte] at *; omega)
        · exact fr.trans dl.1.D
        · rw [dl.1 1 13 (by omega) (by omega) (by omega) (by omega) (by omega) (by omega) (by omega)]; exact ed
        · intro j a c
          rw [dl.1.at (by omega)]
          exact hI j a c
        · intro j a c
          rw [dd2 j a c, s_dn_s w (by omega), dd j a c]
        · intro k a c
          by_cases e : k = l
          · rw [e, dl.2.1]; rfl
          · rw [dl.2.2.1 k e]; exact ss k a (by omega)
        · exact dl.2.2.2.1
        · have := dl.2.2.2.2; omega
  have K16 : ∀ (N : Nat), ∀ (i : Int) (x3 : aV) (x4 : aV), ∀ (m2 : aM), (2880 - i).toNat = N → (0 ≤ i ∧ i ≤ 2880) → (fr_D m m2) → (m2 1 13 = r) → (m2 1 14 = m 1 14) → (hTk m2) → (∀ j, 0 ≤ j → j < i → ((m2 7 j = 1 ∧ s_in (j % 48) (j / 48)) ∨ (m2 7 j = 0 ∧ ¬ s_in (j % 48) (j / 48))) ∧ m2 6 j = s_d0 w (j % 48) (j / 48)) → am_WP am_G (am_wpc am_G am_T d) [] cd_79 Q 16 [aR 1, aR r, aI i, x3, x4] [] m2 := by
    intro N
    induction N using Nat.strongRecOn with
    | _ N ih16 =>
      intro i x3 x4 m2 hN i0 fr ed tr tk i1
      have er : m2 r = m r := fr.at (by omega)
      have e0 : m2 r 0 = m r 0 := by rw [er]
      have e1 : m2 r 1 = m r 1 := by rw [er]
      have b5 : m2 r (-1) = 4 := by rw [er]; exact a5
      have ef : m2 (m r 0) = m (m r 0) := fr.at (by omega)
      have g2 : m2 (m2 r 0) (-1) = 5 := by rw [e0, ef]; exact f2
      have g3 : m2 (m2 r 0) 0 = w 0 := by rw [e0, ef]; exact f3
      have g4 : m2 (m2 r 0) 1 = w 1 := by rw [e0, ef]; exact f4
      have g5 : m2 (m2 r 0) 2 = w 2 := by rw [e0, ef]; exact f5
      have g6 : m2 (m2 r 0) 3 = w 3 := by rw [e0, ef]; exact f6
      have g7 : m2 (m2 r 0) 4 = w 4 := by rw [e0, ef]; exact f7
      refine am_go 400 [105, 16] (am_wpc_cm _ _ _) wf_79 ?_
      refine And.intro (rfl) ?_
      refine And.intro (rfl) ?_
      refine And.intro (fun h5 => ?_) (fun h5 => ?_)
      · refine K105 _ _ _ _ _ (Eq.refl _) ?_ ?_ ?_ ?_ ?_ ?_ ?_ ?_
        · first | omega | (simp only [mS_iff, eq_self, Int.reduceEq, true_and, and_true, false_and, and_false, and_self, ↓reduceIte]; omega) | (simp only [mS_iff, eq_self, Int.reduceEq, true_and, and_true, false_and, and_false, and_self, ↓reduceIte] at *; omega)
        · exact fr
        · exact ed
        · intro j a c
          exact (i1 j a (by omega)).1
        · intro j a c
          exact (i1 j a (by omega)).2
        · intro k a c
          omega
        · exact tk
        · omega
      · refine And.intro (show 0 < 48 by first | omega | (simp only [mS_iff, eq_self, Int.reduceEq, true_and, and_true, false_and, and_false, and_self, ↓reduceIte]; omega) | (simp only [mS_iff, eq_self, Int.reduceEq, true_and, and_true, false_and, and_false, and_self, ↓reduceIte] at *; omega)) ?_
        refine And.intro (show 0 < 48 by first | omega | (simp only [mS_iff, eq_self, Int.reduceEq, true_and, and_true, false_and, and_false, and_self, ↓reduceIte]; omega) | (simp only [mS_iff, eq_self, Int.reduceEq, true_and, and_true, false_and, and_false, and_self, ↓reduceIte] at *; omega)) ?_
        have tm := Int.tmod_eq_emod_of_nonneg (b := 48) i0.1
        have td := Int.tdiv_eq_ediv_of_nonneg (b := 48) i0.1
        refine And.intro (rfl) ?_
        refine ct_80 (by omega) (fun h6 => ?_) (fun h6 => ?_)
        · rw [tm, td] at h6
          have ins := h6
          refine And.intro (⟨rfl, by first | omega | (simp only [mS_iff, eq_self, Int.reduceEq, true_and, and_true, false_and, and_false, and_self, ↓reduceIte]; omega) | (simp only [mS_iff, eq_self, Int.reduceEq, true_and, and_true, false_and, and_false, and_self, ↓reduceIte] at *; omega), by first | omega | (simp only [mS_iff, eq_self, Int.reduceEq, true_and, and_true, false_and, and_false, and_self, ↓reduceIte]; omega) | (simp only [mS_iff, eq_self, Int.reduceEq, true_and, and_true, false_and, and_false, and_self, ↓reduceIte] at *; omega)⟩) ?_
          refine And.intro (rfl) ?_
          refine And.intro (rfl) ?_
          refine And.intro (⟨rfl, by first | omega | (simp only [mS_iff, eq_self, Int.reduceEq, true_and, and_true, false_and, and_false, and_self, ↓reduceIte]; omega) | (simp only [mS_iff, eq_self, Int.reduceEq, true_and, and_true, false_and, and_false, and_self, ↓reduceIte] at *; omega)⟩) ?_
          refine And.intro (fun _ => ?_) (fun h => absurd h (by first | (rw [mS_eq]; omega) | (simp only [mS_eq]; decide)))
          have wr : mS m2 7 i 1 r = m2 r := funext fun _ => mS_a _ _ _ _ (by omega)
          have wf : mS m2 7 i 1 (m2 r 0) = m2 (m2 r 0) := funext fun _ => mS_a _ _ _ _ (by omega)
          have w1 : mS m2 7 i 1 r (-1) = 4 := by rw [wr]; exact b5
          have w2 : mS m2 7 i 1 (mS m2 7 i 1 r 0) (-1) = 5 := by rw [wr, wf]; exact g2
          have w3 : mS m2 7 i 1 (mS m2 7 i 1 r 0) 0 = w 0 := by rw [wr, wf]; exact g3
          have w4 : mS m2 7 i 1 (mS m2 7 i 1 r 0) 1 = w 1 := by rw [wr, wf]; exact g4
          have w5 : mS m2 7 i 1 (mS m2 7 i 1 r 0) 2 = w 2 := by rw [wr, wf]; exact g5
          have w6 : mS m2 7 i 1 (mS m2 7 i 1 r 0) 3 = w 3 := by rw [wr, wf]; exact g6
          have w7 : mS m2 7 i 1 (mS m2 7 i 1 r 0) 4 = w 4 := by rw [wr, wf]; exact g7
          refine And.intro (w1) ?_
          refine ct_81 (by omega) (by intro q hq; rw [show mS m2 7 i 1 q = m2 q from funext fun _ => mS_a _ _ _ _ (by omega), fr.at (by omega)]; exact hC q hq) w2 (by rw [w5]; exact hw2) (by rw [tm, td]; omega) (fun h7 => ?_) (fun h7 => ?_)
          · rw [w3, w4, w5, tm, td] at h7
            have fs := h7
            refine And.intro (fun h => absurd h (by decide)) (fun _ => ?_)
            refine And.intro (w1) ?_
            refine And.intro (w2) ?_
            refine And.intro (⟨rfl, by first | omega | (simp only [mS_iff, eq_self, Int.reduceEq, true_and, and_true, false_and, and_false, and_self, ↓reduceIte]; omega) | (simp only [mS_iff, eq_self, Int.reduceEq, true_and, and_true, false_and, and_false, and_self, ↓reduceIte] at *; omega)⟩) ?_
            refine And.intro (show -2147483648 ≤ i + 1 ∧ i + 1 ≤ 2147483647 by first | omega | (simp only [mS_iff, eq_self, Int.reduceEq, true_and, and_true, false_and, and_false, and_self, ↓reduceIte]; omega) | (simp only [mS_iff, eq_self, Int.reduceEq, true_and, and_true, false_and, and_false, and_self, ↓reduceIte] at *; omega)) ?_
            refine ih16 _ ?_ _ _ _ _ (Eq.refl _) ?_ ?_ ?_ ?_ ?_ ?_
            · omega
            · first | omega | (simp only [mS_iff, eq_self, Int.reduceEq, true_and, and_true, false_and, and_false, and_self, ↓reduceIte]; omega) | (simp only [mS_iff, eq_self, Int.reduceEq, true_and, and_true, false_and, and_false, and_self, ↓reduceIte] at *; omega)
            · exact (fr.S (by omega)).S (by omega)
            · exact ed
            · exact tr
            · intro j a c
              exact tk j a c
            · intro j j0 j1
              by_cases e : j = i
              · subst e
                refine ⟨?_, ?_⟩
                · rw [mS_a _ _ _ _ (by omega), mS_eq]
                  first | exact Or.inl ⟨rfl, ins⟩ | exact Or.inr ⟨rfl, ins⟩
                · rw [mS_eq]
                  first
                    | exact (s_d0_o ins).symm
                    | (rw [s_d0_1 ins fs]; exact w6)
                    | (rw [s_d0_2 ins fs]; exact w7)
              · have q := i1 j j0 (by omega)
                refine ⟨?_, ?_⟩
                · rw [mS_a _ _ _ _ (by omega), mS_i _ _ _ _ e]; exact q.1
                · rw [mS_i _ _ _ _ e, mS_a _ _ _ _ (by omega)]; exact q.2
          · rw [w3, w4, w5, tm, td] at h7
            have fs := h7
            refine And.intro (fun _ => ?_) (fun h => absurd h (by decide))
            refine And.intro (w1) ?_
            refine And.intro (w2) ?_
            refine And.intro (⟨rfl, by first | omega | (simp only [mS_iff, eq_self, Int.reduceEq, true_and, and_true, false_and, and_false, and_self, ↓reduceIte]; omega) | (simp only [mS_iff, eq_self, Int.reduceEq, true_and, and_true, false_and, and_false, and_self, ↓reduceIte] at *; omega)⟩) ?_
            refine And.intro (show -2147483648 ≤ i + 1 ∧ i + 1 ≤ 2147483647 by first | omega | (simp only [mS_iff, eq_self, Int.reduceEq, true_and, and_true, false_and, and_false, and_self, ↓reduceIte]; omega) | (simp only [mS_iff, eq_self, Int.reduceEq, true_and, and_true, false_and, and_false, and_self, ↓reduceIte] at *; omega)) ?_
            refine ih16 _ ?_ _ _ _ _ (Eq.refl _) ?_ ?_ ?_ ?_ ?_ ?_
            · omega
            · first | omega | (simp only [mS_iff, eq_self, Int.reduceEq, true_and, and_true, false_and, and_false, and_self, ↓reduceIte]; omega) | (simp only [mS_iff, eq_self, Int.reduceEq, true_and, and_true, false_and, and_false, and_self, ↓reduceIte] at *; omega)
            · exact (fr.S (by omega)).S (by omega)
            · exact ed
            · exact tr
            · intro j a c
              exact tk j a c
            · intro j j0 j1
              by_cases e : j = i
              · subst e
                refine ⟨?_, ?_⟩
                · rw [mS_a _ _ _ _ (by omega), mS_eq]
                  first | exact Or.inl ⟨rfl, ins⟩ | exact Or.inr ⟨rfl, ins⟩
                · rw [mS_eq]
                  first
                    | exact (s_d0_o ins).symm
                    | (rw [s_d0_1 ins fs]; exact w6)
                    | (rw [s_d0_2 ins fs]; exact w7)
              · have q := i1 j j0 (by omega)
                refine ⟨?_, ?_⟩
                · rw [mS_a _ _ _ _ (by omega), mS_i _ _ _ _ e]; exact q.1
                · rw [mS_i _ _ _ _ e, mS_a _ _ _ _ (by omega)]; exact q.2
        · rw [tm, td] at h6
          have ins := h6
          refine And.intro (⟨rfl, by first | omega | (simp only [mS_iff, eq_self, Int.reduceEq, true_and, and_true, false_and, and_false, and_self, ↓reduceIte]; omega) | (simp only [mS_iff, eq_self, Int.reduceEq, true_and, and_true, false_and, and_false, and_self, ↓reduceIte] at *; omega), by first | omega | (simp only [mS_iff, eq_self, Int.reduceEq, true_and, and_true, false_and, and_false, and_self, ↓reduceIte]; omega) | (simp only [mS_iff, eq_self, Int.reduceEq, true_and, and_true, false_and, and_false, and_self, ↓reduceIte] at *; omega)⟩) ?_
          refine And.intro (rfl) ?_
          refine And.intro (rfl) ?_
          refine And.intro (⟨rfl, by first | omega | (simp only [mS_iff, eq_self, Int.reduceEq, true_and, and_true, false_and, and_false, and_self, ↓reduceIte]; omega) | (simp only [mS_iff, eq_self, Int.reduceEq, true_and, and_true, false_and, and_false, and_self, ↓reduceIte] at *; omega)⟩) ?_
          refine And.intro (fun h => absurd h (by first | (rw [mS_eq]; omega) | (simp only [mS_eq]; decide))) (fun _ => ?_)
          refine And.intro (⟨rfl, by first | omega | (simp only [mS_iff, eq_self, Int.reduceEq, true_and, and_true, false_and, and_false, and_self, ↓reduceIte]; omega) | (simp only [mS_iff, eq_self, Int.reduceEq, true_and, and_true, false_and, and_false, and_self, ↓reduceIte] at *; omega)⟩) ?_
          refine And.intro (show -2147483648 ≤ i + 1 ∧ i + 1 ≤ 2147483647 by first | omega | (simp only [mS_iff, eq_self, Int.reduceEq, true_and, and_true, false_and, and_false, and_self, ↓reduceIte]; omega) | (simp only [mS_iff, eq_self, Int.reduceEq, true_and, and_true, false_and, and_false, and_self, ↓reduceIte] at *; omega)) ?_
          refine ih16 _ ?_ _ _ _ _ (Eq.refl _) ?_ ?_ ?_ ?_ ?_ ?_
          · omega
          · first | omega | (simp only [mS_iff, eq_self, Int.reduceEq, true_and, and_true, false_and, and_false, and_self, ↓reduceIte]; omega) | (simp only [mS_iff, eq_self, Int.reduceEq, true_and, and_true, false_and, and_false, and_self, ↓reduceIte] at *; omega)
          · exact (fr.S (by omega)).S (by omega)
          · exact ed
          · exact tr
          · intro j a c
            exact tk j a c
          · intro j j0 j1
            by_cases e : j = i
            · subst e
              refine ⟨?_, ?_⟩
              · rw [mS_a _ _ _ _ (by omega), mS_eq]
                first | exact Or.inl ⟨rfl, ins⟩ | exact Or.inr ⟨rfl, ins⟩
              · rw [mS_eq]
                first
                  | exact (s_d0_o ins).symm
                  | (rw [s_d0_1 ins fs]; exact w6)
                  | (rw [s_d0_2 ins fs]; exact w7)
            · have q := i1 j j0 (by omega)
              refine ⟨?_, ?_⟩
              · rw [mS_a _ _ _ _ (by omega), mS_i _ _ _ _ e]; exact q.1
              · rw [mS_i _ _ _ _ e, mS_a _ _ _ _ (by omega)]; exact q.2
  refine am_go 400 [105, 16] (am_wpc_cm _ _ _) wf_79 ?_
  refine And.intro (rfl) ?_
  by_cases hr : m 1 13 = r
  · refine And.intro (show 0 ≤ (m 1 13) ∧ 0 ≤ r by first | omega | (simp only [mS_iff, eq_self, Int.reduceEq, true_and, and_true, false_and, and_false, and_self, ↓reduceIte]; omega) | (simp only [mS_iff, eq_self, Int.reduceEq, true_and, and_true, false_and, and_false, and_self, ↓reduceIte] at *; omega)) ?_
    refine And.intro (fun h => absurd h (by omega)) (fun _ => ?_)
    exact hQ _ (fun _ _ _ _ => rfl) (by omega) (hD (by omega)) htk (by omega)
  · refine And.intro (show 0 ≤ (m 1 13) ∧ 0 ≤ r by first | omega | (simp only [mS_iff, eq_self, Int.reduceEq, true_and, and_true, false_and, and_false, and_self, ↓reduceIte]; omega) | (simp only [mS_iff, eq_self, Int.reduceEq, true_and, and_true, false_and, and_false, and_self, ↓reduceIte] at *; omega)) ?_
    refine And.intro (fun _ => ?_) (fun h => absurd h (by omega))
    refine And.intro (rfl) ?_
    refine K16 _ _ _ _ _ (Eq.refl _) ?_ ?_ ?_ ?_ ?_ ?_
    · first | omega | (simp only [mS_iff, eq_self, Int.reduceEq, true_and, and_true, false_and, and_false, and_self, ↓reduceIte]; omega) | (simp only [mS_iff, eq_self, Int.reduceEq, true_and, and_true, false_and, and_false, and_self, ↓reduceIte] at *; omega)
    · intro r j a c
      rw [mS_iff, if_neg (by omega)]
    · exact rfl
    · exact rfl
    · intro j a c
      exact htk j a c
    · intro j a c
      omega
