/-! needs: 81 -/
/-! CONTRACTS: drawing of the reference; by tools/gen82.py -/
set_option maxRecDepth 100000
def fr_mF (m m' : aM) : Prop := ∀ r j, r ≠ 55 → (r ≠ 41 ∨ j ≠ 27) → m' r j = m r j
theorem fr_mF.at {m m' : aM} (h : fr_mF m m') {r : Int} (h1 : r ≠ 55) (h2 : r ≠ 41) : m' r = m r := funext fun j => h r j h1 (Or.inl h2)
def mPl (m : aM) (w : Int → Int) (b : Int) : Prop := ∀ k, 0 ≤ k → k < w (b + 5) → m 53 k = s_px w b k ∧ m 54 k = s_py w b k
def mTk (m : aM) : Prop := ∀ i, 0 ≤ i → i < 2880 → m 55 i ≤ m 41 27
theorem s_c_at (w : Int → Int) (b s k u v : Int) : s_c w b s k (s_px w b k + u) (s_py w b k + v) ↔ s_cov (w (b + 6)) s (s_ab u) (s_ab v) := by
  unfold s_c
  rw [show s_px w b k + u - s_px w b k = u by omega, show s_py w b k + v - s_py w b k = v by omega]
theorem s_okd_y {w : Int → Int} {b x y : Int} (i : s_in x y) (h : w (b + 4) ≤ 1) : s_okd w b x y := ⟨i, fun e => by omega, fun e => by omega⟩
theorem ct_248 {d : Nat} {m : aM} {Q : aO → aM → Prop} {a l s : Int} {w : Int → Int} (hd : 4 ≤ d) (hR : mRow m a w) (hl : 0 ≤ l ∧ l < 6) (hg : okGrp w (6 + 10 * l)) (ho : w (6 + 10 * l + 4) ≠ 1 → 0 ≤ w (6 + 10 * l + 1) ∧ w (6 + 10 * l + 1) ≤ 7) (hpl : mPl m w (6 + 10 * l)) (htk : mTk m) (htr : 0 ≤ m 41 27 ∧ m 41 27 ≤ 1000000) (hs : 0 ≤ s ∧ s ≤ 20) (hQ1 : s_fit w (6 + 10 * l) s → ∀ m', fr_mF m m' → m' 41 27 = m 41 27 + 1 → mTk m' → Q (.inl (some (aI 1))) m') (hQ0 : ¬ s_fit w (6 + 10 * l) s → ∀ m', fr_mF m m' → m' 41 27 = m 41 27 + 1 → mTk m' → Q (.inl (some (aI 0))) m') : am_wpc am_G am_T d 248 [aR 41, aI a, aI l, aI s] m Q := by
  have gb : (1 ≤ w (6 + 10 * l + 4) ∧ w (6 + 10 * l + 4) ≤ 3) ∧ 1 ≤ w (6 + 10 * l + 5) ∧ w (6 + 10 * l + 5) ≤ 12 ∧ 0 ≤ w (6 + 10 * l + 6) := ⟨⟨hg.1, hg.2.1⟩, hg.2.2.1, hg.2.2.2.1, hg.2.2.2.2.1⟩
  refine am_in rfl hd (fun d hd => ?_)
  have K40 : ∀ (N : Nat), ∀ (k : Int) (h4 : Int) (h5 : Int) (h6 : Int) (x8 : aV) (x9 : aV) (x10 : aV) (x11 : aV), ∀ (m2 : aM), (w (6 + 10 * l + 5) - k).toNat = N → (0 ≤ k ∧ k ≤ w (6 + 10 * l + 5)) → (h4 = w (6 + 10 * l + 4) ∧ h5 = w (6 + 10 * l + 1) ∧ h6 = w (6 + 10 * l + 2)) → (fr_mF m m2) → (m2 41 27 = m 41 27 + 1) → (s_sc (s_c w (6 + 10 * l) s) (s_okd w (6 + 10 * l)) k (fun _ _ => False) (m2 55) (m 41 27 + 1)) → am_WP am_G (am_wpc am_G am_T d) [] cd_248 Q 40 [aR 41, aI a, aI l, aI s, aI h4, aI h5, aI h6, aI k, x8, x9, x10, x11] [] m2 := by
    intro N
    induction N using Nat.strongRecOn with
    | _ N ih40 =>
      intro k h4 h5 h6 x8 x9 x10 x11 m2 hN i0 i4 fr tr sc
      have hA : mRow m2 a w := hR.keep (fun j => by rw [fr.at (by omega) (by omega)])
      have K56 : ∀ (N : Nat), ∀ (u : Int) (x9 : aV) (x10 : aV) (x11 : aV), ∀ (m3 : aM), (s + 1 - u).toNat = N → (k < w (6 + 10 * l + 5) ∧ -s ≤ u ∧ u ≤ s + 1) → (fr_mF m m3) → (m3 41 27 = m 41 27 + 1) → (s_sc (s_c w (6 + 10 * l) s) (s_okd w (6 + 10 * l)) k (fun x' y' => x' < s_px w (6 + 10 * l) k + u) (m3 55) (m 41 27 + 1)) → am_WP am_G (am_wpc am_G am_T d) [] cd_248 Q 56 [aR 41, aI a, aI l, aI s, aI h4, aI h5, aI h6, aI k, aI u, x9, x10, x11] [] m3 := by
        intro N
        induction N using Nat.strongRecOn with
        | _ N ih56 =>
          intro u x9 x10 x11 m3 hN kk fr tr sc
          have hA : mRow m3 a w := hR.keep (fun j => by rw [fr.at (by omega) (by omega)])
          have pk := hpl k (by omega) (by omega)
          have pb := s_p_b hg (fun e => ho (by omega)) (k := k) (by omega) (by omega)
          have p1 : m3 53 k = s_px w (6 + 10 * l) k := by rw [fr.at (by omega) (by omega)]; exact pk.1
          have p2 : m3 54 k = s_py w (6 + 10 * l) k := by rw [fr.at (by omega) (by omega)]; exact pk.2
          have K66 : ∀ (N : Nat), ∀ (v : Int) (x10 : aV) (x11 : aV), ∀ (m4 : aM), (s + 1 - v).toNat = N → (u ≤ s ∧ -s ≤ v ∧ v ≤ s + 1) → (fr_mF m m4) → (m4 41 27 = m 41 27 + 1) → (s_sc (s_c w (6 + 10 * l) s) (s_okd w (6 + 10 * l)) k (fun x' y' => x' < s_px w (6 + 10 * l) k + u ∨ (x' = s_px w (6 + 10 * l) k + u ∧ y' < s_py w (6 + 10 * l) k + v)) (m4 55) (m 41 27 + 1)) → am_WP am_G (am_wpc am_G am_T d) [] cd_248 Q 66 [aR 41, aI a, aI l, aI s, aI h4, aI h5, aI h6, aI k, aI u, aI v, x10, x11] [] m4 := by
            intro N
            induction N using Nat.strongRecOn with
            | _ N ih66 =>
              intro v x10 x11 m4 hN jj fr tr sc
              have hA : mRow m4 a w := hR.keep (fun j => by rw [fr.at (by omega) (by omega)])
              have pk := hpl k (by omega) (by omega)
              have pb := s_p_b hg (fun e => ho (by omega)) (k := k) (by omega) (by omega)
              have p1 : m4 53 k = s_px w (6 + 10 * l) k := by rw [fr.at (by omega) (by omega)]; exact pk.1
              have p2 : m4 54 k = s_py w (6 + 10 * l) k := by rw [fr.at (by omega) (by omega)]; exact pk.2
              refine am_go 400 [40, 56, 66] (am_wpc_cm _ _ _) wf_248 ?_
              refine And.intro (fun h1 => ?_) (fun h1 => ?_)
              · refine And.intro (show -2147483648 ≤ u + 1 ∧ u + 1 ≤ 2147483647 by first | omega | (simp only [mS_iff, eq_self, Int.reduceEq, true_and, and_true, false_and, and_false, and_self, ↓reduceIte]; omega) | (simp only [mS_iff, eq_self, Int.reduceEq, true_and, and_true, false_and, and_false, and_self, ↓reduceIte] at *; omega)) ?_
                refine ih56 _ ?_ _ _ _ _ _ (Eq.refl _) ?_ ?_ ?_ ?_
                · omega
                · first | omega | (simp only [mS_iff, eq_self, Int.reduceEq, true_and, and_true, false_and, and_false, and_self, ↓reduceIte]; omega) | (simp only [mS_iff, eq_self, Int.reduceEq, true_and, and_true, false_and, and_false, and_self, ↓reduceIte] at *; omega)
                · exact fr
                · exact tr
                · exact sc.eqv (fun x' y' c => by have := s_c_box hs.1 c; first | omega | (constructor <;> intro h <;> first | exact h.elim | omega))
              · refine And.intro (rfl) ?_
                refine ct_188 (by omega) hA (by omega) (by omega) (fun v2 h3 => ?_)
                replace h3 : v2 = w (6 + 10 * l + 6) := h3
                refine ct_249 (by omega) (by omega) (by omega) (by omega) (by omega) (fun h4 => ?_) (fun h4 => ?_)
                · have cc := (s_c_at w (6 + 10 * l) s k u v).mpr (by rw [← h3]; exact h4)
                  refine And.intro (fun h => absurd h (by decide)) (fun _ => ?_)
                  refine And.intro (rfl) ?_
                  refine And.intro (⟨rfl, by first | omega | (simp only [mS_iff, eq_self, Int.reduceEq, true_and, and_true, false_and, and_false, and_self, ↓reduceIte]; omega) | (simp only [mS_iff, eq_self, Int.reduceEq, true_and, and_true, false_and, and_false, and_self, ↓reduceIte] at *; omega)⟩) ?_
                  refine And.intro (show -2147483648 ≤ (m4 53 k) + u ∧ (m4 53 k) + u ≤ 2147483647 by first | omega | (simp only [mS_iff, eq_self, Int.reduceEq, true_and, and_true, false_and, and_false, and_self, ↓reduceIte]; omega) | (simp only [mS_iff, eq_self, Int.reduceEq, true_and, and_true, false_and, and_false, and_self, ↓reduceIte] at *; omega)) ?_
                  refine And.intro (rfl) ?_
                  refine And.intro (⟨rfl, by first | omega | (simp only [mS_iff, eq_self, Int.reduceEq, true_and, and_true, false_and, and_false, and_self, ↓reduceIte]; omega) | (simp only [mS_iff, eq_self, Int.reduceEq, true_and, and_true, false_and, and_false, and_self, ↓reduceIte] at *; omega)⟩) ?_
                  refine And.intro (show -2147483648 ≤ (m4 54 k) + v ∧ (m4 54 k) + v ≤ 2147483647 by first | omega | (simp only [mS_iff, eq_self, Int.reduceEq, true_and, and_true, false_and, and_false, and_self, ↓reduceIte]; omega) | (simp only [mS_iff, eq_self, Int.reduceEq, true_and, and_true, false_and, and_false, and_self, ↓reduceIte] at *; omega)) ?_
                  refine ct_238 (by omega) (fun h5 => ?_) (fun h5 => ?_)
                  · rw [p1, p2] at h5
                    have ii := h5
                    have ib := h5.1
                    refine And.intro (fun h => absurd h (by decide)) (fun _ => ?_)
                    refine And.intro (rfl) ?_
                    refine And.intro (show -2147483648 ≤ 48 * ((m4 54 k) + v) ∧ 48 * ((m4 54 k) + v) ≤ 2147483647 by first | omega | (simp only [mS_iff, eq_self, Int.reduceEq, true_and, and_true, false_and, and_false, and_self, ↓reduceIte]; omega) | (simp only [mS_iff, eq_self, Int.reduceEq, true_and, and_true, false_and, and_false, and_self, ↓reduceIte] at *; omega)) ?_
                    refine And.intro (show -2147483648 ≤ (48 * ((m4 54 k) + v)) + ((m4 53 k) + u) ∧ (48 * ((m4 54 k) + v)) + ((m4 53 k) + u) ≤ 2147483647 by first | omega | (simp only [mS_iff, eq_self, Int.reduceEq, true_and, and_true, false_and, and_false, and_self, ↓reduceIte]; omega) | (simp only [mS_iff, eq_self, Int.reduceEq, true_and, and_true, false_and, and_false, and_self, ↓reduceIte] at *; omega)) ?_
                    refine And.intro (⟨rfl, by first | omega | (simp only [mS_iff, eq_self, Int.reduceEq, true_and, and_true, false_and, and_false, and_self, ↓reduceIte]; omega) | (simp only [mS_iff, eq_self, Int.reduceEq, true_and, and_true, false_and, and_false, and_self, ↓reduceIte] at *; omega)⟩) ?_
                    refine And.intro (rfl) ?_
                    refine And.intro (fun h6 => ?_) (fun h6 => ?_)
                    · refine And.intro (by first | omega | (simp only [mS_iff, eq_self, Int.reduceEq, true_and, and_true, false_and, and_false, and_self, ↓reduceIte]; omega) | (simp only [mS_iff, eq_self, Int.reduceEq, true_and, and_true, false_and, and_false, and_self, ↓reduceIte] at *; omega)) ?_
                      refine hQ0 ?_ _ fr tr (fun i a b => by rw [tr]; exact sc.2.2 i a b)
                      first
                        | exact s_bad1 (by omega) (by omega) cc (fun q => ii q.1)
                        | exact sc.bad (by omega) (by omega) cc ii (by rw [← p1, ← p2, ← tr]; assumption) (fun q => by have q2 : s_px w (6 + 10 * l) k + u < s_px w (6 + 10 * l) k + u ∨ (s_px w (6 + 10 * l) k + u = s_px w (6 + 10 * l) k + u ∧ s_py w (6 + 10 * l) k + v < s_py w (6 + 10 * l) k + v) := q; omega)
                        | exact s_bad1 (by omega) (by omega) cc (fun q => q.2.1 (by omega) od)
                        | exact s_bad1 (by omega) (by omega) cc (fun q => od (q.2.2 (by omega)))
                        | omega
                    · refine And.intro (fun h7 => ?_) (fun h7 => ?_)
                      · refine And.intro (rfl) ?_
                        refine And.intro (show -2147483648 ≤ 48 * ((m4 54 k) + v) ∧ 48 * ((m4 54 k) + v) ≤ 2147483647 by first | omega | (simp only [mS_iff, eq_self, Int.reduceEq, true_and, and_true, false_and, and_false, and_self, ↓reduceIte]; omega) | (simp only [mS_iff, eq_self, Int.reduceEq, true_and, and_true, false_and, and_false, and_self, ↓reduceIte] at *; omega)) ?_
                        refine And.intro (show -2147483648 ≤ (48 * ((m4 54 k) + v)) + ((m4 53 k) + u) ∧ (48 * ((m4 54 k) + v)) + ((m4 53 k) + u) ≤ 2147483647 by first | omega | (simp only [mS_iff, eq_self, Int.reduceEq, true_and, and_true, false_and, and_false, and_self, ↓reduceIte]; omega) | (simp only [mS_iff, eq_self, Int.reduceEq, true_and, and_true, false_and, and_false, and_self, ↓reduceIte] at *; omega)) ?_
                        refine And.intro (rfl) ?_
                        refine And.intro (⟨rfl, by first | omega | (simp only [mS_iff, eq_self, Int.reduceEq, true_and, and_true, false_and, and_false, and_self, ↓reduceIte]; omega) | (simp only [mS_iff, eq_self, Int.reduceEq, true_and, and_true, false_and, and_false, and_self, ↓reduceIte] at *; omega)⟩) ?_
                        refine And.intro (show -2147483648 ≤ v + 1 ∧ v + 1 ≤ 2147483647 by first | omega | (simp only [mS_iff, eq_self, Int.reduceEq, true_and, and_true, false_and, and_false, and_self, ↓reduceIte]; omega) | (simp only [mS_iff, eq_self, Int.reduceEq, true_and, and_true, false_and, and_false, and_self, ↓reduceIte] at *; omega)) ?_
                        refine ih66 _ ?_ _ _ _ _ (Eq.refl _) ?_ ?_ ?_ ?_
                        · omega
                        · first | omega | (simp only [mS_iff, eq_self, Int.reduceEq, true_and, and_true, false_and, and_false, and_self, ↓reduceIte]; omega) | (simp only [mS_iff, eq_self, Int.reduceEq, true_and, and_true, false_and, and_false, and_self, ↓reduceIte] at *; omega)
                        · intro r j h1 h2
                          rw [mS_a _ _ _ _ h1]
                          exact fr r j h1 h2
                        · exact tr
                        · have oo : s_okd w (6 + 10 * l) (s_px w (6 + 10 * l) k + u) (s_py w (6 + 10 * l) k + v) := by
                            first
                              | exact s_okd_y ii (by omega)
                              | exact ⟨ii, fun e => by first | exact od | omega, fun e => by first | exact od | omega⟩
                          refine sc.put (by omega) cc oo ii (by rw [← p1, ← p2, ← tr]; assumption) (fun x' y' => by omega) ?_ (fun i hi => ?_)
                          · rw [← p1, ← p2, mS_eq]; exact tr
                          · rw [p1, p2]; exact mS_i _ _ _ _ hi
                      · refine ct_243 (by omega) (fun h8 => ?_) (fun h8 => ?_)
                        · rw [p1, p2, i4.2.1, i4.2.2] at h8
                          have od : s_od w (6 + 10 * l) (s_px w (6 + 10 * l) k + u) (s_py w (6 + 10 * l) k + v) := ⟨(ho (by omega)).1, ii, h8.2⟩
                          refine And.intro (fun h9 => ?_) (fun h9 => ?_)
                          · refine And.intro (fun h => absurd h (by decide)) (fun _ => ?_)
                            refine And.intro (by first | omega | (simp only [mS_iff, eq_self, Int.reduceEq, true_and, and_true, false_and, and_false, and_self, ↓reduceIte]; omega) | (simp only [mS_iff, eq_self, Int.reduceEq, true_and, and_true, false_and, and_false, and_self, ↓reduceIte] at *; omega)) ?_
                            refine hQ0 ?_ _ fr tr (fun i a b => by rw [tr]; exact sc.2.2 i a b)
                            first
                              | exact s_bad1 (by omega) (by omega) cc (fun q => ii q.1)
                              | exact sc.bad (by omega) (by omega) cc ii (by rw [← p1, ← p2, ← tr]; assumption) (fun q => by have q2 : s_px w (6 + 10 * l) k + u < s_px w (6 + 10 * l) k + u ∨ (s_px w (6 + 10 * l) k + u = s_px w (6 + 10 * l) k + u ∧ s_py w (6 + 10 * l) k + v < s_py w (6 + 10 * l) k + v) := q; omega)
                              | exact s_bad1 (by omega) (by omega) cc (fun q => q.2.1 (by omega) od)
                              | exact s_bad1 (by omega) (by omega) cc (fun q => od (q.2.2 (by omega)))
                              | omega
                          · refine And.intro (fun _ => ?_) (fun h => absurd h (by decide))
                            refine And.intro (rfl) ?_
                            refine And.intro (show -2147483648 ≤ 48 * ((m4 54 k) + v) ∧ 48 * ((m4 54 k) + v) ≤ 2147483647 by first | omega | (simp only [mS_iff, eq_self, Int.reduceEq, true_and, and_true, false_and, and_false, and_self, ↓reduceIte]; omega) | (simp only [mS_iff, eq_self, Int.reduceEq, true_and, and_true, false_and, and_false, and_self, ↓reduceIte] at *; omega)) ?_
                            refine And.intro (show -2147483648 ≤ (48 * ((m4 54 k) + v)) + ((m4 53 k) + u) ∧ (48 * ((m4 54 k) + v)) + ((m4 53 k) + u) ≤ 2147483647 by first | omega | (simp only [mS_iff, eq_self, Int.reduceEq, true_and, and_true, false_and, and_false, and_self, ↓reduceIte]; omega) | (simp only [mS_iff, eq_self, Int.reduceEq, true_and, and_true, false_and, and_false, and_self, ↓reduceIte] at *; omega)) ?_
                            refine And.intro (rfl) ?_
                            refine And.intro (⟨rfl, by first | omega | (simp only [mS_iff, eq_self, Int.reduceEq, true_and, and_true, false_and, and_false, and_self, ↓reduceIte]; omega) | (simp only [mS_iff, eq_self, Int.reduceEq, true_and, and_true, false_and, and_false, and_self, ↓reduceIte] at *; omega)⟩) ?_
                            refine And.intro (show -2147483648 ≤ v + 1 ∧ v + 1 ≤ 2147483647 by first | omega | (simp only [mS_iff, eq_self, Int.reduceEq, true_and, and_true, false_and, and_false, and_self, ↓reduceIte]; omega) | (simp only [mS_iff, eq_self, Int.reduceEq, true_and, and_true, false_and, and_false, and_self, ↓reduceIte] at *; omega)) ?_
                            refine ih66 _ ?_ _ _ _ _ (Eq.refl _) ?_ ?_ ?_ ?_
                            · omega
                            · first | omega | (simp only [mS_iff, eq_self, Int.reduceEq, true_and, and_true, false_and, and_false, and_self, ↓reduceIte]; omega) | (simp only [mS_iff, eq_self, Int.reduceEq, true_and, and_true, false_and, and_false, and_self, ↓reduceIte] at *; omega)
                            · intro r j h1 h2
                              rw [mS_a _ _ _ _ h1]
                              exact fr r j h1 h2
                            · exact tr
                            · have oo : s_okd w (6 + 10 * l) (s_px w (6 + 10 * l) k + u) (s_py w (6 + 10 * l) k + v) := by
                                first
                                  | exact s_okd_y ii (by omega)
                                  | exact ⟨ii, fun e => by first | exact od | omega, fun e => by first | exact od | omega⟩
                              refine sc.put (by omega) cc oo ii (by rw [← p1, ← p2, ← tr]; assumption) (fun x' y' => by omega) ?_ (fun i hi => ?_)
                              · rw [← p1, ← p2, mS_eq]; exact tr
                              · rw [p1, p2]; exact mS_i _ _ _ _ hi
                        · rw [p1, p2, i4.2.1, i4.2.2] at h8
                          have od : ¬ s_od w (6 + 10 * l) (s_px w (6 + 10 * l) k + u) (s_py w (6 + 10 * l) k + v) := fun q => h8 ⟨ii, q.2.2⟩
                          refine And.intro (fun h10 => ?_) (fun h10 => ?_)
                          · refine And.intro (fun _ => ?_) (fun h => absurd h (by decide))
                            refine And.intro (rfl) ?_
                            refine And.intro (show -2147483648 ≤ 48 * ((m4 54 k) + v) ∧ 48 * ((m4 54 k) + v) ≤ 2147483647 by first | omega | (simp only [mS_iff, eq_self, Int.reduceEq, true_and, and_true, false_and, and_false, and_self, ↓reduceIte]; omega) | (simp only [mS_iff, eq_self, Int.reduceEq, true_and, and_true, false_and, and_false, and_self, ↓reduceIte] at *; omega)) ?_
                            refine And.intro (show -2147483648 ≤ (48 * ((m4 54 k) + v)) + ((m4 53 k) + u) ∧ (48 * ((m4 54 k) + v)) + ((m4 53 k) + u) ≤ 2147483647 by first | omega | (simp only [mS_iff, eq_self, Int.reduceEq, true_and, and_true, false_and, and_false, and_self, ↓reduceIte]; omega) | (simp only [mS_iff, eq_self, Int.reduceEq, true_and, and_true, false_and, and_false, and_self, ↓reduceIte] at *; omega)) ?_
                            refine And.intro (rfl) ?_
                            refine And.intro (⟨rfl, by first | omega | (simp only [mS_iff, eq_self, Int.reduceEq, true_and, and_true, false_and, and_false, and_self, ↓reduceIte]; omega) | (simp only [mS_iff, eq_self, Int.reduceEq, true_and, and_true, false_and, and_false, and_self, ↓reduceIte] at *; omega)⟩) ?_
                            refine And.intro (show -2147483648 ≤ v + 1 ∧ v + 1 ≤ 2147483647 by first | omega | (simp only [mS_iff, eq_self, Int.reduceEq, true_and, and_true, false_and, and_false, and_self, ↓reduceIte]; omega) | (simp only [mS_iff, eq_self, Int.reduceEq, true_and, and_true, false_and, and_false, and_self, ↓reduceIte] at *; omega)) ?_
                            refine ih66 _ ?_ _ _ _ _ (Eq.refl _) ?_ ?_ ?_ ?_
                            · omega
                            · first | omega | (simp only [mS_iff, eq_self, Int.reduceEq, true_and, and_true, false_and, and_false, and_self, ↓reduceIte]; omega) | (simp only [mS_iff, eq_self, Int.reduceEq, true_and, and_true, false_and, and_false, and_self, ↓reduceIte] at *; omega)
                            · intro r j h1 h2
                              rw [mS_a _ _ _ _ h1]
                              exact fr r j h1 h2
                            · exact tr
                            · have oo : s_okd w (6 + 10 * l) (s_px w (6 + 10 * l) k + u) (s_py w (6 + 10 * l) k + v) := by
                                first
                                  | exact s_okd_y ii (by omega)
                                  | exact ⟨ii, fun e => by first | exact od | omega, fun e => by first | exact od | omega⟩
                              refine sc.put (by omega) cc oo ii (by rw [← p1, ← p2, ← tr]; assumption) (fun x' y' => by omega) ?_ (fun i hi => ?_)
                              · rw [← p1, ← p2, mS_eq]; exact tr
                              · rw [p1, p2]; exact mS_i _ _ _ _ hi
                          · refine And.intro (fun h => absurd h (by decide)) (fun _ => ?_)
                            refine And.intro (by first | omega | (simp only [mS_iff, eq_self, Int.reduceEq, true_and, and_true, false_and, and_false, and_self, ↓reduceIte]; omega) | (simp only [mS_iff, eq_self, Int.reduceEq, true_and, and_true, false_and, and_false, and_self, ↓reduceIte] at *; omega)) ?_
                            refine hQ0 ?_ _ fr tr (fun i a b => by rw [tr]; exact sc.2.2 i a b)
                            first
                              | exact s_bad1 (by omega) (by omega) cc (fun q => ii q.1)
                              | exact sc.bad (by omega) (by omega) cc ii (by rw [← p1, ← p2, ← tr]; assumption) (fun q => by have q2 : s_px w (6 + 10 * l) k + u < s_px w (6 + 10 * l) k + u ∨ (s_px w (6 + 10 * l) k + u = s_px w (6 + 10 * l) k + u ∧ s_py w (6 + 10 * l) k + v < s_py w (6 + 10 * l) k + v) := q; omega)
                              | exact s_bad1 (by omega) (by omega) cc (fun q => q.2.1 (by omega) od)
                              | exact s_bad1 (by omega) (by omega) cc (fun q => od (q.2.2 (by omega)))
                              | omega
                  · rw [p1, p2] at h5
                    have ii := h5
                    refine And.intro (fun _ => ?_) (fun h => absurd h (by decide))
                    refine And.intro (by first | omega | (simp only [mS_iff, eq_self, Int.reduceEq, true_and, and_true, false_and, and_false, and_self, ↓reduceIte]; omega) | (simp only [mS_iff, eq_self, Int.reduceEq, true_and, and_true, false_and, and_false, and_self, ↓reduceIte] at *; omega)) ?_
                    refine hQ0 ?_ _ fr tr (fun i a b => by rw [tr]; exact sc.2.2 i a b)
                    first
                      | exact s_bad1 (by omega) (by omega) cc (fun q => ii q.1)
                      | exact sc.bad (by omega) (by omega) cc ii (by rw [← p1, ← p2, ← tr]; assumption) (fun q => by have q2 : s_px w (6 + 10 * l) k + u < s_px w (6 + 10 * l) k + u ∨ (s_px w (6 + 10 * l) k + u = s_px w (6 + 10 * l) k + u ∧ s_py w (6 + 10 * l) k + v < s_py w (6 + 10 * l) k + v) := q; omega)
                      | exact s_bad1 (by omega) (by omega) cc (fun q => q.2.1 (by omega) od)
                      | exact s_bad1 (by omega) (by omega) cc (fun q => od (q.2.2 (by omega)))
                      | omega
                · have cc : ¬ s_c w (6 + 10 * l) s k (s_px w (6 + 10 * l) k + u) (s_py w (6 + 10 * l) k + v) := fun q => h4 (by rw [h3]; exact (s_c_at w (6 + 10 * l) s k u v).mp q)
                  refine And.intro (fun _ => ?_) (fun h => absurd h (by decide))
                  refine And.intro (show -2147483648 ≤ v + 1 ∧ v + 1 ≤ 2147483647 by first | omega | (simp only [mS_iff, eq_self, Int.reduceEq, true_and, and_true, false_and, and_false, and_self, ↓reduceIte]; omega) | (simp only [mS_iff, eq_self, Int.reduceEq, true_and, and_true, false_and, and_false, and_self, ↓reduceIte] at *; omega)) ?_
                  refine ih66 _ ?_ _ _ _ _ (Eq.refl _) ?_ ?_ ?_ ?_
                  · omega
                  · first | omega | (simp only [mS_iff, eq_self, Int.reduceEq, true_and, and_true, false_and, and_false, and_self, ↓reduceIte]; omega) | (simp only [mS_iff, eq_self, Int.reduceEq, true_and, and_true, false_and, and_false, and_self, ↓reduceIte] at *; omega)
                  · exact fr
                  · exact tr
                  · exact sc.skip cc (fun x' y' => by omega)
          refine am_go 400 [40, 56, 66] (am_wpc_cm _ _ _) wf_248 ?_
          refine And.intro (fun h11 => ?_) (fun h11 => ?_)
          · refine And.intro (show -2147483648 ≤ k + 1 ∧ k + 1 ≤ 2147483647 by first | omega | (simp only [mS_iff, eq_self, Int.reduceEq, true_and, and_true, false_and, and_false, and_self, ↓reduceIte]; omega) | (simp only [mS_iff, eq_self, Int.reduceEq, true_and, and_true, false_and, and_false, and_self, ↓reduceIte] at *; omega)) ?_
            refine ih40 _ ?_ _ _ _ _ _ _ _ _ _ (Eq.refl _) ?_ ?_ ?_ ?_ ?_
            · omega
            · first | omega | (simp only [mS_iff, eq_self, Int.reduceEq, true_and, and_true, false_and, and_false, and_self, ↓reduceIte]; omega) | (simp only [mS_iff, eq_self, Int.reduceEq, true_and, and_true, false_and, and_false, and_self, ↓reduceIte] at *; omega)
            · exact i4
            · exact fr
            · exact tr
            · exact sc.next (by omega) (fun x' y' c => by have := s_c_box hs.1 c; omega)
          · refine And.intro (by first | omega | (simp only [mS_iff, eq_self, Int.reduceEq, true_and, and_true, false_and, and_false, and_self, ↓reduceIte]; omega) | (simp only [mS_iff, eq_self, Int.reduceEq, true_and, and_true, false_and, and_false, and_self, ↓reduceIte] at *; omega)) ?_
            refine K66 _ _ _ _ _ (Eq.refl _) ?_ ?_ ?_ ?_
            · first | omega | (simp only [mS_iff, eq_self, Int.reduceEq, true_and, and_true, false_and, and_false, and_self, ↓reduceIte]; omega) | (simp only [mS_iff, eq_self, Int.reduceEq, true_and, and_true, false_and, and_false, and_self, ↓reduceIte] at *; omega)
            · exact fr
            · exact tr
            · exact sc.eqv (fun x' y' c => by have := s_c_box hs.1 c; first | omega | (constructor <;> intro h <;> first | exact h.elim | omega))
      refine am_go 400 [40, 56, 66] (am_wpc_cm _ _ _) wf_248 ?_
      refine And.intro (rfl) ?_
      refine ct_188 (by omega) hA (by omega) (by omega) (fun v12 h13 => ?_)
      replace h13 : v12 = w (6 + 10 * l + 5) := h13
      refine And.intro (fun h14 => ?_) (fun h14 => ?_)
      · refine And.intro (by first | omega | (simp only [mS_iff, eq_self, Int.reduceEq, true_and, and_true, false_and, and_false, and_self, ↓reduceIte]; omega) | (simp only [mS_iff, eq_self, Int.reduceEq, true_and, and_true, false_and, and_false, and_self, ↓reduceIte] at *; omega)) ?_
        exact hQ1 (s_sc.fit (A := fun _ _ => False) (by rw [show w (6 + 10 * l + 5) = k by omega]; exact sc)) _ fr tr (fun i a b => by rw [tr]; exact sc.2.2 i a b)
      · have pk := hpl k (by omega) (by omega)
        have pb := s_p_b hg (fun e => ho (by omega)) (k := k) (by omega) (by omega)
        have p1 : m2 53 k = s_px w (6 + 10 * l) k := by rw [fr.at (by omega) (by omega)]; exact pk.1
        have p2 : m2 54 k = s_py w (6 + 10 * l) k := by rw [fr.at (by omega) (by omega)]; exact pk.2
        refine And.intro (by first | omega | (simp only [mS_iff, eq_self, Int.reduceEq, true_and, and_true, false_and, and_false, and_self, ↓reduceIte]; omega) | (simp only [mS_iff, eq_self, Int.reduceEq, true_and, and_true, false_and, and_false, and_self, ↓reduceIte] at *; omega)) ?_
        refine K56 _ _ _ _ _ _ (Eq.refl _) ?_ ?_ ?_ ?_
        · first | omega | (simp only [mS_iff, eq_self, Int.reduceEq, true_and, and_true, false_and, and_false, and_self, ↓reduceIte]; omega) | (simp only [mS_iff, eq_self, Int.reduceEq, true_and, and_true, false_and, and_false, and_self, ↓reduceIte] at *; omega)
        · exact fr
        · exact tr
        · exact sc.eqv (fun x' y' c => by have := s_c_box hs.1 c; first | omega | (constructor <;> intro h <;> first | exact h.elim | omega))
  refine am_go 400 [40, 56, 66] (am_wpc_cm _ _ _) wf_248 ?_
  refine And.intro (rfl) ?_
  refine And.intro (show -2147483648 ≤ (m 41 27) + 1 ∧ (m 41 27) + 1 ≤ 2147483647 by first | omega | (simp only [mS_iff, eq_self, Int.reduceEq, true_and, and_true, false_and, and_false, and_self, ↓reduceIte]; omega) | (simp only [mS_iff, eq_self, Int.reduceEq, true_and, and_true, false_and, and_false, and_self, ↓reduceIte] at *; omega)) ?_
  refine And.intro (rfl) ?_
  have hA : mRow (mS m 41 27 (m 41 27 + 1)) a w := hR.keep (fun j => rfl)
  refine And.intro (rfl) ?_
  refine ct_188 (by omega) hA (by omega) (by omega) (fun v15 h16 => ?_)
  replace h16 : v15 = w (6 + 10 * l + 4) := h16
  refine And.intro (rfl) ?_
  refine ct_188 (by omega) hA (by omega) (by omega) (fun v17 h18 => ?_)
  replace h18 : v17 = w (6 + 10 * l + 1) := h18
  refine And.intro (rfl) ?_
  refine ct_188 (by omega) hA (by omega) (by omega) (fun v19 h20 => ?_)
  replace h20 : v19 = w (6 + 10 * l + 2) := h20
  refine K40 _ _ _ _ _ _ _ _ _ _ (Eq.refl _) ?_ ?_ ?_ ?_ ?_
  · first | omega | (simp only [mS_iff, eq_self, Int.reduceEq, true_and, and_true, false_and, and_false, and_self, ↓reduceIte]; omega) | (simp only [mS_iff, eq_self, Int.reduceEq, true_and, and_true, false_and, and_false, and_self, ↓reduceIte] at *; omega)
  · exact ⟨by omega, by omega, by omega⟩
  · intro r j h1 h2
    rw [mS_iff, if_neg (by omega)]
  · exact rfl
  · refine s_sc.ini (fun i a b => ?_)
    have := htk i a b
    show m 55 i < _
    omega
def fr_mL (m m' : aM) : Prop := ∀ r j, (r < 51 ∨ 55 < r) → (r ≠ 41 ∨ j ≠ 27) → m' r j = m r j
theorem fr_mL.row {m m' : aM} (h : fr_mL m m') {a : Int} {w : Int → Int} (g : mRow m a w) : mRow m' a w := g.keep (fun j => h 42 j (by omega) (by omega))
theorem fr_mL.trans {a b c : aM} (h : fr_mL a b) (g : fr_mL b c) : fr_mL a c := fun r j x y => (g r j x y).trans (h r j x y)
theorem fr_mL.S {m m' : aM} (h : fr_mL m m') {c i v : Int} (hc : 51 ≤ c ∧ c ≤ 55) : fr_mL m (mS m' c i v) := fun r j a b => by rw [mS_a _ _ _ _ (by omega)]; exact h r j a b
theorem fr_mF.L {m m' : aM} (h : fr_mF m m') : fr_mL m m' := fun r j a b => h r j (by omega) b
theorem fr_2.mL {m m' : aM} (h : fr_2 53 54 m m') : fr_mL m m' := fun r j a _ => by rw [h r (by omega) (by omega)]
def mDL (m m' : aM) (k z : Int) : Prop := fr_mL m m' ∧ m' 52 k = z ∧ (∀ i, i ≠ k → m' 52 i = m 52 i) ∧ mTk m' ∧ m 41 27 ≤ m' 41 27 ∧ m' 41 27 ≤ m 41 27 + 21
theorem ct_242 {d : Nat} {m : aM} {Q : aO → aM → Prop} {a l : Int} {w : Int → Int} (hd : 5 ≤ d) (hR : mRow m a w) (hl : 0 ≤ l ∧ l < 6) (hK : okLay w (6 + 10 * l)) (htk : mTk m) (htr : 0 ≤ m 41 27 ∧ m 41 27 ≤ 900000) (hQ : ∀ m', mDL m m' l (if w (6 + 10 * l + 4) = 0 then -1 else s_sz w (6 + 10 * l)) → (∀ j, 0 ≤ j → j < 2880 → m' 51 j = s_dl w (6 + 10 * l) (m 51 j) (j % 48) (j / 48)) → Q (.inl none) m') : am_wpc am_G am_T d 242 [aR 41, aI a, aI l] m Q := by
  have hO : (0 ≤ w (6 + 10 * l + 1) ∧ w (6 + 10 * l + 1) ≤ 7) ∨ w (6 + 10 * l + 1) = -1 := by
    have := hK.2.1
    unfold okOrd noOrd at this
    omega
  have ho : w (6 + 10 * l + 4) ≠ 1 → 0 ≤ w (6 + 10 * l + 1) ∧ w (6 + 10 * l + 1) ≤ 7 := fun e => by have := hK.2.2.2.1; omega
  have h4 : 0 ≤ w (6 + 10 * l + 4) ∧ w (6 + 10 * l + 4) ≤ 3 := by
    have := hK.2.2.1
    unfold okGrp noGrp at this
    omega
  refine am_in rfl hd (fun d hd => ?_)
  have K143 : ∀ (N : Nat), ∀ (s : Int) (n : Int) (o : Int) (x6 : aV) (x7 : aV), ∀ (m5 : aM), (w (6 + 10 * l + 5) - n).toNat = N → (w (6 + 10 * l + 4) ≠ 0) → (0 ≤ n ∧ n ≤ w (6 + 10 * l + 5)) → (s = s_sz w (6 + 10 * l)) → (mDL m m5 l s) → (mPl m5 w (6 + 10 * l)) → (∀ j, 0 ≤ j → j < 2880 → m5 51 j = s_gd w (6 + 10 * l) n (s_ob w (6 + 10 * l) (m 51 j) (j % 48) (j / 48)) (j % 48) (j / 48)) → am_WP am_G (am_wpc am_G am_T d) [] cd_242 Q 143 [aR 41, aI a, aI l, aI o, aI s, aI n, x6, x7] [] m5 := by
    intro N
    induction N using Nat.strongRecOn with
    | _ N ih143 =>
      intro s n o x6 x7 m5 hN hq n0 hz dl hpl dd
      have f := dl.1
      have hA : mRow m5 a w := f.row hR
      have hg : okGrp w (6 + 10 * l) := by
        rcases hK.2.2.1 with q | q
        · exact q
        · unfold noGrp at q; omega
      have gb : 1 ≤ w (6 + 10 * l + 5) ∧ w (6 + 10 * l + 5) ≤ 12 ∧ 0 ≤ w (6 + 10 * l + 6) := ⟨hg.2.2.1, hg.2.2.2.1, hg.2.2.2.2.1⟩
      have tb := s_top_b (s_fit w (6 + 10 * l)) 21
      have hz2 : s_sz w (6 + 10 * l) = s_top (s_fit w (6 + 10 * l)) 21 := rfl
      have sb : -1 ≤ s ∧ s ≤ 20 := by rw [hz, hz2]; omega
      have fitz : 0 ≤ s → s_fit w (6 + 10 * l) s := fun e => by rcases tb with q | q; (rw [hz, hz2] at e; omega); (rw [hz, hz2]; exact q.2.2)
      have K165 : ∀ (N : Nat), ∀ (u : Int) (x7 : aV), ∀ (m6 : aM), (s + 1 - u).toNat = N → (n < w (6 + 10 * l + 5) ∧ 0 ≤ s ∧ -s ≤ u ∧ u ≤ s + 1) → (∀ r, r ≠ 51 → m6 r = m5 r) → (∀ j, 0 ≤ j → j < 2880 → ((s_c w (6 + 10 * l) s n (j % 48) (j / 48) ∧ (j % 48 < s_px w (6 + 10 * l) n + u)) → m6 51 j = w (6 + 10 * l + 8)) ∧ (¬ (s_c w (6 + 10 * l) s n (j % 48) (j / 48) ∧ (j % 48 < s_px w (6 + 10 * l) n + u)) → m6 51 j = s_gd w (6 + 10 * l) n (s_ob w (6 + 10 * l) (m 51 j) (j % 48) (j / 48)) (j % 48) (j / 48))) → am_WP am_G (am_wpc am_G am_T d) [] cd_242 Q 165 [aR 41, aI a, aI l, aI o, aI s, aI n, aI u, x7] [] m6 := by
        intro N
        induction N using Nat.strongRecOn with
        | _ N ih165 =>
          intro u x7 m6 hN uu f6 gg
          have pk := hpl n (by omega) (by omega)
          have pb := s_p_b hg (fun e => ho (by omega)) (k := n) (by omega) (by omega)
          have p1 : m6 53 n = s_px w (6 + 10 * l) n := by rw [f6 53 (by omega)]; exact pk.1
          have p2 : m6 54 n = s_py w (6 + 10 * l) n := by rw [f6 54 (by omega)]; exact pk.2
          have hA : mRow m6 a w := (f.row hR).keep (fun j => by rw [f6 42 (by omega)])
          have K177 : ∀ (N : Nat), ∀ (v : Int), ∀ (m7 : aM), (s + 1 - v).toNat = N → (u ≤ s ∧ -s ≤ v ∧ v ≤ s + 1) → (∀ r, r ≠ 51 → m7 r = m5 r) → (∀ j, 0 ≤ j → j < 2880 → ((s_c w (6 + 10 * l) s n (j % 48) (j / 48) ∧ (j % 48 < s_px w (6 + 10 * l) n + u ∨ (j % 48 = s_px w (6 + 10 * l) n + u ∧ j / 48 < s_py w (6 + 10 * l) n + v))) → m7 51 j = w (6 + 10 * l + 8)) ∧ (¬ (s_c w (6 + 10 * l) s n (j % 48) (j / 48) ∧ (j % 48 < s_px w (6 + 10 * l) n + u ∨ (j % 48 = s_px w (6 + 10 * l) n + u ∧ j / 48 < s_py w (6 + 10 * l) n + v))) → m7 51 j = s_gd w (6 + 10 * l) n (s_ob w (6 + 10 * l) (m 51 j) (j % 48) (j / 48)) (j % 48) (j / 48))) → am_WP am_G (am_wpc am_G am_T d) [] cd_242 Q 177 [aR 41, aI a, aI l, aI o, aI s, aI n, aI u, aI v] [] m7 := by
            intro N
            induction N using Nat.strongRecOn with
            | _ N ih177 =>
              intro v m7 hN vv f6 gg
              have pk := hpl n (by omega) (by omega)
              have pb := s_p_b hg (fun e => ho (by omega)) (k := n) (by omega) (by omega)
              have p1 : m7 53 n = s_px w (6 + 10 * l) n := by rw [f6 53 (by omega)]; exact pk.1
              have p2 : m7 54 n = s_py w (6 + 10 * l) n := by rw [f6 54 (by omega)]; exact pk.2
              have hA : mRow m7 a w := (f.row hR).keep (fun j => by rw [f6 42 (by omega)])
              have fitz := fitz (by omega)
              refine am_go 400 [143, 165, 177, 110, 89, 11, 25] (am_wpc_cm _ _ _) wf_242 ?_
              refine And.intro (fun h1 => ?_) (fun h1 => ?_)
              · refine And.intro (show -2147483648 ≤ u + 1 ∧ u + 1 ≤ 2147483647 by first | omega | (simp only [mS_iff, eq_self, Int.reduceEq, true_and, and_true, false_and, and_false, and_self, ↓reduceIte]; omega) | (simp only [mS_iff, eq_self, Int.reduceEq, true_and, and_true, false_and, and_false, and_self, ↓reduceIte] at *; omega)) ?_
                refine ih165 _ ?_ _ _ _ (Eq.refl _) ?_ ?_ ?_
                · omega
                · first | omega | (simp only [mS_iff, eq_self, Int.reduceEq, true_and, and_true, false_and, and_false, and_self, ↓reduceIte]; omega) | (simp only [mS_iff, eq_self, Int.reduceEq, true_and, and_true, false_and, and_false, and_self, ↓reduceIte] at *; omega)
                · exact f6
                · exact fun j a c => ⟨fun q => (gg j a c).1 ⟨q.1, by have := s_c_box (by omega) q.1; have := q.2; omega⟩, fun q => (gg j a c).2 (fun z => q ⟨z.1, by have := s_c_box (by omega) z.1; have := z.2; omega⟩)⟩
              · refine And.intro (rfl) ?_
                refine ct_188 (by omega) hA (by omega) (by omega) (fun v2 h3 => ?_)
                replace h3 : v2 = w (6 + 10 * l + 6) := h3
                refine ct_249 (by omega) (by omega) (by omega) (by omega) (by omega) (fun h4 => ?_) (fun h4 => ?_)
                · have cc := (s_c_at w (6 + 10 * l) s n u v).mpr (by rw [← h3]; exact h4)
                  have ib := (fitz n (by omega) (by omega) _ _ cc).1.1.1
                  refine And.intro (fun h => absurd h (by decide)) (fun _ => ?_)
                  refine And.intro (rfl) ?_
                  refine And.intro (rfl) ?_
                  refine And.intro (⟨rfl, by first | omega | (simp only [mS_iff, eq_self, Int.reduceEq, true_and, and_true, false_and, and_false, and_self, ↓reduceIte]; omega) | (simp only [mS_iff, eq_self, Int.reduceEq, true_and, and_true, false_and, and_false, and_self, ↓reduceIte] at *; omega)⟩) ?_
                  refine And.intro (show -2147483648 ≤ (m7 54 n) + v ∧ (m7 54 n) + v ≤ 2147483647 by first | omega | (simp only [mS_iff, eq_self, Int.reduceEq, true_and, and_true, false_and, and_false, and_self, ↓reduceIte]; omega) | (simp only [mS_iff, eq_self, Int.reduceEq, true_and, and_true, false_and, and_false, and_self, ↓reduceIte] at *; omega)) ?_
                  refine And.intro (show -2147483648 ≤ 48 * ((m7 54 n) + v) ∧ 48 * ((m7 54 n) + v) ≤ 2147483647 by first | omega | (simp only [mS_iff, eq_self, Int.reduceEq, true_and, and_true, false_and, and_false, and_self, ↓reduceIte]; omega) | (simp only [mS_iff, eq_self, Int.reduceEq, true_and, and_true, false_and, and_false, and_self, ↓reduceIte] at *; omega)) ?_
                  refine And.intro (rfl) ?_
                  refine And.intro (⟨rfl, by first | omega | (simp only [mS_iff, eq_self, Int.reduceEq, true_and, and_true, false_and, and_false, and_self, ↓reduceIte]; omega) | (simp only [mS_iff, eq_self, Int.reduceEq, true_and, and_true, false_and, and_false, and_self, ↓reduceIte] at *; omega)⟩) ?_
                  refine And.intro (show -2147483648 ≤ (48 * ((m7 54 n) + v)) + (m7 53 n) ∧ (48 * ((m7 54 n) + v)) + (m7 53 n) ≤ 2147483647 by first | omega | (simp only [mS_iff, eq_self, Int.reduceEq, true_and, and_true, false_and, and_false, and_self, ↓reduceIte]; omega) | (simp only [mS_iff, eq_self, Int.reduceEq, true_and, and_true, false_and, and_false, and_self, ↓reduceIte] at *; omega)) ?_
                  refine And.intro (show -2147483648 ≤ ((48 * ((m7 54 n) + v)) + (m7 53 n)) + u ∧ ((48 * ((m7 54 n) + v)) + (m7 53 n)) + u ≤ 2147483647 by first | omega | (simp only [mS_iff, eq_self, Int.reduceEq, true_and, and_true, false_and, and_false, and_self, ↓reduceIte]; omega) | (simp only [mS_iff, eq_self, Int.reduceEq, true_and, and_true, false_and, and_false, and_self, ↓reduceIte] at *; omega)) ?_
                  refine And.intro (rfl) ?_
                  refine ct_188 (by omega) hA (by omega) (by omega) (fun v5 h6 => ?_)
                  replace h6 : v5 = w (6 + 10 * l + 8) := h6
                  refine And.intro (⟨rfl, by first | omega | (simp only [mS_iff, eq_self, Int.reduceEq, true_and, and_true, false_and, and_false, and_self, ↓reduceIte]; omega) | (simp only [mS_iff, eq_self, Int.reduceEq, true_and, and_true, false_and, and_false, and_self, ↓reduceIte] at *; omega)⟩) ?_
                  refine And.intro (show -2147483648 ≤ v + 1 ∧ v + 1 ≤ 2147483647 by first | omega | (simp only [mS_iff, eq_self, Int.reduceEq, true_and, and_true, false_and, and_false, and_self, ↓reduceIte]; omega) | (simp only [mS_iff, eq_self, Int.reduceEq, true_and, and_true, false_and, and_false, and_self, ↓reduceIte] at *; omega)) ?_
                  refine ih177 _ ?_ _ _ (Eq.refl _) ?_ ?_ ?_
                  · omega
                  · first | omega | (simp only [mS_iff, eq_self, Int.reduceEq, true_and, and_true, false_and, and_false, and_self, ↓reduceIte]; omega) | (simp only [mS_iff, eq_self, Int.reduceEq, true_and, and_true, false_and, and_false, and_self, ↓reduceIte] at *; omega)
                  · intro r hr
                    rw [← f6 r hr]
                    exact funext fun j => mS_a _ _ _ _ hr
                  · intro j a c
                    by_cases e : j = 48 * (s_py w (6 + 10 * l) n + v) + (s_px w (6 + 10 * l) n + u)
                    · have e2 : mS m7 51 (48 * (m7 54 n + v) + m7 53 n + u) v5 51 j = v5 := by rw [show j = 48 * (m7 54 n + v) + m7 53 n + u by omega, mS_eq]
                      refine ⟨fun _ => by rw [e2]; exact h6, fun q => absurd ⟨?_, by omega⟩ q⟩
                      rw [show j % 48 = s_px w (6 + 10 * l) n + u by omega, show j / 48 = s_py w (6 + 10 * l) n + v by omega]
                      exact cc
                    · rw [mS_i _ _ _ _ (by omega)]
                      exact ⟨fun q => (gg j a c).1 ⟨q.1, by have := q.2; omega⟩, fun q => (gg j a c).2 (fun z => q ⟨z.1, by have := z.2; omega⟩)⟩
                · have cc : ¬ s_c w (6 + 10 * l) s n (s_px w (6 + 10 * l) n + u) (s_py w (6 + 10 * l) n + v) := fun q => h4 (by rw [h3]; exact (s_c_at w (6 + 10 * l) s n u v).mp q)
                  refine And.intro (fun _ => ?_) (fun h => absurd h (by decide))
                  refine And.intro (show -2147483648 ≤ v + 1 ∧ v + 1 ≤ 2147483647 by first | omega | (simp only [mS_iff, eq_self, Int.reduceEq, true_and, and_true, false_and, and_false, and_self, ↓reduceIte]; omega) | (simp only [mS_iff, eq_self, Int.reduceEq, true_and, and_true, false_and, and_false, and_self, ↓reduceIte] at *; omega)) ?_
                  refine ih177 _ ?_ _ _ (Eq.refl _) ?_ ?_ ?_
                  · omega
                  · first | omega | (simp only [mS_iff, eq_self, Int.reduceEq, true_and, and_true, false_and, and_false, and_self, ↓reduceIte]; omega) | (simp only [mS_iff, eq_self, Int.reduceEq, true_and, and_true, false_and, and_false, and_self, ↓reduceIte] at *; omega)
                  · exact f6
                  · intro j a c
                    by_cases e : j % 48 = s_px w (6 + 10 * l) n + u ∧ j / 48 = s_py w (6 + 10 * l) n + v
                    · have nc : ¬ s_c w (6 + 10 * l) s n (j % 48) (j / 48) := by rw [e.1, e.2]; exact cc
                      exact ⟨fun q => absurd q.1 nc, fun q => (gg j a c).2 (fun z => nc z.1)⟩
                    · exact ⟨fun q => (gg j a c).1 ⟨q.1, by have := q.2; omega⟩, fun q => (gg j a c).2 (fun z => q ⟨z.1, by have := z.2; omega⟩)⟩
          refine am_go 400 [143, 165, 177, 110, 89, 11, 25] (am_wpc_cm _ _ _) wf_242 ?_
          refine And.intro (fun h7 => ?_) (fun h7 => ?_)
          · refine And.intro (show -2147483648 ≤ n + 1 ∧ n + 1 ≤ 2147483647 by first | omega | (simp only [mS_iff, eq_self, Int.reduceEq, true_and, and_true, false_and, and_false, and_self, ↓reduceIte]; omega) | (simp only [mS_iff, eq_self, Int.reduceEq, true_and, and_true, false_and, and_false, and_self, ↓reduceIte] at *; omega)) ?_
            refine ih143 _ ?_ _ _ _ _ _ _ (Eq.refl _) ?_ ?_ ?_ ?_ ?_ ?_
            · omega
            · exact hq
            · omega
            · exact hz
            · exact ⟨fun r j x y => by rw [f6 r (by omega)]; exact f r j x y, by rw [f6 52 (by omega)]; exact dl.2.1, fun i hi => by rw [f6 52 (by omega)]; exact dl.2.2.1 i hi, fun i x y => by rw [f6 55 (by omega), f6 41 (by omega)]; exact dl.2.2.2.1 i x y, by rw [f6 41 (by omega)]; exact dl.2.2.2.2.1, by rw [f6 41 (by omega)]; exact dl.2.2.2.2.2⟩
            · intro i x y
              rw [f6 53 (by omega), f6 54 (by omega)]
              exact hpl i x y
            · intro j x y
              have g := s_gd_s (w := w) (b := 6 + 10 * l) (n := n) (c := s_ob w (6 + 10 * l) (m 51 j) (j % 48) (j / 48)) (x := j % 48) (y := j / 48) (by omega) (by omega) (by omega)
              by_cases e : s_c w (6 + 10 * l) s n (j % 48) (j / 48)
              · rw [(gg j x y).1 ⟨e, by have := s_c_box (by omega) e; omega⟩, g.1 (by rw [← hz]; exact e)]
              · rw [(gg j x y).2 (fun q => e q.1), g.2 (by rw [← hz]; exact e)]
          · refine And.intro (by first | omega | (simp only [mS_iff, eq_self, Int.reduceEq, true_and, and_true, false_and, and_false, and_self, ↓reduceIte]; omega) | (simp only [mS_iff, eq_self, Int.reduceEq, true_and, and_true, false_and, and_false, and_self, ↓reduceIte] at *; omega)) ?_
            refine K177 _ _ _ (Eq.refl _) ?_ ?_ ?_
            · first | omega | (simp only [mS_iff, eq_self, Int.reduceEq, true_and, and_true, false_and, and_false, and_self, ↓reduceIte]; omega) | (simp only [mS_iff, eq_self, Int.reduceEq, true_and, and_true, false_and, and_false, and_self, ↓reduceIte] at *; omega)
            · exact f6
            · exact fun j a c => ⟨fun q => (gg j a c).1 ⟨q.1, by have := s_c_box (by omega) q.1; have := q.2; omega⟩, fun q => (gg j a c).2 (fun z => q ⟨z.1, by have := s_c_box (by omega) z.1; have := z.2; omega⟩)⟩
      refine am_go 400 [143, 165, 177, 110, 89, 11, 25] (am_wpc_cm _ _ _) wf_242 ?_
      refine And.intro (rfl) ?_
      refine ct_188 (by omega) hA (by omega) (by omega) (fun v8 h9 => ?_)
      replace h9 : v8 = w (6 + 10 * l + 5) := h9
      refine And.intro (fun h10 => ?_) (fun h10 => ?_)
      · refine hQ _ (by rw [if_neg (by omega), ← hz]; exact dl) (fun j j0 j1 => ?_)
        rw [dd j j0 j1]
        unfold s_dl
        first
          | rw [show n = w (6 + 10 * l + 5) by omega]
          | rw [s_gd_n (fun q => by have := q.2.1; omega), s_gd_n (fun q => by have := q.2.1; omega)]
      · refine And.intro (fun h11 => ?_) (fun h11 => ?_)
        · refine hQ _ (by rw [if_neg (by omega), ← hz]; exact dl) (fun j j0 j1 => ?_)
          rw [dd j j0 j1]
          unfold s_dl
          first
            | rw [show n = w (6 + 10 * l + 5) by omega]
            | rw [s_gd_n (fun q => by have := q.2.1; omega), s_gd_n (fun q => by have := q.2.1; omega)]
        · refine And.intro (by first | omega | (simp only [mS_iff, eq_self, Int.reduceEq, true_and, and_true, false_and, and_false, and_self, ↓reduceIte]; omega) | (simp only [mS_iff, eq_self, Int.reduceEq, true_and, and_true, false_and, and_false, and_self, ↓reduceIte] at *; omega)) ?_
          refine K165 _ _ _ _ (Eq.refl _) ?_ ?_ ?_
          · first | omega | (simp only [mS_iff, eq_self, Int.reduceEq, true_and, and_true, false_and, and_false, and_self, ↓reduceIte]; omega) | (simp only [mS_iff, eq_self, Int.reduceEq, true_and, and_true, false_and, and_false, and_self, ↓reduceIte] at *; omega)
          · exact fun _ _ => rfl
          · intro j a c
            exact ⟨fun q => by have := s_c_box (by omega) q.1; have := q.2; omega, fun _ => dd j a c⟩
  have K110 : ∀ (N : Nat), ∀ (s : Int) (o : Int) (x5 : aV), ∀ (m4 : aM), (s + 1).toNat = N → (w (6 + 10 * l + 4) ≠ 0) → (-1 ≤ s ∧ s ≤ 20) → (s_top (s_fit w (6 + 10 * l)) 21 = s_top (s_fit w (6 + 10 * l)) (s + 1).toNat) → (mDL m m4 l (-1)) → (m4 41 27 = m 41 27 + (20 - s)) → (mPl m4 w (6 + 10 * l)) → (∀ j, 0 ≤ j → j < 2880 → m4 51 j = s_ob w (6 + 10 * l) (m 51 j) (j % 48) (j / 48)) → am_WP am_G (am_wpc am_G am_T d) [] cd_242 Q 110 [aR 41, aI a, aI l, aI o, aI s, x5, aU, aU] [] m4 := by
    intro N
    induction N using Nat.strongRecOn with
    | _ N ih110 =>
      intro s o x5 m4 hN hq s0 hz dl tr hpl dd
      have f := dl.1
      have tk := dl.2.2.2.1
      have sz1 : 0 ≤ s → s_fit w (6 + 10 * l) s → s_sz w (6 + 10 * l) = s := fun h0 fi => by unfold s_sz; rw [hz]; exact s_top_y h0 fi
      have sz0 : s = -1 → s_sz w (6 + 10 * l) = s := fun e => by unfold s_sz; rw [hz, e]; rfl
      have hA : mRow m4 a w := f.row hR
      have hg : okGrp w (6 + 10 * l) := by
        rcases hK.2.2.1 with q | q
        · exact q
        · unfold noGrp at q; omega
      have gb : 1 ≤ w (6 + 10 * l + 5) ∧ w (6 + 10 * l + 5) ≤ 12 ∧ 0 ≤ w (6 + 10 * l + 6) := ⟨hg.2.2.1, hg.2.2.2.1, hg.2.2.2.2.1⟩
      refine am_go 400 [143, 165, 177, 110, 89, 11, 25] (am_wpc_cm _ _ _) wf_242 ?_
      refine And.intro (fun h12 => ?_) (fun h12 => ?_)
      · refine And.intro (rfl) ?_
        refine And.intro (⟨rfl, by first | omega | (simp only [mS_iff, eq_self, Int.reduceEq, true_and, and_true, false_and, and_false, and_self, ↓reduceIte]; omega) | (simp only [mS_iff, eq_self, Int.reduceEq, true_and, and_true, false_and, and_false, and_self, ↓reduceIte] at *; omega)⟩) ?_
        refine K143 _ _ _ _ _ _ _ (Eq.refl _) ?_ ?_ ?_ ?_ ?_ ?_
        · exact hq
        · omega
        · first | exact (sz1 (by omega) fi).symm | exact (sz0 (by omega)).symm
        · exact ⟨f.S (by omega), mS_eq _ _ _ _, fun i hi => by rw [mS_i _ _ _ _ hi]; exact dl.2.2.1 i hi, fun i a c => tk i a c, dl.2.2.2.2.1, dl.2.2.2.2.2⟩
        · intro i a c
          show m4 53 i = _ ∧ m4 54 i = _
          exact hpl i a c
        · intro j a c
          rw [s_gd_0]
          show m4 51 j = _
          exact dd j a c
      · refine And.intro (rfl) ?_
        refine ct_248 (by omega) hA hl hg ho hpl tk (by omega) (by omega) (fun h14 mw13 h15 h16 h17 => ?_) (fun h14 mw13 h15 h16 h17 => ?_)
        · have fi := h14
          have f5 := h15
          have t5 := h16
          have k5 := h17
          refine And.intro (fun _ => ?_) (fun h => absurd h (by decide))
          refine And.intro (rfl) ?_
          refine And.intro (⟨rfl, by first | omega | (simp only [mS_iff, eq_self, Int.reduceEq, true_and, and_true, false_and, and_false, and_self, ↓reduceIte]; omega) | (simp only [mS_iff, eq_self, Int.reduceEq, true_and, and_true, false_and, and_false, and_self, ↓reduceIte] at *; omega)⟩) ?_
          refine K143 _ _ _ _ _ _ _ (Eq.refl _) ?_ ?_ ?_ ?_ ?_ ?_
          · exact hq
          · omega
          · first | exact (sz1 (by omega) fi).symm | exact (sz0 (by omega)).symm
          · exact ⟨f5.L |> (f.trans ·) |> fun q => q.S (by omega), mS_eq _ _ _ _, fun i hi => by rw [mS_i _ _ _ _ hi, f5.at (by omega) (by omega)]; exact dl.2.2.1 i hi, fun i a c => k5 i a c, by show m 41 27 ≤ mw13 41 27; omega, by show mw13 41 27 ≤ m 41 27 + 21; omega⟩
          · intro i a c
            show mw13 53 i = _ ∧ mw13 54 i = _
            rw [f5.at (by omega) (by omega), f5.at (by omega) (by omega)]
            exact hpl i a c
          · intro j a c
            rw [s_gd_0]
            show mw13 51 j = _
            rw [f5.at (by omega) (by omega)]
            exact dd j a c
        · have fi := h14
          have f5 := h15
          have t5 := h16
          have k5 := h17
          refine And.intro (fun h => absurd h (by decide)) (fun _ => ?_)
          refine And.intro (show -2147483648 ≤ s + (-1) ∧ s + (-1) ≤ 2147483647 by first | omega | (simp only [mS_iff, eq_self, Int.reduceEq, true_and, and_true, false_and, and_false, and_self, ↓reduceIte]; omega) | (simp only [mS_iff, eq_self, Int.reduceEq, true_and, and_true, false_and, and_false, and_self, ↓reduceIte] at *; omega)) ?_
          refine ih110 _ ?_ _ _ _ _ (Eq.refl _) ?_ ?_ ?_ ?_ ?_ ?_ ?_
          · omega
          · exact hq
          · omega
          · rw [hz, s_top_n (by omega) fi, show s + -1 + 1 = s by omega]
          · exact ⟨f.trans f5.L, by rw [f5.at (by omega) (by omega)]; exact dl.2.1, fun i hi => by rw [f5.at (by omega) (by omega)]; exact dl.2.2.1 i hi, k5, by omega, by omega⟩
          · omega
          · intro i a c
            rw [f5.at (by omega) (by omega), f5.at (by omega) (by omega)]
            exact hpl i a c
          · intro j a c
            rw [f5.at (by omega) (by omega)]
            exact dd j a c
  have K89 : ∀ (o : Int) (x4 : aV) (x5 : aV), ∀ (m3 : aM), (mDL m m3 l (-1)) → (m3 41 27 = m 41 27) → (∀ j, 0 ≤ j → j < 2880 → m3 51 j = s_ob w (6 + 10 * l) (m 51 j) (j % 48) (j / 48)) → am_WP am_G (am_wpc am_G am_T d) [] cd_242 Q 89 [aR 41, aI a, aI l, aI o, x4, x5, aU, aU] [] m3 := by
    intro o x4 x5 m3 dl tr dd
    have f := dl.1
    have hA : mRow m3 a w := f.row hR
    refine am_go 400 [143, 165, 177, 110, 89, 11, 25] (am_wpc_cm _ _ _) wf_242 ?_
    refine And.intro (rfl) ?_
    refine ct_188 (by omega) hA (by omega) (by omega) (fun v18 h19 => ?_)
    replace h19 : v18 = w (6 + 10 * l + 4) := h19
    refine And.intro (fun h20 => ?_) (fun h20 => ?_)
    · have hg : okGrp w (6 + 10 * l) := by
        rcases hK.2.2.1 with q | q
        · exact q
        · unfold noGrp at q; omega
      have gb : 1 ≤ w (6 + 10 * l + 5) ∧ w (6 + 10 * l + 5) ≤ 12 ∧ 0 ≤ w (6 + 10 * l + 6) := ⟨hg.2.2.1, hg.2.2.2.1, hg.2.2.2.2.1⟩
      refine And.intro (rfl) ?_
      refine ct_245 (by omega) hA hl hg (fun e => ho (by omega)) (fun mw21 h22 h23 => ?_)
      have f2 := h22
      have hpl : mPl mw21 w (6 + 10 * l) := h23
      refine K110 _ _ _ _ _ (Eq.refl _) ?_ ?_ ?_ ?_ ?_ ?_ ?_
      · omega
      · omega
      · exact rfl
      · exact ⟨f.trans f2.mL, by rw [f2 52 (by omega) (by omega)]; exact dl.2.1, fun i hi => by rw [f2 52 (by omega) (by omega)]; exact dl.2.2.1 i hi, fun i a c => by rw [f2 55 (by omega) (by omega), f2 41 (by omega) (by omega)]; exact dl.2.2.2.1 i a c, by rw [f2 41 (by omega) (by omega)]; exact dl.2.2.2.2.1, by rw [f2 41 (by omega) (by omega)]; exact dl.2.2.2.2.2⟩
      · rw [f2 41 (by omega) (by omega), tr]; omega
      · exact hpl
      · intro j a c
        rw [f2 51 (by omega) (by omega)]
        exact dd j a c
    · refine hQ _ (by rw [if_pos (by omega)]; exact dl) (fun j j0 j1 => ?_)
      rw [dd j j0 j1]
      unfold s_dl
      rw [s_gd_n (fun q => by have := q.1; omega)]
  have K11 : ∀ (N : Nat), ∀ (o : Int) (y : Int) (x5 : aV), ∀ (m2 : aM), (60 - y).toNat = N → (o = w (6 + 10 * l + 1) ∧ 0 ≤ y ∧ y ≤ 60 ∧ (o < 0 → y = 0)) → (∀ r j, r ≠ 51 → m2 r j = m r j) → (∀ j, 0 ≤ j → j < 2880 → ((j / 48 < y) → m2 51 j = s_ob w (6 + 10 * l) (m 51 j) (j % 48) (j / 48)) ∧ (¬ (j / 48 < y) → m2 51 j = m 51 j)) → am_WP am_G (am_wpc am_G am_T d) [] cd_242 Q 11 [aR 41, aI a, aI l, aI o, aI y, x5, aU, aU] [] m2 := by
    intro N
    induction N using Nat.strongRecOn with
    | _ N ih11 =>
      intro o y x5 m2 hN o0 f51 dd
      have fr : fr_mL m m2 := fun r j p _ => f51 r j (by omega)
      have hA : mRow m2 a w := fr.row hR
      have K25 : ∀ (N : Nat), ∀ (x : Int), ∀ (m4 : aM), (48 - x).toNat = N → (0 ≤ x ∧ x ≤ 48 ∧ 0 ≤ o ∧ y < 60) → (∀ r j, r ≠ 51 → m4 r j = m r j) → (∀ j, 0 ≤ j → j < 2880 → ((j / 48 < y ∨ (j / 48 = y ∧ j % 48 < x)) → m4 51 j = s_ob w (6 + 10 * l) (m 51 j) (j % 48) (j / 48)) ∧ (¬ (j / 48 < y ∨ (j / 48 = y ∧ j % 48 < x)) → m4 51 j = m 51 j)) → am_WP am_G (am_wpc am_G am_T d) [] cd_242 Q 25 [aR 41, aI a, aI l, aI o, aI y, aI x, aU, aU] [] m4 := by
        intro N
        induction N using Nat.strongRecOn with
        | _ N ih25 =>
          intro x m4 hN xx f51 dd
          have fr : fr_mL m m4 := fun r j p _ => f51 r j (by omega)
          have hA : mRow m4 a w := fr.row hR
          refine am_go 400 [143, 165, 177, 110, 89, 11, 25] (am_wpc_cm _ _ _) wf_242 ?_
          refine And.intro (fun h24 => ?_) (fun h24 => ?_)
          · refine And.intro (show -2147483648 ≤ y + 1 ∧ y + 1 ≤ 2147483647 by first | omega | (simp only [mS_iff, eq_self, Int.reduceEq, true_and, and_true, false_and, and_false, and_self, ↓reduceIte]; omega) | (simp only [mS_iff, eq_self, Int.reduceEq, true_and, and_true, false_and, and_false, and_self, ↓reduceIte] at *; omega)) ?_
            refine ih11 _ ?_ _ _ _ _ (Eq.refl _) ?_ ?_ ?_
            · omega
            · omega
            · exact f51
            · exact fun j a c => ⟨fun q => (dd j a c).1 (by omega), fun q => (dd j a c).2 (by omega)⟩
          · refine And.intro (rfl) ?_
            refine ct_188 (by omega) hA (by omega) (by omega) (fun v25 h26 => ?_)
            replace h26 : v25 = w (6 + 10 * l + 2) := h26
            refine ct_243 (by omega) (fun h27 => ?_) (fun h27 => ?_)
            · rw [o0.1, h26] at h27
              have od : s_od w (6 + 10 * l) x y := ⟨by omega, h27.1, h27.2⟩
              refine And.intro (fun h => absurd h (by decide)) (fun _ => ?_)
              refine And.intro (rfl) ?_
              refine And.intro (show -2147483648 ≤ 48 * y ∧ 48 * y ≤ 2147483647 by first | omega | (simp only [mS_iff, eq_self, Int.reduceEq, true_and, and_true, false_and, and_false, and_self, ↓reduceIte]; omega) | (simp only [mS_iff, eq_self, Int.reduceEq, true_and, and_true, false_and, and_false, and_self, ↓reduceIte] at *; omega)) ?_
              refine And.intro (show -2147483648 ≤ (48 * y) + x ∧ (48 * y) + x ≤ 2147483647 by first | omega | (simp only [mS_iff, eq_self, Int.reduceEq, true_and, and_true, false_and, and_false, and_self, ↓reduceIte]; omega) | (simp only [mS_iff, eq_self, Int.reduceEq, true_and, and_true, false_and, and_false, and_self, ↓reduceIte] at *; omega)) ?_
              refine And.intro (rfl) ?_
              refine ct_188 (by omega) hA (by omega) (by omega) (fun v28 h29 => ?_)
              replace h29 : v28 = w (6 + 10 * l + 3) := h29
              refine And.intro (⟨rfl, by first | omega | (simp only [mS_iff, eq_self, Int.reduceEq, true_and, and_true, false_and, and_false, and_self, ↓reduceIte]; omega) | (simp only [mS_iff, eq_self, Int.reduceEq, true_and, and_true, false_and, and_false, and_self, ↓reduceIte] at *; omega)⟩) ?_
              refine And.intro (show -2147483648 ≤ x + 1 ∧ x + 1 ≤ 2147483647 by first | omega | (simp only [mS_iff, eq_self, Int.reduceEq, true_and, and_true, false_and, and_false, and_self, ↓reduceIte]; omega) | (simp only [mS_iff, eq_self, Int.reduceEq, true_and, and_true, false_and, and_false, and_self, ↓reduceIte] at *; omega)) ?_
              refine ih25 _ ?_ _ _ (Eq.refl _) ?_ ?_ ?_
              · omega
              · first | omega | (simp only [mS_iff, eq_self, Int.reduceEq, true_and, and_true, false_and, and_false, and_self, ↓reduceIte]; omega) | (simp only [mS_iff, eq_self, Int.reduceEq, true_and, and_true, false_and, and_false, and_self, ↓reduceIte] at *; omega)
              · intro r j hr
                rw [mS_a _ _ _ _ hr]
                exact f51 r j hr
              · intro j a c
                by_cases e : j = 48 * y + x
                · rw [e, mS_eq]
                  refine ⟨fun _ => ?_, fun q => absurd (by omega) q⟩
                  rw [show (48 * y + x) % 48 = x by omega, show (48 * y + x) / 48 = y by omega, s_ob_y od]
                  exact h29
                · rw [mS_i _ _ _ _ e]
                  exact ⟨fun q => (dd j a c).1 (by omega), fun q => (dd j a c).2 (by omega)⟩
            · rw [o0.1, h26] at h27
              have od : ¬ s_od w (6 + 10 * l) x y := fun q => h27 ⟨q.2.1, q.2.2⟩
              refine And.intro (fun _ => ?_) (fun h => absurd h (by decide))
              refine And.intro (show -2147483648 ≤ x + 1 ∧ x + 1 ≤ 2147483647 by first | omega | (simp only [mS_iff, eq_self, Int.reduceEq, true_and, and_true, false_and, and_false, and_self, ↓reduceIte]; omega) | (simp only [mS_iff, eq_self, Int.reduceEq, true_and, and_true, false_and, and_false, and_self, ↓reduceIte] at *; omega)) ?_
              refine ih25 _ ?_ _ _ (Eq.refl _) ?_ ?_ ?_
              · omega
              · first | omega | (simp only [mS_iff, eq_self, Int.reduceEq, true_and, and_true, false_and, and_false, and_self, ↓reduceIte]; omega) | (simp only [mS_iff, eq_self, Int.reduceEq, true_and, and_true, false_and, and_false, and_self, ↓reduceIte] at *; omega)
              · exact f51
              · intro j a c
                by_cases e : j = 48 * y + x
                · refine ⟨fun _ => ?_, fun q => absurd (by omega) q⟩
                  rw [(dd j a c).2 (by omega), e, show (48 * y + x) % 48 = x by omega, show (48 * y + x) / 48 = y by omega, s_ob_n od]
                · exact ⟨fun q => (dd j a c).1 (by omega), fun q => (dd j a c).2 (by omega)⟩
      refine am_go 400 [143, 165, 177, 110, 89, 11, 25] (am_wpc_cm _ _ _) wf_242 ?_
      refine And.intro (fun h30 => ?_) (fun h30 => ?_)
      · refine And.intro (rfl) ?_
        refine And.intro (⟨rfl, by first | omega | (simp only [mS_iff, eq_self, Int.reduceEq, true_and, and_true, false_and, and_false, and_self, ↓reduceIte]; omega) | (simp only [mS_iff, eq_self, Int.reduceEq, true_and, and_true, false_and, and_false, and_self, ↓reduceIte] at *; omega)⟩) ?_
        refine K89 _ _ _ _ ?_ ?_ ?_
        · exact ⟨fr.S (by omega), mS_eq _ _ _ _, fun i hi => by rw [mS_i _ _ _ _ hi]; exact f51 52 i (by omega), fun i a c => by show m2 55 i ≤ m2 41 27; rw [f51 55 i (by omega), f51 41 27 (by omega)]; exact htk i a c, by show m 41 27 ≤ m2 41 27; rw [f51 41 27 (by omega)]; omega, by show m2 41 27 ≤ m 41 27 + 21; rw [f51 41 27 (by omega)]; omega⟩
        · show m2 41 27 = _; exact f51 41 27 (by omega)
        · intro j a c
          show m2 51 j = _
          by_cases e : w (6 + 10 * l + 1) < 0
          · rw [s_ob_n (fun q => by have := q.1; omega)]; exact (dd j a c).2 (by omega)
          · exact (dd j a c).1 (by omega)
      · refine And.intro (fun h31 => ?_) (fun h31 => ?_)
        · refine And.intro (rfl) ?_
          refine And.intro (⟨rfl, by first | omega | (simp only [mS_iff, eq_self, Int.reduceEq, true_and, and_true, false_and, and_false, and_self, ↓reduceIte]; omega) | (simp only [mS_iff, eq_self, Int.reduceEq, true_and, and_true, false_and, and_false, and_self, ↓reduceIte] at *; omega)⟩) ?_
          refine K89 _ _ _ _ ?_ ?_ ?_
          · exact ⟨fr.S (by omega), mS_eq _ _ _ _, fun i hi => by rw [mS_i _ _ _ _ hi]; exact f51 52 i (by omega), fun i a c => by show m2 55 i ≤ m2 41 27; rw [f51 55 i (by omega), f51 41 27 (by omega)]; exact htk i a c, by show m 41 27 ≤ m2 41 27; rw [f51 41 27 (by omega)]; omega, by show m2 41 27 ≤ m 41 27 + 21; rw [f51 41 27 (by omega)]; omega⟩
          · show m2 41 27 = _; exact f51 41 27 (by omega)
          · intro j a c
            show m2 51 j = _
            by_cases e : w (6 + 10 * l + 1) < 0
            · rw [s_ob_n (fun q => by have := q.1; omega)]; exact (dd j a c).2 (by omega)
            · exact (dd j a c).1 (by omega)
        · refine K25 _ _ _ (Eq.refl _) ?_ ?_ ?_
          · first | omega | (simp only [mS_iff, eq_self, Int.reduceEq, true_and, and_true, false_and, and_false, and_self, ↓reduceIte]; omega) | (simp only [mS_iff, eq_self, Int.reduceEq, true_and, and_true, false_and, and_false, and_self, ↓reduceIte] at *; omega)
          · exact f51
          · exact fun j a c => ⟨fun q => (dd j a c).1 (by omega), fun q => (dd j a c).2 (by omega)⟩
  refine am_go 400 [143, 165, 177, 110, 89, 11, 25] (am_wpc_cm _ _ _) wf_242 ?_
  have hA := hR
  refine And.intro (rfl) ?_
  refine ct_188 (by omega) hA (by omega) (by omega) (fun v32 h33 => ?_)
  replace h33 : v32 = w (6 + 10 * l + 1) := h33
  refine K11 _ _ _ _ _ (Eq.refl _) ?_ ?_ ?_
  · omega
  · exact fun _ _ _ => rfl
  · intro j a c
    exact ⟨fun q => by omega, fun _ => rfl⟩
