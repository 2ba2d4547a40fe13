/-! needs: d03 -/
/-! CALLS of the family: tally, show, find, reference; by tools/gend4.py -/
set_option maxRecDepth 100000
set_option maxHeartbeats 8000000
theorem fr_B.R {m m' : aM} (h : fr_B 3300 3366 m m') : mFr m m' := mFr.of (fun r j => r ≠ 42 ∨ j < 3300 ∨ 3366 ≤ j) (fun x j p => h x j p) (fun x j a => by omega) (fun x j a b c => by unfold mKpt at c; omega)
theorem mFam.fr {m m' : aM} (h : mFam m) (f : mFr m m') : mFam m' := h.keep (f.2 41 66 (by omega) (by omega) (by unfold mKpt; omega)) (funext fun j => f.2 75 j (by omega) (by omega) (by unfold mKpt; omega)) (funext fun j => f.2 76 j (by omega) (by omega) (by unfold mKpt; omega))
/-- the reference while clauses are asked of made arms -/
def mLv (S : aM) (F : Int → aD) (m w : aM) : Prop := mI S F w ∧ mFam w ∧ w 41 27 = m 41 27 ∧ (∀ x j, x < 41 ∨ 76 < x → w x j = m x j)
theorem mLv.fr {S : aM} {F : Int → aD} {m w w' : aM} (h : mLv S F m w) (f : mFr w w') : mLv S F m w' := ⟨h.1.fr f, h.2.1.fr f, by rw [f.2 41 27 (by omega) (by omega) (by unfold mKpt; omega)]; exact h.2.2.1, fun x j u => by rw [f.1 x j u]; exact h.2.2.2 x j u⟩
theorem mLv.Z {S S' : aM} {F : Int → aD} {m w : aM} {k : Int} (h : mLv S' F m w) (z : mZ (k + 1) S F m) : mZ k S' F w := by
  obtain ⟨h1, h2, h3, h4⟩ := h
  obtain ⟨z0, z1, z2⟩ := z
  exact ⟨h1, by omega, by omega⟩
theorem mLv.rf {S : aM} {F : Int → aD} {m : aM} (h : mI S F m) (g : mFam m) : mLv S F m m := ⟨h, g, rfl, fun _ _ _ => rfl⟩
theorem mLv.le {S : aM} {F : Int → aD} {m w : aM} {v : Int} (h : mLv S F m w) : mLv (mS S 0 9 v) F m (mS w 41 67 v) := by
  obtain ⟨h1, h2, h3, h4⟩ := h
  exact ⟨h1.le, h2.keep (by rw [mS_iff, if_neg (by omega)]) (funext fun j => mS_a _ _ _ _ (by omega)) (funext fun j => mS_a _ _ _ _ (by omega)), by rw [mS_iff, if_neg (by omega)]; exact h3, fun x j u => by rw [mS_a _ _ _ _ (by omega)]; exact h4 x j u⟩
theorem fr_K.row {m m' : aM} {a : Int} {w : Int → Int} (f : fr_K m m') (h : mRow m a w) : mRow m' a w := ⟨h.1, h.2.1, fun k a b => by rw [f 42 _ (by omega)]; exact h.2.2 k a b⟩
theorem ms_315 {d : Nat} {m : aM} {Q : aO → aM → Prop} {S : aM} {F : Int → aD} {k c a n : Int} (hd : 120 ≤ d) (hk : 0 ≤ k) (hz0 : mZ (k + 1) S F m) (hF : mFam m) (si : sI S F) (hQ : ∀ m', mZ k S F m' → mFam m' → (∀ x j, x < 41 ∨ 76 < x → m' x j = m x j) → Q (.inl (some (aI (c_tal S F c a n)))) m') : am_wpc am_G am_T d 315 [aR 41, aI c, aI a, aI n] m Q := by
  have h := hz0.1
  have hC := h.2.2.2.2.1
  have c46 := hC.2.1
  have c20 := hC.1
  have fb := fN_b
  have c66 := hF.1
  obtain ⟨dk, hdk⟩ : ∃ k, d = k + 1 := ⟨d - 1, by omega⟩
  refine am_in (k := dk) rfl (by omega) (fun d hd => ?_)
  have K39 : ∀ (Nm : Nat), ∀ (t : Int) (r : Int), ∀ (mw : aM), (fN - r).toNat = Nm → ((0 ≤ c ∧ c < S 0 6) ∧ (0 ≤ a ∧ a < fN) ∧ (1 ≤ n ∧ n ≤ 8) ∧ (a ≤ r ∧ r ≤ a + n ∧ r ≤ fN)) → (0 ≤ t ∧ t ≤ r - a) → (t = s_sum (t_f F c a) (r - a).toNat) → (mLv S F m mw) → am_WP am_G (am_wpc am_G am_T d) [] cd_315 Q 39 [aR 41, aI c, aI a, aI n, aI t, aI r] [] mw := by
    intro Nm
    induction Nm using Nat.strongRecOn with
    | _ Nm ih39 =>
      intro t r mw hN hb tb ht lv
      have w66 := lv.2.1.1
      refine am_go 400 [39] (am_wpc_cm _ _ _) wf_315 ?_
      refine And.intro (show -2147483648 ≤ a + n ∧ a + n ≤ 2147483647 by first | omega | (simp only [mS_iff, eq_self, Int.reduceEq, true_and, and_true, false_and, and_false, and_self, ↓reduceIte]; omega) | (simp only [mS_iff, eq_self, Int.reduceEq, true_and, and_true, false_and, and_false, and_self, ↓reduceIte] at *; omega)) ?_
      refine And.intro (fun h1 => ?_) (fun h1 => ?_)
      · have ev0 : c_tal S F c a n = t := by
          unfold c_tal t_n
          rw [if_pos (by omega), if_pos (by omega), ht]
          by_cases qq : a + n ≤ fN
          · rw [if_pos qq, show r - a = n by omega]
          · rw [if_neg qq, show r - a = fN - a by omega]
        rw [ev0] at hQ
        exact hQ mw (lv.Z hz0) lv.2.1 lv.2.2.2
      · refine And.intro (rfl) ?_
        refine And.intro (fun h2 => ?_) (fun h2 => ?_)
        · have ev0 : c_tal S F c a n = t := by
            unfold c_tal t_n
            rw [if_pos (by omega), if_pos (by omega), ht]
            by_cases qq : a + n ≤ fN
            · rw [if_pos qq, show r - a = n by omega]
            · rw [if_neg qq, show r - a = fN - a by omega]
          rw [ev0] at hQ
          exact hQ mw (lv.Z hz0) lv.2.1 lv.2.2.2
        · have e75 := lv.2.1.2.1 r (by omega) (by omega)
          have gp := fG_p (r := r) (by omega) (by omega)
          refine And.intro (rfl) ?_
          refine And.intro (⟨rfl, by omega⟩) ?_
          refine And.intro (rfl) ?_
          refine ct_181 (by omega) (by omega) (fun m1 fb1 ra => ?_)
          have lv1 := lv.fr fb1.R
          rw [e75] at ra
          refine And.intro (rfl) ?_
          refine ct_314 (by omega) lv1.1 (by omega) ra (fw_ok (by omega)) si (fun ty m2 fk => ?_) (fun ty m2 fk => ?_)
          · have lv2 := lv1.fr fk.R
            refine And.intro (fun h => absurd h (by decide)) (fun _ => ?_)
            refine And.intro (show -2147483648 ≤ t + 1 ∧ t + 1 ≤ 2147483647 by first | omega | (simp only [mS_iff, eq_self, Int.reduceEq, true_and, and_true, false_and, and_false, and_self, ↓reduceIte]; omega) | (simp only [mS_iff, eq_self, Int.reduceEq, true_and, and_true, false_and, and_false, and_self, ↓reduceIte] at *; omega)) ?_
            refine And.intro (show -2147483648 ≤ r + 1 ∧ r + 1 ≤ 2147483647 by first | omega | (simp only [mS_iff, eq_self, Int.reduceEq, true_and, and_true, false_and, and_false, and_self, ↓reduceIte]; omega) | (simp only [mS_iff, eq_self, Int.reduceEq, true_and, and_true, false_and, and_false, and_self, ↓reduceIte] at *; omega)) ?_
            refine ih39 _ ?_ _ _ _ (Eq.refl _) ?_ ?_ ?_ ?_
            · omega
            · omega
            · omega
            · rw [show r + 1 - a = (r - a) + 1 by omega, s_sum_i (by omega), ← ht]; unfold t_f; rw [show a + (r - a) = r by omega]; first | (rw [if_pos ty]; done) | (rw [if_neg ty]; done)
            · exact lv2
          · have lv2 := lv1.fr fk.R
            refine And.intro (fun _ => ?_) (fun h => absurd h (by decide))
            refine And.intro (show -2147483648 ≤ t + 0 ∧ t + 0 ≤ 2147483647 by first | omega | (simp only [mS_iff, eq_self, Int.reduceEq, true_and, and_true, false_and, and_false, and_self, ↓reduceIte]; omega) | (simp only [mS_iff, eq_self, Int.reduceEq, true_and, and_true, false_and, and_false, and_self, ↓reduceIte] at *; omega)) ?_
            refine And.intro (show -2147483648 ≤ r + 1 ∧ r + 1 ≤ 2147483647 by first | omega | (simp only [mS_iff, eq_self, Int.reduceEq, true_and, and_true, false_and, and_false, and_self, ↓reduceIte]; omega) | (simp only [mS_iff, eq_self, Int.reduceEq, true_and, and_true, false_and, and_false, and_self, ↓reduceIte] at *; omega)) ?_
            refine ih39 _ ?_ _ _ _ (Eq.refl _) ?_ ?_ ?_ ?_
            · omega
            · omega
            · omega
            · rw [show r + 1 - a = (r - a) + 1 by omega, s_sum_i (by omega), ← ht]; unfold t_f; rw [show a + (r - a) = r by omega]; first | (rw [if_pos ty]; done) | (rw [if_neg ty]; done)
            · exact lv2
  refine am_go 400 [39] (am_wpc_cm _ _ _) wf_315 ?_
  refine And.intro (rfl) ?_
  refine am_in (k := 0) rfl (by omega) (fun d hd => ?_)
  refine am_go 400 [] (am_wpc_cm _ _ _) wf_312 ?_
  refine And.intro (fun h3 => ?_) (fun h3 => ?_)
  · refine And.intro (by first | omega | (simp only [mS_iff, eq_self, Int.reduceEq, true_and, and_true, false_and, and_false, and_self, ↓reduceIte]; omega) | (simp only [mS_iff, eq_self, Int.reduceEq, true_and, and_true, false_and, and_false, and_self, ↓reduceIte] at *; omega)) ?_
    refine And.intro (fun h => absurd h (by decide)) (fun _ => ?_)
    have ev0 : c_tal S F c a n = (-2) := by
      unfold c_tal
      rw [if_neg (by omega)]
    rw [ev0] at hQ
    exact hQ m (hz0.fr (mFr.rfl m)) hF (fun _ _ _ => rfl)
  · refine And.intro (rfl) ?_
    refine And.intro (fun h4 => ?_) (fun h4 => ?_)
    · refine And.intro (by first | omega | (simp only [mS_iff, eq_self, Int.reduceEq, true_and, and_true, false_and, and_false, and_self, ↓reduceIte]; omega) | (simp only [mS_iff, eq_self, Int.reduceEq, true_and, and_true, false_and, and_false, and_self, ↓reduceIte] at *; omega)) ?_
      refine And.intro (fun h => absurd h (by decide)) (fun _ => ?_)
      have ev0 : c_tal S F c a n = (-2) := by
        unfold c_tal
        rw [if_neg (by omega)]
      rw [ev0] at hQ
      exact hQ m (hz0.fr (mFr.rfl m)) hF (fun _ _ _ => rfl)
    · refine And.intro (by first | omega | (simp only [mS_iff, eq_self, Int.reduceEq, true_and, and_true, false_and, and_false, and_self, ↓reduceIte]; omega) | (simp only [mS_iff, eq_self, Int.reduceEq, true_and, and_true, false_and, and_false, and_self, ↓reduceIte] at *; omega)) ?_
      refine And.intro (fun _ => ?_) (fun h => absurd h (by decide))
      refine And.intro (fun h5 => ?_) (fun h5 => ?_)
      · have ev0 : c_tal S F c a n = (-3) := by
          unfold c_tal
          rw [if_pos (by omega), if_neg (by omega)]
        rw [ev0] at hQ
        exact hQ m (hz0.fr (mFr.rfl m)) hF (fun _ _ _ => rfl)
      · refine And.intro (rfl) ?_
        refine And.intro (fun h6 => ?_) (fun h6 => ?_)
        · have ev0 : c_tal S F c a n = (-3) := by
            unfold c_tal
            rw [if_pos (by omega), if_neg (by omega)]
          rw [ev0] at hQ
          exact hQ m (hz0.fr (mFr.rfl m)) hF (fun _ _ _ => rfl)
        · refine am_in (k := 0) rfl (by omega) (fun d hd => ?_)
          refine am_go 400 [] (am_wpc_cm _ _ _) wf_313 ?_
          refine And.intro (fun h7 => ?_) (fun h7 => ?_)
          · refine And.intro (by first | omega | (simp only [mS_iff, eq_self, Int.reduceEq, true_and, and_true, false_and, and_false, and_self, ↓reduceIte]; omega) | (simp only [mS_iff, eq_self, Int.reduceEq, true_and, and_true, false_and, and_false, and_self, ↓reduceIte] at *; omega)) ?_
            refine And.intro (fun h => absurd h (by decide)) (fun _ => ?_)
            have ev0 : c_tal S F c a n = (-3) := by
              unfold c_tal
              rw [if_pos (by omega), if_neg (by omega)]
            rw [ev0] at hQ
            exact hQ m (hz0.fr (mFr.rfl m)) hF (fun _ _ _ => rfl)
          · refine And.intro (fun h8 => ?_) (fun h8 => ?_)
            · refine And.intro (by first | omega | (simp only [mS_iff, eq_self, Int.reduceEq, true_and, and_true, false_and, and_false, and_self, ↓reduceIte]; omega) | (simp only [mS_iff, eq_self, Int.reduceEq, true_and, and_true, false_and, and_false, and_self, ↓reduceIte] at *; omega)) ?_
              refine And.intro (fun h => absurd h (by decide)) (fun _ => ?_)
              have ev0 : c_tal S F c a n = (-3) := by
                unfold c_tal
                rw [if_pos (by omega), if_neg (by omega)]
              rw [ev0] at hQ
              exact hQ m (hz0.fr (mFr.rfl m)) hF (fun _ _ _ => rfl)
            · refine And.intro (by first | omega | (simp only [mS_iff, eq_self, Int.reduceEq, true_and, and_true, false_and, and_false, and_self, ↓reduceIte]; omega) | (simp only [mS_iff, eq_self, Int.reduceEq, true_and, and_true, false_and, and_false, and_self, ↓reduceIte] at *; omega)) ?_
              refine And.intro (fun _ => ?_) (fun h => absurd h (by decide))
              refine K39 _ _ _ _ (Eq.refl _) ?_ ?_ ?_ ?_
              · omega
              · omega
              · rw [show (a - a).toNat = 0 by omega]; rfl
              · exact mLv.rf h hF
theorem ms_316 {d : Nat} {m : aM} {Q : aO → aM → Prop} {S : aM} {F : Int → aD} {k c a n : Int} (hd : 120 ≤ d) (hk : 0 ≤ k) (hz0 : mZ (k + 1) S F m) (hF : mFam m) (si : sI S F) (hQ : ∀ m', mZ k (c_shw S F c a n).2 F m' → mFam m' → (∀ x j, x < 41 ∨ 76 < x → m' x j = m x j) → Q (.inl (some (aI (c_shw S F c a n).1))) m') : am_wpc am_G am_T d 316 [aR 41, aI c, aI a, aI n] m Q := by
  have h := hz0.1
  have hC := h.2.2.2.2.1
  have c46 := hC.2.1
  have c20 := hC.1
  have fb := fN_b
  have c66 := hF.1
  have s6 : mS S 0 9 (-1) 0 6 = S 0 6 := by rw [mS_iff, if_neg (by omega)]
  obtain ⟨dk, hdk⟩ : ∃ k, d = k + 1 := ⟨d - 1, by omega⟩
  refine am_in (k := dk) rfl (by omega) (fun d hd => ?_)
  have K41 : ∀ (Nm : Nat), ∀ (r : Int), ∀ (mw : aM), (fN - r).toNat = Nm → ((0 ≤ c ∧ c < S 0 6) ∧ (0 ≤ a ∧ a < fN) ∧ (1 ≤ n ∧ n ≤ 8) ∧ (a ≤ r ∧ r ≤ a + n ∧ r ≤ fN)) → (∀ x, 0 ≤ x → x < r → ¬ t_P F c a n x) → (mLv (mS S 0 9 (-1)) F m mw) → am_WP am_G (am_wpc am_G am_T d) [] cd_316 Q 41 [aR 41, aI c, aI a, aI n, aI r] [] mw := by
    intro Nm
    induction Nm using Nat.strongRecOn with
    | _ Nm ih41 =>
      intro r mw hN hb np lv
      have w66 := lv.2.1.1
      refine am_go 400 [41] (am_wpc_cm _ _ _) wf_316 ?_
      refine And.intro (show -2147483648 ≤ a + n ∧ a + n ≤ 2147483647 by first | omega | (simp only [mS_iff, eq_self, Int.reduceEq, true_and, and_true, false_and, and_false, and_self, ↓reduceIte]; omega) | (simp only [mS_iff, eq_self, Int.reduceEq, true_and, and_true, false_and, and_false, and_self, ↓reduceIte] at *; omega)) ?_
      refine And.intro (fun h1 => ?_) (fun h1 => ?_)
      · have ef : s_fst (t_P F c a n) fN = -1 := s_fst_n (fun x x0 x1 p => np x x0 (by have := p.1; omega) p)
        have ev0 : c_shw S F c a n = (1, mS S 0 9 (-1)) := by
          unfold c_shw
          rw [if_pos (by omega), if_pos (by omega), ef]
          rfl
        rw [ev0] at hQ
        exact hQ mw (lv.Z hz0) lv.2.1 lv.2.2.2
      · refine And.intro (rfl) ?_
        refine And.intro (fun h2 => ?_) (fun h2 => ?_)
        · have ef : s_fst (t_P F c a n) fN = -1 := s_fst_n (fun x x0 x1 p => np x x0 (by have := p.1; omega) p)
          have ev0 : c_shw S F c a n = (1, mS S 0 9 (-1)) := by
            unfold c_shw
            rw [if_pos (by omega), if_pos (by omega), ef]
            rfl
          rw [ev0] at hQ
          exact hQ mw (lv.Z hz0) lv.2.1 lv.2.2.2
        · have e75 := lv.2.1.2.1 r (by omega) (by omega)
          have gp := fG_p (r := r) (by omega) (by omega)
          refine And.intro (rfl) ?_
          refine And.intro (⟨rfl, by omega⟩) ?_
          refine And.intro (rfl) ?_
          refine ct_181 (by omega) (by omega) (fun m1 fb1 ra => ?_)
          have lv1 := lv.fr fb1.R
          rw [e75] at ra
          refine And.intro (rfl) ?_
          refine ct_314 (by omega) lv1.1 (by omega) ra (fw_ok (by omega)) si.le (fun ty m2 fk => ?_) (fun ty m2 fk => ?_)
          · have lv2 := lv1.fr fk.R
            refine And.intro (fun _ => ?_) (fun h => absurd h (by decide))
            refine And.intro (show -2147483648 ≤ r + 1 ∧ r + 1 ≤ 2147483647 by first | omega | (simp only [mS_iff, eq_self, Int.reduceEq, true_and, and_true, false_and, and_false, and_self, ↓reduceIte]; omega) | (simp only [mS_iff, eq_self, Int.reduceEq, true_and, and_true, false_and, and_false, and_self, ↓reduceIte] at *; omega)) ?_
            refine ih41 _ ?_ _ _ (Eq.refl _) ?_ ?_ ?_
            · omega
            · omega
            · intro x x0 x1 p
              by_cases q : x = r
              · rw [q] at p; exact p.2 ty
              · exact np x x0 (by omega) p
            · exact lv2
          · have lv2 := lv1.fr fk.R
            refine And.intro (fun h => absurd h (by decide)) (fun _ => ?_)
            refine And.intro (rfl) ?_
            have ef : s_fst (t_P F c a n) fN = r := s_fst_i (by omega) ⟨by omega, ty⟩ np
            have ev0 : c_shw S F c a n = (0, mS S 0 9 r) := by
              unfold c_shw
              rw [if_pos (by omega), if_pos (by omega), ef, if_neg (by omega)]
            rw [ev0] at hQ
            have lv3 := lv2.le (v := r)
            rw [mS_2] at lv3
            exact hQ _ (lv3.Z hz0) lv3.2.1 lv3.2.2.2
  refine am_go 400 [41] (am_wpc_cm _ _ _) wf_316 ?_
  refine And.intro (rfl) ?_
  refine am_in (k := 0) rfl (by omega) (fun d hd => ?_)
  refine am_go 400 [] (am_wpc_cm _ _ _) wf_312 ?_
  refine And.intro (fun h3 => ?_) (fun h3 => ?_)
  · refine And.intro (by first | omega | (simp only [mS_iff, eq_self, Int.reduceEq, true_and, and_true, false_and, and_false, and_self, ↓reduceIte]; omega) | (simp only [mS_iff, eq_self, Int.reduceEq, true_and, and_true, false_and, and_false, and_self, ↓reduceIte] at *; omega)) ?_
    refine And.intro (fun h => absurd h (by decide)) (fun _ => ?_)
    have ev0 : c_shw S F c a n = ((-2), S) := by
      unfold c_shw
      rw [if_neg (by omega)]
    rw [ev0] at hQ
    exact hQ m (hz0.fr (mFr.rfl m)) hF (fun _ _ _ => rfl)
  · refine And.intro (rfl) ?_
    refine And.intro (fun h4 => ?_) (fun h4 => ?_)
    · refine And.intro (by first | omega | (simp only [mS_iff, eq_self, Int.reduceEq, true_and, and_true, false_and, and_false, and_self, ↓reduceIte]; omega) | (simp only [mS_iff, eq_self, Int.reduceEq, true_and, and_true, false_and, and_false, and_self, ↓reduceIte] at *; omega)) ?_
      refine And.intro (fun h => absurd h (by decide)) (fun _ => ?_)
      have ev0 : c_shw S F c a n = ((-2), S) := by
        unfold c_shw
        rw [if_neg (by omega)]
      rw [ev0] at hQ
      exact hQ m (hz0.fr (mFr.rfl m)) hF (fun _ _ _ => rfl)
    · refine And.intro (by first | omega | (simp only [mS_iff, eq_self, Int.reduceEq, true_and, and_true, false_and, and_false, and_self, ↓reduceIte]; omega) | (simp only [mS_iff, eq_self, Int.reduceEq, true_and, and_true, false_and, and_false, and_self, ↓reduceIte] at *; omega)) ?_
      refine And.intro (fun _ => ?_) (fun h => absurd h (by decide))
      refine And.intro (fun h5 => ?_) (fun h5 => ?_)
      · have ev0 : c_shw S F c a n = ((-3), S) := by
          unfold c_shw
          rw [if_pos (by omega), if_neg (by omega)]
        rw [ev0] at hQ
        exact hQ m (hz0.fr (mFr.rfl m)) hF (fun _ _ _ => rfl)
      · refine And.intro (rfl) ?_
        refine And.intro (fun h6 => ?_) (fun h6 => ?_)
        · have ev0 : c_shw S F c a n = ((-3), S) := by
            unfold c_shw
            rw [if_pos (by omega), if_neg (by omega)]
          rw [ev0] at hQ
          exact hQ m (hz0.fr (mFr.rfl m)) hF (fun _ _ _ => rfl)
        · refine am_in (k := 0) rfl (by omega) (fun d hd => ?_)
          refine am_go 400 [] (am_wpc_cm _ _ _) wf_313 ?_
          refine And.intro (fun h7 => ?_) (fun h7 => ?_)
          · refine And.intro (by first | omega | (simp only [mS_iff, eq_self, Int.reduceEq, true_and, and_true, false_and, and_false, and_self, ↓reduceIte]; omega) | (simp only [mS_iff, eq_self, Int.reduceEq, true_and, and_true, false_and, and_false, and_self, ↓reduceIte] at *; omega)) ?_
            refine And.intro (fun h => absurd h (by decide)) (fun _ => ?_)
            have ev0 : c_shw S F c a n = ((-3), S) := by
              unfold c_shw
              rw [if_pos (by omega), if_neg (by omega)]
            rw [ev0] at hQ
            exact hQ m (hz0.fr (mFr.rfl m)) hF (fun _ _ _ => rfl)
          · refine And.intro (fun h8 => ?_) (fun h8 => ?_)
            · refine And.intro (by first | omega | (simp only [mS_iff, eq_self, Int.reduceEq, true_and, and_true, false_and, and_false, and_self, ↓reduceIte]; omega) | (simp only [mS_iff, eq_self, Int.reduceEq, true_and, and_true, false_and, and_false, and_self, ↓reduceIte] at *; omega)) ?_
              refine And.intro (fun h => absurd h (by decide)) (fun _ => ?_)
              have ev0 : c_shw S F c a n = ((-3), S) := by
                unfold c_shw
                rw [if_pos (by omega), if_neg (by omega)]
              rw [ev0] at hQ
              exact hQ m (hz0.fr (mFr.rfl m)) hF (fun _ _ _ => rfl)
            · refine And.intro (by first | omega | (simp only [mS_iff, eq_self, Int.reduceEq, true_and, and_true, false_and, and_false, and_self, ↓reduceIte]; omega) | (simp only [mS_iff, eq_self, Int.reduceEq, true_and, and_true, false_and, and_false, and_self, ↓reduceIte] at *; omega)) ?_
              refine And.intro (fun _ => ?_) (fun h => absurd h (by decide))
              refine And.intro (rfl) ?_
              refine K41 _ _ _ (Eq.refl _) ?_ ?_ ?_
              · omega
              · exact fun x x0 x1 p => by have := p.1; omega
              · exact (mLv.rf h hF).le
theorem ms_311 {d : Nat} {m : aM} {Q : aO → aM → Prop} {S : aM} {F : Int → aD} {k c a n : Int} (hd : 120 ≤ d) (hk : 0 ≤ k) (hz0 : mZ (k + 1) S F m) (hF : mFam m) (si : sI S F) {day : Int} (hQ : ∀ m', mZ k S F m' → mFam m' → (∀ x j, x < 41 ∨ 76 < x → m' x j = m x j) → Q (.inl (some (aI (c_fnd S F c day a n)))) m') : am_wpc am_G am_T d 311 [aR 41, aI c, aI day, aI a, aI n] m Q := by
  have h := hz0.1
  have hC := h.2.2.2.2.1
  have c46 := hC.2.1
  have c20 := hC.1
  have fb := fN_b
  have c66 := hF.1
  obtain ⟨dk, hdk⟩ : ∃ k, d = k + 1 := ⟨d - 1, by omega⟩
  refine am_in (k := dk) rfl (by omega) (fun d hd => ?_)
  have K43 : ∀ (Nm : Nat), ∀ (i : Int), ∀ (mw : aM), (21681 - i).toNat = Nm → ((0 ≤ c ∧ c < S 0 6) ∧ (0 ≤ day ∧ day ≤ 9999) ∧ (0 ≤ a ∧ a < 21681) ∧ (1 ≤ n ∧ n ≤ 8) ∧ (a ≤ i ∧ i ≤ 21681)) → (∀ y, 0 ≤ y → y < i → ¬ t_R S F c day a n y) → (mLv S F m mw) → am_WP am_G (am_wpc am_G am_T d) [] cd_311 Q 43 [aR 41, aI c, aI day, aI a, aI n, aI i] [] mw := by
    intro Nm
    induction Nm using Nat.strongRecOn with
    | _ Nm ih43 =>
      intro i mw hN hb np lv
      have w66 := lv.2.1.1
      refine am_go 400 [43] (am_wpc_cm _ _ _) wf_311 ?_
      refine And.intro (show -2147483648 ≤ a + n ∧ a + n ≤ 2147483647 by first | omega | (simp only [mS_iff, eq_self, Int.reduceEq, true_and, and_true, false_and, and_false, and_self, ↓reduceIte]; omega) | (simp only [mS_iff, eq_self, Int.reduceEq, true_and, and_true, false_and, and_false, and_self, ↓reduceIte] at *; omega)) ?_
      refine And.intro (fun h1 => ?_) (fun h1 => ?_)
      · have ef : s_fst (t_R S F c day a n) 21681 = -1 := s_fst_n (fun y y0 y1 p => np y y0 (by have := p.1; omega) p)
        have ev0 : c_fnd S F c day a n = -1 := by
          unfold c_fnd
          rw [if_pos (by omega), if_pos (by omega), ef]
        rw [ev0] at hQ
        exact hQ mw (lv.Z hz0) lv.2.1 lv.2.2.2
      · refine And.intro (fun h2 => ?_) (fun h2 => ?_)
        · have ef : s_fst (t_R S F c day a n) 21681 = -1 := s_fst_n (fun y y0 y1 p => np y y0 (by have := p.1; omega) p)
          have ev0 : c_fnd S F c day a n = -1 := by
            unfold c_fnd
            rw [if_pos (by omega), if_pos (by omega), ef]
          rw [ev0] at hQ
          exact hQ mw (lv.Z hz0) lv.2.1 lv.2.2.2
        · have e76 := lv.2.1.2.2 i (by omega) (by omega)
          refine And.intro (rfl) ?_
          refine And.intro (⟨rfl, by omega⟩) ?_
          refine And.intro (fun h3 => ?_) (fun h3 => ?_)
          · refine And.intro (show -2147483648 ≤ i + 1 ∧ i + 1 ≤ 2147483647 by first | omega | (simp only [mS_iff, eq_self, Int.reduceEq, true_and, and_true, false_and, and_false, and_self, ↓reduceIte]; omega) | (simp only [mS_iff, eq_self, Int.reduceEq, true_and, and_true, false_and, and_false, and_self, ↓reduceIte] at *; omega)) ?_
            refine ih43 _ ?_ _ _ (Eq.refl _) ?_ ?_ ?_
            · omega
            · omega
            · intro y y0 y1 p
              by_cases q : y = i
              · rw [q] at p
                have kk : fK i = gn i.toNat := if_pos p.2.1
                have := gn_b i.toNat
                omega
              · exact np y y0 (by omega) p
            · exact lv
          · have ok := fw_ok (i := i) (by omega)
            refine And.intro (rfl) ?_
            refine ct_181 (by omega) (by omega) (fun m1 fb1 ra => ?_)
            have lv1 := lv.fr fb1.R
            skip
            refine And.intro (rfl) ?_
            refine ct_314 (by omega) lv1.1 (by omega) ra (fw_ok (by omega)) si (fun ty m2 fk => ?_) (fun ty m2 fk => ?_)
            · have lv2 := lv1.fr fk.R
              refine And.intro (fun h => absurd h (by decide)) (fun _ => ?_)
              have ra2 := fk.row ra
              refine And.intro (rfl) ?_
              refine ct_275w (by omega) lv2.1.2.1 lv2.1.2.2.1 ra2 ok.cnt (by omega) (fun e ie => ?_) (fun sz => ?_)
              · have ie0 := ie.1
                have isb := (s_ith_b (fun q => (s_cf_b S (fw i) day q).1) ie).2
                refine And.intro (fun _ => ?_) (fun h => absurd h (by omega))
                refine And.intro (show -2147483648 ≤ i + 1 ∧ i + 1 ≤ 2147483647 by first | omega | (simp only [mS_iff, eq_self, Int.reduceEq, true_and, and_true, false_and, and_false, and_self, ↓reduceIte]; omega) | (simp only [mS_iff, eq_self, Int.reduceEq, true_and, and_true, false_and, and_false, and_self, ↓reduceIte] at *; omega)) ?_
                refine ih43 _ ?_ _ _ (Eq.refl _) ?_ ?_ ?_
                · omega
                · omega
                · intro y y0 y1 p
                  by_cases q : y = i
                  · rw [q] at p
                    first | exact ty p.2.2.1 | (have := p.2.2.2; omega)
                  · exact np y y0 (by omega) p
                · exact lv2
              · refine And.intro (fun h => absurd h (by omega)) (fun _ => ?_)
                have bt : s_bt (fw i) = 0 := by
                  refine Classical.byContradiction fun q => ?_
                  have kk : fK i = -1 := if_neg q
                  omega
                have sz0 := (s_sum_b (c := 1) (fun q => s_cf_b S (fw i) day q) (S 0 5).toNat).1
                have tr : t_R S F c day a n i := ⟨by omega, bt, ty, by omega⟩
                have ef : s_fst (t_R S F c day a n) 21681 = i := s_fst_i (by omega) tr np
                have ev0 : c_fnd S F c day a n = i := by
                  unfold c_fnd
                  rw [if_pos (by omega), if_pos (by omega), ef]
                rw [ev0] at hQ
                exact hQ _ (lv2.Z hz0) lv2.2.1 lv2.2.2.2
            · have lv2 := lv1.fr fk.R
              refine And.intro (fun _ => ?_) (fun h => absurd h (by decide))
              refine And.intro (show -2147483648 ≤ i + 1 ∧ i + 1 ≤ 2147483647 by first | omega | (simp only [mS_iff, eq_self, Int.reduceEq, true_and, and_true, false_and, and_false, and_self, ↓reduceIte]; omega) | (simp only [mS_iff, eq_self, Int.reduceEq, true_and, and_true, false_and, and_false, and_self, ↓reduceIte] at *; omega)) ?_
              refine ih43 _ ?_ _ _ (Eq.refl _) ?_ ?_ ?_
              · omega
              · omega
              · intro y y0 y1 p
                by_cases q : y = i
                · rw [q] at p
                  first | exact ty p.2.2.1 | (have := p.2.2.2; omega)
                · exact np y y0 (by omega) p
              · exact lv2
  refine am_go 400 [43] (am_wpc_cm _ _ _) wf_311 ?_
  refine And.intro (rfl) ?_
  refine am_in (k := 0) rfl (by omega) (fun d hd => ?_)
  refine am_go 400 [] (am_wpc_cm _ _ _) wf_312 ?_
  refine And.intro (fun h4 => ?_) (fun h4 => ?_)
  · refine And.intro (by first | omega | (simp only [mS_iff, eq_self, Int.reduceEq, true_and, and_true, false_and, and_false, and_self, ↓reduceIte]; omega) | (simp only [mS_iff, eq_self, Int.reduceEq, true_and, and_true, false_and, and_false, and_self, ↓reduceIte] at *; omega)) ?_
    refine And.intro (fun h => absurd h (by decide)) (fun _ => ?_)
    have ev0 : c_fnd S F c day a n = (-2) := by
      unfold c_fnd
      rw [if_neg (by omega)]
    rw [ev0] at hQ
    exact hQ m (hz0.fr (mFr.rfl m)) hF (fun _ _ _ => rfl)
  · refine And.intro (rfl) ?_
    refine And.intro (fun h5 => ?_) (fun h5 => ?_)
    · refine And.intro (by first | omega | (simp only [mS_iff, eq_self, Int.reduceEq, true_and, and_true, false_and, and_false, and_self, ↓reduceIte]; omega) | (simp only [mS_iff, eq_self, Int.reduceEq, true_and, and_true, false_and, and_false, and_self, ↓reduceIte] at *; omega)) ?_
      refine And.intro (fun h => absurd h (by decide)) (fun _ => ?_)
      have ev0 : c_fnd S F c day a n = (-2) := by
        unfold c_fnd
        rw [if_neg (by omega)]
      rw [ev0] at hQ
      exact hQ m (hz0.fr (mFr.rfl m)) hF (fun _ _ _ => rfl)
    · refine And.intro (by first | omega | (simp only [mS_iff, eq_self, Int.reduceEq, true_and, and_true, false_and, and_false, and_self, ↓reduceIte]; omega) | (simp only [mS_iff, eq_self, Int.reduceEq, true_and, and_true, false_and, and_false, and_self, ↓reduceIte] at *; omega)) ?_
      refine And.intro (fun _ => ?_) (fun h => absurd h (by decide))
      refine ct_254 (by omega) (fun h6 => ?_) (fun h6 => ?_)
      · replace h6 : 0 ≤ day ∧ day ≤ 9999 := h6
        refine And.intro (fun h => absurd h (by decide)) (fun _ => ?_)
        refine And.intro (fun h7 => ?_) (fun h7 => ?_)
        · have ev0 : c_fnd S F c day a n = (-3) := by
            unfold c_fnd
            rw [if_pos (by omega), if_neg (by omega)]
          rw [ev0] at hQ
          exact hQ m (hz0.fr (mFr.rfl m)) hF (fun _ _ _ => rfl)
        · refine And.intro (fun h8 => ?_) (fun h8 => ?_)
          · have ev0 : c_fnd S F c day a n = (-3) := by
              unfold c_fnd
              rw [if_pos (by omega), if_neg (by omega)]
            rw [ev0] at hQ
            exact hQ m (hz0.fr (mFr.rfl m)) hF (fun _ _ _ => rfl)
          · refine am_in (k := 0) rfl (by omega) (fun d hd => ?_)
            refine am_go 400 [] (am_wpc_cm _ _ _) wf_313 ?_
            refine And.intro (fun h9 => ?_) (fun h9 => ?_)
            · refine And.intro (by first | omega | (simp only [mS_iff, eq_self, Int.reduceEq, true_and, and_true, false_and, and_false, and_self, ↓reduceIte]; omega) | (simp only [mS_iff, eq_self, Int.reduceEq, true_and, and_true, false_and, and_false, and_self, ↓reduceIte] at *; omega)) ?_
              refine And.intro (fun h => absurd h (by decide)) (fun _ => ?_)
              have ev0 : c_fnd S F c day a n = (-3) := by
                unfold c_fnd
                rw [if_pos (by omega), if_neg (by omega)]
              rw [ev0] at hQ
              exact hQ m (hz0.fr (mFr.rfl m)) hF (fun _ _ _ => rfl)
            · refine And.intro (fun h10 => ?_) (fun h10 => ?_)
              · refine And.intro (by first | omega | (simp only [mS_iff, eq_self, Int.reduceEq, true_and, and_true, false_and, and_false, and_self, ↓reduceIte]; omega) | (simp only [mS_iff, eq_self, Int.reduceEq, true_and, and_true, false_and, and_false, and_self, ↓reduceIte] at *; omega)) ?_
                refine And.intro (fun h => absurd h (by decide)) (fun _ => ?_)
                have ev0 : c_fnd S F c day a n = (-3) := by
                  unfold c_fnd
                  rw [if_pos (by omega), if_neg (by omega)]
                rw [ev0] at hQ
                exact hQ m (hz0.fr (mFr.rfl m)) hF (fun _ _ _ => rfl)
              · refine And.intro (by first | omega | (simp only [mS_iff, eq_self, Int.reduceEq, true_and, and_true, false_and, and_false, and_self, ↓reduceIte]; omega) | (simp only [mS_iff, eq_self, Int.reduceEq, true_and, and_true, false_and, and_false, and_self, ↓reduceIte] at *; omega)) ?_
                refine And.intro (fun _ => ?_) (fun h => absurd h (by decide))
                refine K43 _ _ _ (Eq.refl _) ?_ ?_ ?_
                · omega
                · exact fun y y0 y1 p => by have := p.1; omega
                · exact mLv.rf h hF
      · replace h6 : ¬ (0 ≤ day ∧ day ≤ 9999) := h6
        refine And.intro (fun _ => ?_) (fun h => absurd h (by decide))
        have ev0 : c_fnd S F c day a n = (-3) := by
          unfold c_fnd
          rw [if_pos (by omega), if_neg (by omega)]
        rw [ev0] at hQ
        exact hQ m (hz0.fr (mFr.rfl m)) hF (fun _ _ _ => rfl)
