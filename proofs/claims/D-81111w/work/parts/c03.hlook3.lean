/-! needs: c02 -/
/-! CALLS that look, house (3); by tools/genc3.py -/
set_option maxRecDepth 100000
set_option maxHeartbeats 8000000
theorem hs_91 {d : Nat} {m : aM} {Q : aO → aM → Prop} {S : aM} {F : Int → aD} {lo hi cl ch : Int → Int} {a t : Int} {k : Int} (hd : 60 ≤ d) (hk : 0 ≤ k) (hz0 : hZ (k + 1) S F lo hi cl ch m)  (hQ : ∀ m', hZ k S F lo hi cl ch m' → (∀ x j, 41 ≤ x → x ≤ 76 → m' x j = m x j) → Q (.inl (some (aI (c_dots S a t)))) m') : am_wpc am_G am_T d 91 [aR 1, aI a, aI t] m Q := by
  have h := hz0.1
  have hr := hz0.2
  have fr := hFr.rfl m
  obtain ⟨r1, r2, r3, r4, r5⟩ := id hr
  have hS := h.2.2.2.1
  have h0 := h.1
  have s1 := hS.1
  obtain ⟨dk, hdk⟩ : ∃ k, d = k + 1 := ⟨d - 1, by omega⟩
  refine am_in (k := dk) rfl (by omega) (fun d hd => ?_)
  have K52 : ∀ (Nm : Nat), ∀ (n : Int) (i : Int) (z7 : aV), ∀ (md2 : aM), (2880 - i).toNat = Nm → (0 ≤ i ∧ i ≤ 2880) → (0 ≤ n ∧ n ≤ i) → (n = s_sum (fun i => if s_dot (S (100 + a)) i = t then 1 else 0) i.toNat) → (∀ j, 0 ≤ j → j < 2880 → md2 6 j = s_dot (S (100 + a)) j) → (Q (.inl (some (aI (s_sum (fun i => if s_dot (S (100 + a)) i = t then 1 else 0) 2880)))) md2) → am_WP am_G (am_wpc am_G am_T d) [] cd_91 Q 52 [aR 1, aI a, aI t, aI n, aR 6, aI 2880, aI i, z7] [] md2 := by
    intro Nm
    induction Nm using Nat.strongRecOn with
    | _ Nm ih52 =>
      intro n i z7 md2 hN hi2 nb hn dd qq
      refine am_go 400 [52] (am_wpc_cm _ _ _) wf_91 ?_
      refine And.intro (fun h1 => ?_) (fun h1 => ?_)
      · rw [hn, show i = 2880 by omega]
        exact qq
      · refine And.intro (⟨rfl, by first | omega | (simp only [mS_iff, eq_self, Int.reduceEq, true_and, and_true, false_and, and_false, and_self, ↓reduceIte]; omega) | (simp only [mS_iff, eq_self, Int.reduceEq, true_and, and_true, false_and, and_false, and_self, ↓reduceIte] at *; omega)⟩) ?_
        refine And.intro (fun h2 => ?_) (fun h2 => ?_)
        · refine And.intro (show -2147483648 ≤ n + 0 ∧ n + 0 ≤ 2147483647 by first | omega | (simp only [mS_iff, eq_self, Int.reduceEq, true_and, and_true, false_and, and_false, and_self, ↓reduceIte]; omega) | (simp only [mS_iff, eq_self, Int.reduceEq, true_and, and_true, false_and, and_false, and_self, ↓reduceIte] at *; omega)) ?_
          refine And.intro (show -2147483648 ≤ i + 1 ∧ i + 1 ≤ 2147483647 by first | omega | (simp only [mS_iff, eq_self, Int.reduceEq, true_and, and_true, false_and, and_false, and_self, ↓reduceIte]; omega) | (simp only [mS_iff, eq_self, Int.reduceEq, true_and, and_true, false_and, and_false, and_self, ↓reduceIte] at *; omega)) ?_
          refine ih52 _ ?_ _ _ _ _ (Eq.refl _) ?_ ?_ ?_ ?_ ?_
          · omega
          · omega
          · omega
          · rw [s_sum_i (by omega)]; rw [if_neg (by have := dd i (by omega) (by omega); omega)]; omega
          · exact dd
          · exact qq
        · refine And.intro (show -2147483648 ≤ n + 1 ∧ n + 1 ≤ 2147483647 by first | omega | (simp only [mS_iff, eq_self, Int.reduceEq, true_and, and_true, false_and, and_false, and_self, ↓reduceIte]; omega) | (simp only [mS_iff, eq_self, Int.reduceEq, true_and, and_true, false_and, and_false, and_self, ↓reduceIte] at *; omega)) ?_
          refine And.intro (show -2147483648 ≤ i + 1 ∧ i + 1 ≤ 2147483647 by first | omega | (simp only [mS_iff, eq_self, Int.reduceEq, true_and, and_true, false_and, and_false, and_self, ↓reduceIte]; omega) | (simp only [mS_iff, eq_self, Int.reduceEq, true_and, and_true, false_and, and_false, and_self, ↓reduceIte] at *; omega)) ?_
          refine ih52 _ ?_ _ _ _ _ (Eq.refl _) ?_ ?_ ?_ ?_ ?_
          · omega
          · omega
          · omega
          · rw [s_sum_i (by omega)]; rw [if_pos (by have := dd i (by omega) (by omega); omega)]; omega
          · exact dd
          · exact qq
  refine am_go 400 [52] (am_wpc_cm _ _ _) wf_91 ?_
  refine And.intro (rfl) ?_
  refine ct_59 (by omega) h (by omega) (fun t1 => ?_) (fun t1 mw3 fx => ?_)
  · have hA1 := hS.2.2.1 a t1.1 t1.2
    have hB1 := hA1.basic
    refine And.intro (fun _ => ?_) (fun h => absurd h (by decide))
    refine ct_39 (by omega) (fun h4 => ?_) (fun h4 => ?_)
    · refine And.intro (fun _ => ?_) (fun h => absurd h (by decide))
      refine And.intro (rfl) ?_
      refine And.intro (⟨rfl, by first | omega | (simp only [mS_iff, eq_self, Int.reduceEq, true_and, and_true, false_and, and_false, and_self, ↓reduceIte]; omega) | (simp only [mS_iff, eq_self, Int.reduceEq, true_and, and_true, false_and, and_false, and_self, ↓reduceIte] at *; omega)⟩) ?_
      refine And.intro (rfl) ?_
      refine ct_79 (by omega) hA1 h.2.2.2.2.2.2.2.2.2.2.1.1.1 h.2.2.2.2.2.2.2.2.2.1 (by omega) h.2.2.2.2.2.2.2.2.1.1.1 (fun z => h.2.2.2.2.2.2.2.2.1.2 a t1.1 t1.2 z) (fun md fd d1 d2 d3 d4 => ?_)
      have hz := hZ.D ⟨h, hr⟩ fd t1 d1 d2 d3 d4
      have fo : ∀ x j, 41 ≤ x → x ≤ 76 → md x j = m x j := fun x j u v => fd x j (by omega) (by omega)
      refine And.intro (rfl) ?_
      refine And.intro (rfl) ?_
      refine K52 _ _ _ _ _ (Eq.refl _) ?_ ?_ ?_ ?_ ?_
      · omega
      · omega
      · exact rfl
      · exact d2.1
      · have hzz := hQ md hz fo
        have ev0 : c_dots S a t = s_sum (fun i => if s_dot (S (100 + a)) i = t then 1 else 0) 2880 := by
          unfold c_dots
          rw [if_pos t1, if_pos (by omega)]
        rw [ev0] at hzz
        exact hzz
    · refine And.intro (fun h => absurd h (by decide)) (fun _ => ?_)
      have ev0 : c_dots S a t = (-3) := by
        unfold c_dots
        repeat' split
        all_goals omega
      have hzz := hQ m (hz0.fr fr (by omega)) (fr.M)
      rw [ev0] at hzz
      exact hzz
  · have fr := fr.trans fx
    have cn := fr.1
    have cs := fr.2.1
    refine And.intro (fun h => absurd h (by decide)) (fun _ => ?_)
    have ev0 : c_dots S a t = (-2) := by
      unfold c_dots
      repeat' split
      all_goals omega
    have hzz := hQ mw3 (hz0.fr fr (by omega)) (fr.M)
    rw [ev0] at hzz
    exact hzz
theorem hLo {m : aM} {lo hi l b : Int} {w : Int → Int} (h : hLay m lo hi l w b) (hl : 1 ≤ lo) : (m l 1 = 0 → w (b + 1) = -1 ∧ w (b + 2) = 0 ∧ w (b + 3) = -1) ∧ (m l 1 ≠ 0 → 0 < m l 1 ∧ m (m l 1) (-1) = 8 ∧ m (m l 1) 0 = w (b + 1) ∧ m (m l 1) 1 = w (b + 2) ∧ m (m l 1) 2 = w (b + 3)) := by
  rcases h.2.2.2.2.1 with ⟨g, g2⟩ | ⟨g1, g2, g3, g4, g5, g6, g7, g8⟩
  · exact ⟨fun _ => g2, fun n => absurd g n⟩
  · exact ⟨fun z => by exfalso; omega, fun _ => ⟨by omega, g3, g5, g6, g7⟩⟩
theorem hLg {m : aM} {lo hi l b : Int} {w : Int → Int} (h : hLay m lo hi l w b) (hl : 1 ≤ lo) : (m l 2 = 0 → w (b + 5) = 0 ∧ w (b + 6) = -1 ∧ w (b + 7) = -1 ∧ w (b + 8) = -1) ∧ (m l 2 ≠ 0 → 0 < m l 2 ∧ m (m l 2) (-1) = 10 ∧ m (m l 2) 0 = w (b + 5) ∧ m (m l 2) 1 = w (b + 6) ∧ m (m l 2) 2 = w (b + 7) ∧ m (m l 2) 3 = w (b + 8)) := by
  rcases h.2.2.2.2.2.1 with ⟨g, g2⟩ | ⟨g1, g2, g3, g4, g5, g6, g7, g8, g9⟩
  · exact ⟨fun _ => ⟨g2.2.1, g2.2.2.1, g2.2.2.2.1, g2.2.2.2.2.1⟩, fun n => absurd g n⟩
  · exact ⟨fun z => by exfalso; omega, fun _ => ⟨by omega, g3, g5, g6, g7, g8⟩⟩
theorem hs_65 {d : Nat} {m : aM} {Q : aO → aM → Prop} {S : aM} {F : Int → aD} {lo hi cl ch : Int → Int} {a l w : Int} (hd : 60 ≤ d) (h : hI S F lo hi cl ch m) (hr : hRo 1 m)  (hQ : ∀ m', hFr 90 m m' → Q (.inl (some (aI (c_mean S a l w)))) m') : am_wpc am_G am_T d 65 [aR 1, aI a, aI l, aI w] m Q := by
  have fr := hFr.rfl m
  obtain ⟨r1, r2, r3, r4, r5⟩ := id hr
  have hS := h.2.2.2.1
  have h0 := h.1
  have s1 := hS.1
  obtain ⟨dk, hdk⟩ : ∃ k, d = k + 1 := ⟨d - 1, by omega⟩
  refine am_in (k := dk) rfl (by omega) (fun d hd => ?_)
  refine am_go 400 [] (am_wpc_cm _ _ _) wf_65 ?_
  refine And.intro (rfl) ?_
  refine ct_60 (by omega) h (by omega) (fun t1 => ?_) (fun t1 mw1 fx => ?_)
  · have hA1 := hS.2.2.1 a t1.1 t1.2
    have hB1 := hA1.basic
    have nn : m 19 a ≠ 0 := by omega
    refine And.intro (show (m 19 a) ≠ -9 by first | omega | (simp only [mS_iff, eq_self, Int.reduceEq, true_and, and_true, false_and, and_false, and_self, ↓reduceIte]; omega) | (simp only [mS_iff, eq_self, Int.reduceEq, true_and, and_true, false_and, and_false, and_self, ↓reduceIte] at *; omega)) ?_
    refine And.intro (fun h2 => ?_) (fun h2 => ?_)
    · have ev0 : c_mean S a l w = (-2) := by
        unfold c_mean
        repeat' split
        all_goals omega
      have hz := hQ m (fr.wd (by omega))
      rw [ev0] at hz
      exact hz
    · have hl := hB1.2.2.2.2.2.2.2.1
      have hl2 := hB1.2.2.2.2.2.2.2.2
      refine And.intro (hB1.2.2.2.2.1) ?_
      refine And.intro (by have := hB1.2.2.2.2.2.2.1; omega) ?_
      refine And.intro (show -2147483648 ≤ (m (m (m 19 a) 1) (-2)) - 1 ∧ (m (m (m 19 a) 1) (-2)) - 1 ≤ 2147483647 by first | omega | (simp only [mS_iff, eq_self, Int.reduceEq, true_and, and_true, false_and, and_false, and_self, ↓reduceIte]; omega) | (simp only [mS_iff, eq_self, Int.reduceEq, true_and, and_true, false_and, and_false, and_self, ↓reduceIte] at *; omega)) ?_
      refine ct_39 (by omega) (fun h3 => ?_) (fun h3 => ?_)
      · refine And.intro (fun _ => ?_) (fun h => absurd h (by decide))
        refine And.intro (fun h4 => ?_) (fun h4 => ?_)
        · refine ct_39 (by omega) (fun h5 => ?_) (fun h5 => ?_)
          · refine And.intro (fun _ => ?_) (fun h => absurd h (by decide))
            refine And.intro (fun h6 => ?_) (fun h6 => ?_)
            · have hf := hA1.fld
              have f1 := hf.2.1
              have f0 := hf.2.2.1
              have f2 := hf.2.2.2.1
              have f3 := hf.2.2.2.2.1
              have f4 := hf.2.2.2.2.2.1
              have f5 := hf.2.2.2.2.2.2.1
              refine And.intro (hB1.2.2.2.2.1) ?_
              refine And.intro (fun h7 => ?_) (fun h7 => ?_)
              · refine And.intro (fun h8 => ?_) (fun h8 => ?_)
                · refine And.intro (fun h9 => ?_) (fun h9 => ?_)
                  · refine And.intro (fun h10 => ?_) (fun h10 => ?_)
                    · skip
                      refine And.intro (show (m (m (m 19 a) 0) (-1)) = 5 by first | assumption | omega | (simp only [mS_iff, eq_self, Int.reduceEq, true_and, and_true, false_and, and_false, and_self, ↓reduceIte]; omega) | (simp only [mS_iff, eq_self, Int.reduceEq, true_and, and_true, false_and, and_false, and_self, ↓reduceIte] at *; omega)) ?_
                      have ev0 : c_mean S a l w = (m (m (m 19 a) 0) 4) := by
                        unfold c_mean
                        repeat' split
                        all_goals first | omega | (rw [show w = 4 by omega]; first | done | omega)
                      have hz := hQ m (fr.wd (by omega))
                      rw [ev0] at hz
                      exact hz
                    · skip
                      refine And.intro (show (m (m (m 19 a) 0) (-1)) = 5 by first | assumption | omega | (simp only [mS_iff, eq_self, Int.reduceEq, true_and, and_true, false_and, and_false, and_self, ↓reduceIte]; omega) | (simp only [mS_iff, eq_self, Int.reduceEq, true_and, and_true, false_and, and_false, and_self, ↓reduceIte] at *; omega)) ?_
                      have ev0 : c_mean S a l w = (m (m (m 19 a) 0) 3) := by
                        unfold c_mean
                        repeat' split
                        all_goals first | omega | (rw [show w = 3 by omega]; first | done | omega)
                      have hz := hQ m (fr.wd (by omega))
                      rw [ev0] at hz
                      exact hz
                  · skip
                    refine And.intro (show (m (m (m 19 a) 0) (-1)) = 5 by first | assumption | omega | (simp only [mS_iff, eq_self, Int.reduceEq, true_and, and_true, false_and, and_false, and_self, ↓reduceIte]; omega) | (simp only [mS_iff, eq_self, Int.reduceEq, true_and, and_true, false_and, and_false, and_self, ↓reduceIte] at *; omega)) ?_
                    have ev0 : c_mean S a l w = (m (m (m 19 a) 0) 2) := by
                      unfold c_mean
                      repeat' split
                      all_goals first | omega | (rw [show w = 2 by omega]; first | done | omega)
                    have hz := hQ m (fr.wd (by omega))
                    rw [ev0] at hz
                    exact hz
                · skip
                  refine And.intro (show (m (m (m 19 a) 0) (-1)) = 5 by first | assumption | omega | (simp only [mS_iff, eq_self, Int.reduceEq, true_and, and_true, false_and, and_false, and_self, ↓reduceIte]; omega) | (simp only [mS_iff, eq_self, Int.reduceEq, true_and, and_true, false_and, and_false, and_self, ↓reduceIte] at *; omega)) ?_
                  have ev0 : c_mean S a l w = (m (m (m 19 a) 0) 1) := by
                    unfold c_mean
                    repeat' split
                    all_goals first | omega | (rw [show w = 1 by omega]; first | done | omega)
                  have hz := hQ m (fr.wd (by omega))
                  rw [ev0] at hz
                  exact hz
              · skip
                refine And.intro (show (m (m (m 19 a) 0) (-1)) = 5 by first | assumption | omega | (simp only [mS_iff, eq_self, Int.reduceEq, true_and, and_true, false_and, and_false, and_self, ↓reduceIte]; omega) | (simp only [mS_iff, eq_self, Int.reduceEq, true_and, and_true, false_and, and_false, and_self, ↓reduceIte] at *; omega)) ?_
                have ev0 : c_mean S a l w = (m (m (m 19 a) 0) 0) := by
                  unfold c_mean
                  repeat' split
                  all_goals first | omega | (rw [show w = 0 by omega]; first | done | omega)
                have hz := hQ m (fr.wd (by omega))
                rw [ev0] at hz
                exact hz
            · refine And.intro (fun h11 => ?_) (fun h11 => ?_)
              · refine And.intro (hB1.2.2.2.2.1) ?_
                refine And.intro (⟨hB1.2.2.2.2.2.2.1, by omega⟩) ?_
                have hy := hA1.lay (k := l) (by omega) (by omega)
                have y1 := hy.2.1
                have y0 := hy.2.2.1
                have y2 := hy.2.2.2.1
                have y7 := hy.2.2.2.2.2.2.1
                have y8 := hy.2.2.2.2.2.2.2.1
                have o1 := (hLo hy (by omega)).1
                have o2 := (hLo hy (by omega)).2
                have q1 := (hLg hy (by omega)).1
                have q2 := (hLg hy (by omega)).2
                refine And.intro (show (m (m (m (m 19 a) 1) l) (-1)) = 7 by first | assumption | omega | (simp only [mS_iff, eq_self, Int.reduceEq, true_and, and_true, false_and, and_false, and_self, ↓reduceIte]; omega) | (simp only [mS_iff, eq_self, Int.reduceEq, true_and, and_true, false_and, and_false, and_self, ↓reduceIte] at *; omega)) ?_
                refine am_in (k := 0) rfl (by omega) (fun d hd => ?_)
                refine am_go 400 [] (am_wpc_cm _ _ _) wf_66 ?_
                refine And.intro (show (m (m (m (m 19 a) 1) l) 1) ≠ -9 by first | omega | (simp only [mS_iff, eq_self, Int.reduceEq, true_and, and_true, false_and, and_false, and_self, ↓reduceIte]; omega) | (simp only [mS_iff, eq_self, Int.reduceEq, true_and, and_true, false_and, and_false, and_self, ↓reduceIte] at *; omega)) ?_
                refine And.intro (fun h12 => ?_) (fun h12 => ?_)
                · refine And.intro (fun h13 => ?_) (fun h13 => ?_)
                  · refine And.intro (fun h14 => ?_) (fun h14 => ?_)
                    · skip
                      refine And.intro (show (m (m (m (m (m 19 a) 1) l) 1) (-1)) = 8 by first | assumption | omega | (simp only [mS_iff, eq_self, Int.reduceEq, true_and, and_true, false_and, and_false, and_self, ↓reduceIte]; omega) | (simp only [mS_iff, eq_self, Int.reduceEq, true_and, and_true, false_and, and_false, and_self, ↓reduceIte] at *; omega)) ?_
                      have ev0 : c_mean S a l w = (m (m (m (m (m 19 a) 1) l) 1) 2) := by
                        unfold c_mean
                        repeat' split
                        all_goals first | omega | (rw [show w = 3 by omega]; first | done | omega)
                      have hz := hQ m (fr.wd (by omega))
                      rw [ev0] at hz
                      exact hz
                    · skip
                      refine And.intro (show (m (m (m (m (m 19 a) 1) l) 1) (-1)) = 8 by first | assumption | omega | (simp only [mS_iff, eq_self, Int.reduceEq, true_and, and_true, false_and, and_false, and_self, ↓reduceIte]; omega) | (simp only [mS_iff, eq_self, Int.reduceEq, true_and, and_true, false_and, and_false, and_self, ↓reduceIte] at *; omega)) ?_
                      have ev0 : c_mean S a l w = (m (m (m (m (m 19 a) 1) l) 1) 1) := by
                        unfold c_mean
                        repeat' split
                        all_goals first | omega | (rw [show w = 2 by omega]; first | done | omega)
                      have hz := hQ m (fr.wd (by omega))
                      rw [ev0] at hz
                      exact hz
                  · skip
                    refine And.intro (show (m (m (m (m (m 19 a) 1) l) 1) (-1)) = 8 by first | assumption | omega | (simp only [mS_iff, eq_self, Int.reduceEq, true_and, and_true, false_and, and_false, and_self, ↓reduceIte]; omega) | (simp only [mS_iff, eq_self, Int.reduceEq, true_and, and_true, false_and, and_false, and_self, ↓reduceIte] at *; omega)) ?_
                    have ev0 : c_mean S a l w = (m (m (m (m (m 19 a) 1) l) 1) 0) := by
                      unfold c_mean
                      repeat' split
                      all_goals first | omega | (rw [show w = 1 by omega]; first | done | omega)
                    have hz := hQ m (fr.wd (by omega))
                    rw [ev0] at hz
                    exact hz
                · refine And.intro (fun h15 => ?_) (fun h15 => ?_)
                  · skip
                    have ev0 : c_mean S a l w = (-1) := by
                      unfold c_mean
                      repeat' split
                      all_goals first | omega | (rcases (show w = 1 ∨ w = 3 by omega) with e | e <;> (rw [e]; omega))
                    have hz := hQ m (fr.wd (by omega))
                    rw [ev0] at hz
                    exact hz
                  · skip
                    have ev0 : c_mean S a l w = 0 := by
                      unfold c_mean
                      repeat' split
                      all_goals first | omega | (rw [show w = 2 by omega]; first | done | omega)
                    have hz := hQ m (fr.wd (by omega))
                    rw [ev0] at hz
                    exact hz
              · refine And.intro (fun h16 => ?_) (fun h16 => ?_)
                · refine And.intro (hB1.2.2.2.2.1) ?_
                  refine And.intro (⟨hB1.2.2.2.2.2.2.1, by omega⟩) ?_
                  have hy := hA1.lay (k := l) (by omega) (by omega)
                  have y1 := hy.2.1
                  have y0 := hy.2.2.1
                  have y2 := hy.2.2.2.1
                  have y7 := hy.2.2.2.2.2.2.1
                  have y8 := hy.2.2.2.2.2.2.2.1
                  have o1 := (hLo hy (by omega)).1
                  have o2 := (hLo hy (by omega)).2
                  have q1 := (hLg hy (by omega)).1
                  have q2 := (hLg hy (by omega)).2
                  refine And.intro (show (m (m (m (m 19 a) 1) l) (-1)) = 7 by first | assumption | omega | (simp only [mS_iff, eq_self, Int.reduceEq, true_and, and_true, false_and, and_false, and_self, ↓reduceIte]; omega) | (simp only [mS_iff, eq_self, Int.reduceEq, true_and, and_true, false_and, and_false, and_self, ↓reduceIte] at *; omega)) ?_
                  refine am_in (k := 0) rfl (by omega) (fun d hd => ?_)
                  refine am_go 400 [] (am_wpc_cm _ _ _) wf_66 ?_
                  refine And.intro (show (m (m (m (m 19 a) 1) l) 1) ≠ -9 by first | omega | (simp only [mS_iff, eq_self, Int.reduceEq, true_and, and_true, false_and, and_false, and_self, ↓reduceIte]; omega) | (simp only [mS_iff, eq_self, Int.reduceEq, true_and, and_true, false_and, and_false, and_self, ↓reduceIte] at *; omega)) ?_
                  refine And.intro (fun h17 => ?_) (fun h17 => ?_)
                  · refine And.intro (fun h18 => ?_) (fun h18 => ?_)
                    · refine And.intro (fun h19 => ?_) (fun h19 => ?_)
                      · skip
                        refine And.intro (show (m (m (m (m (m 19 a) 1) l) 1) (-1)) = 8 by first | assumption | omega | (simp only [mS_iff, eq_self, Int.reduceEq, true_and, and_true, false_and, and_false, and_self, ↓reduceIte]; omega) | (simp only [mS_iff, eq_self, Int.reduceEq, true_and, and_true, false_and, and_false, and_self, ↓reduceIte] at *; omega)) ?_
                        have ev0 : c_mean S a l w = (m (m (m (m (m 19 a) 1) l) 1) 2) := by
                          unfold c_mean
                          repeat' split
                          all_goals first | omega | (rw [show w = 3 by omega]; first | done | omega)
                        have hz := hQ m (fr.wd (by omega))
                        rw [ev0] at hz
                        exact hz
                      · skip
                        refine And.intro (show (m (m (m (m (m 19 a) 1) l) 1) (-1)) = 8 by first | assumption | omega | (simp only [mS_iff, eq_self, Int.reduceEq, true_and, and_true, false_and, and_false, and_self, ↓reduceIte]; omega) | (simp only [mS_iff, eq_self, Int.reduceEq, true_and, and_true, false_and, and_false, and_self, ↓reduceIte] at *; omega)) ?_
                        have ev0 : c_mean S a l w = (m (m (m (m (m 19 a) 1) l) 1) 1) := by
                          unfold c_mean
                          repeat' split
                          all_goals first | omega | (rw [show w = 2 by omega]; first | done | omega)
                        have hz := hQ m (fr.wd (by omega))
                        rw [ev0] at hz
                        exact hz
                    · skip
                      refine And.intro (show (m (m (m (m (m 19 a) 1) l) 1) (-1)) = 8 by first | assumption | omega | (simp only [mS_iff, eq_self, Int.reduceEq, true_and, and_true, false_and, and_false, and_self, ↓reduceIte]; omega) | (simp only [mS_iff, eq_self, Int.reduceEq, true_and, and_true, false_and, and_false, and_self, ↓reduceIte] at *; omega)) ?_
                      have ev0 : c_mean S a l w = (m (m (m (m (m 19 a) 1) l) 1) 0) := by
                        unfold c_mean
                        repeat' split
                        all_goals first | omega | (rw [show w = 1 by omega]; first | done | omega)
                      have hz := hQ m (fr.wd (by omega))
                      rw [ev0] at hz
                      exact hz
                  · refine And.intro (fun h20 => ?_) (fun h20 => ?_)
                    · skip
                      have ev0 : c_mean S a l w = (-1) := by
                        unfold c_mean
                        repeat' split
                        all_goals first | omega | (rcases (show w = 1 ∨ w = 3 by omega) with e | e <;> (rw [e]; omega))
                      have hz := hQ m (fr.wd (by omega))
                      rw [ev0] at hz
                      exact hz
                    · skip
                      have ev0 : c_mean S a l w = 0 := by
                        unfold c_mean
                        repeat' split
                        all_goals first | omega | (rw [show w = 2 by omega]; first | done | omega)
                      have hz := hQ m (fr.wd (by omega))
                      rw [ev0] at hz
                      exact hz
                · refine And.intro (fun h21 => ?_) (fun h21 => ?_)
                  · refine And.intro (hB1.2.2.2.2.1) ?_
                    refine And.intro (⟨hB1.2.2.2.2.2.2.1, by omega⟩) ?_
                    have hy := hA1.lay (k := l) (by omega) (by omega)
                    have y1 := hy.2.1
                    have y0 := hy.2.2.1
                    have y2 := hy.2.2.2.1
                    have y7 := hy.2.2.2.2.2.2.1
                    have y8 := hy.2.2.2.2.2.2.2.1
                    have o1 := (hLo hy (by omega)).1
                    have o2 := (hLo hy (by omega)).2
                    have q1 := (hLg hy (by omega)).1
                    have q2 := (hLg hy (by omega)).2
                    refine am_in (k := 0) rfl (by omega) (fun d hd => ?_)
                    refine am_go 400 [] (am_wpc_cm _ _ _) wf_67 ?_
                    refine And.intro (show (m (m (m (m 19 a) 1) l) (-1)) = 7 by first | assumption | omega | (simp only [mS_iff, eq_self, Int.reduceEq, true_and, and_true, false_and, and_false, and_self, ↓reduceIte]; omega) | (simp only [mS_iff, eq_self, Int.reduceEq, true_and, and_true, false_and, and_false, and_self, ↓reduceIte] at *; omega)) ?_
                    refine And.intro rfl ?_
                    refine And.intro (And.intro (fun h22 => ?_) (And.intro (fun h22 => ?_) (And.intro (fun h22 => ?_) (And.intro (fun h22 => ?_) (And.intro (fun h22 => ?_) (And.intro (fun h22 => ?_) (And.intro (fun h22 => ?_) (And.intro (fun h22 => ?_) (And.intro (fun h22 => ?_) (True.intro)))))))))) (fun h22 => ?_)
                    · replace h22 : w = 0 := h22
                      skip
                      refine And.intro (show (m (m (m (m 19 a) 1) l) (-1)) = 7 by first | assumption | omega | (simp only [mS_iff, eq_self, Int.reduceEq, true_and, and_true, false_and, and_false, and_self, ↓reduceIte]; omega) | (simp only [mS_iff, eq_self, Int.reduceEq, true_and, and_true, false_and, and_false, and_self, ↓reduceIte] at *; omega)) ?_
                      refine And.intro (fun h23 => ?_) (fun h23 => ?_)
                      · have ev0 : c_mean S a l w = 0 := by
                          unfold c_mean
                          repeat' split
                          all_goals first | omega | (rw [show w = 0 by omega, Int.add_zero]; omega)
                        have hz := hQ m (fr.wd (by omega))
                        rw [ev0] at hz
                        exact hz
                      · have ev0 : c_mean S a l w = 1 := by
                          unfold c_mean
                          repeat' split
                          all_goals first | omega | (rw [show w = 0 by omega, Int.add_zero]; omega)
                        have hz := hQ m (fr.wd (by omega))
                        rw [ev0] at hz
                        exact hz
                    · replace h22 : w = 1 := h22
                      skip
                      refine And.intro (show (m (m (m (m 19 a) 1) l) (-1)) = 7 by first | assumption | omega | (simp only [mS_iff, eq_self, Int.reduceEq, true_and, and_true, false_and, and_false, and_self, ↓reduceIte]; omega) | (simp only [mS_iff, eq_self, Int.reduceEq, true_and, and_true, false_and, and_false, and_self, ↓reduceIte] at *; omega)) ?_
                      have ev0 : c_mean S a l w = (m (m (m (m 19 a) 1) l) 4) := by
                        unfold c_mean
                        repeat' split
                        all_goals first | omega | (rw [show w = 9 by omega]; first | done | omega)
                      have hz := hQ m (fr.wd (by omega))
                      rw [ev0] at hz
                      exact hz
                    · replace h22 : w = 2 := h22
                      skip
                      refine And.intro (show (m (m (m (m 19 a) 1) l) (-1)) = 7 by first | assumption | omega | (simp only [mS_iff, eq_self, Int.reduceEq, true_and, and_true, false_and, and_false, and_self, ↓reduceIte]; omega) | (simp only [mS_iff, eq_self, Int.reduceEq, true_and, and_true, false_and, and_false, and_self, ↓reduceIte] at *; omega)) ?_
                      have ev0 : c_mean S a l w = (m (m (m (m 19 a) 1) l) 4) := by
                        unfold c_mean
                        repeat' split
                        all_goals first | omega | (rw [show w = 9 by omega]; first | done | omega)
                      have hz := hQ m (fr.wd (by omega))
                      rw [ev0] at hz
                      exact hz
                    · replace h22 : w = 3 := h22
                      skip
                      refine And.intro (show (m (m (m (m 19 a) 1) l) (-1)) = 7 by first | assumption | omega | (simp only [mS_iff, eq_self, Int.reduceEq, true_and, and_true, false_and, and_false, and_self, ↓reduceIte]; omega) | (simp only [mS_iff, eq_self, Int.reduceEq, true_and, and_true, false_and, and_false, and_self, ↓reduceIte] at *; omega)) ?_
                      have ev0 : c_mean S a l w = (m (m (m (m 19 a) 1) l) 4) := by
                        unfold c_mean
                        repeat' split
                        all_goals first | omega | (rw [show w = 9 by omega]; first | done | omega)
                      have hz := hQ m (fr.wd (by omega))
                      rw [ev0] at hz
                      exact hz
                    · replace h22 : w = 4 := h22
                      skip
                      refine And.intro (show (m (m (m (m 19 a) 1) l) (-1)) = 7 by first | assumption | omega | (simp only [mS_iff, eq_self, Int.reduceEq, true_and, and_true, false_and, and_false, and_self, ↓reduceIte]; omega) | (simp only [mS_iff, eq_self, Int.reduceEq, true_and, and_true, false_and, and_false, and_self, ↓reduceIte] at *; omega)) ?_
                      have ev0 : c_mean S a l w = (m (m (m (m 19 a) 1) l) 3) := by
                        unfold c_mean
                        repeat' split
                        all_goals first | omega | (rw [show w = 4 by omega]; first | done | omega)
                      have hz := hQ m (fr.wd (by omega))
                      rw [ev0] at hz
                      exact hz
                    · replace h22 : w = 5 := h22
                      skip
                      refine And.intro (show (m (m (m (m 19 a) 1) l) 2) ≠ -9 by first | omega | (simp only [mS_iff, eq_self, Int.reduceEq, true_and, and_true, false_and, and_false, and_self, ↓reduceIte]; omega) | (simp only [mS_iff, eq_self, Int.reduceEq, true_and, and_true, false_and, and_false, and_self, ↓reduceIte] at *; omega)) ?_
                      refine And.intro (fun h24 => ?_) (fun h24 => ?_)
                      · refine And.intro (show (m (m (m (m (m 19 a) 1) l) 2) (-1)) = 10 by first | assumption | omega | (simp only [mS_iff, eq_self, Int.reduceEq, true_and, and_true, false_and, and_false, and_self, ↓reduceIte]; omega) | (simp only [mS_iff, eq_self, Int.reduceEq, true_and, and_true, false_and, and_false, and_self, ↓reduceIte] at *; omega)) ?_
                        have ev0 : c_mean S a l w = (m (m (m (m (m 19 a) 1) l) 2) 0) := by
                          unfold c_mean
                          repeat' split
                          all_goals first | omega | (rw [show w = 5 by omega]; first | done | omega)
                        have hz := hQ m (fr.wd (by omega))
                        rw [ev0] at hz
                        exact hz
                      · have ev0 : c_mean S a l w = 0 := by
                          unfold c_mean
                          repeat' split
                          all_goals first | omega | (rw [show w = 5 by omega]; first | done | omega)
                        have hz := hQ m (fr.wd (by omega))
                        rw [ev0] at hz
                        exact hz
                    · replace h22 : w = 6 := h22
                      skip
                      refine And.intro (show (m (m (m (m 19 a) 1) l) 2) ≠ -9 by first | omega | (simp only [mS_iff, eq_self, Int.reduceEq, true_and, and_true, false_and, and_false, and_self, ↓reduceIte]; omega) | (simp only [mS_iff, eq_self, Int.reduceEq, true_and, and_true, false_and, and_false, and_self, ↓reduceIte] at *; omega)) ?_
                      refine And.intro (fun h25 => ?_) (fun h25 => ?_)
                      · refine And.intro (show (m (m (m (m (m 19 a) 1) l) 2) (-1)) = 10 by first | assumption | omega | (simp only [mS_iff, eq_self, Int.reduceEq, true_and, and_true, false_and, and_false, and_self, ↓reduceIte]; omega) | (simp only [mS_iff, eq_self, Int.reduceEq, true_and, and_true, false_and, and_false, and_self, ↓reduceIte] at *; omega)) ?_
                        have ev0 : c_mean S a l w = (m (m (m (m (m 19 a) 1) l) 2) 1) := by
                          unfold c_mean
                          repeat' split
                          all_goals first | omega | (rw [show w = 6 by omega]; first | done | omega)
                        have hz := hQ m (fr.wd (by omega))
                        rw [ev0] at hz
                        exact hz
                      · have ev0 : c_mean S a l w = (-1) := by
                          unfold c_mean
                          repeat' split
                          all_goals first | omega | (rw [show w = 6 by omega]; first | done | omega)
                        have hz := hQ m (fr.wd (by omega))
                        rw [ev0] at hz
                        exact hz
                    · replace h22 : w = 7 := h22
                      skip
                      refine And.intro (show (m (m (m (m 19 a) 1) l) 2) ≠ -9 by first | omega | (simp only [mS_iff, eq_self, Int.reduceEq, true_and, and_true, false_and, and_false, and_self, ↓reduceIte]; omega) | (simp only [mS_iff, eq_self, Int.reduceEq, true_and, and_true, false_and, and_false, and_self, ↓reduceIte] at *; omega)) ?_
                      refine And.intro (fun h26 => ?_) (fun h26 => ?_)
                      · refine And.intro (show (m (m (m (m (m 19 a) 1) l) 2) (-1)) = 10 by first | assumption | omega | (simp only [mS_iff, eq_self, Int.reduceEq, true_and, and_true, false_and, and_false, and_self, ↓reduceIte]; omega) | (simp only [mS_iff, eq_self, Int.reduceEq, true_and, and_true, false_and, and_false, and_self, ↓reduceIte] at *; omega)) ?_
                        have ev0 : c_mean S a l w = (m (m (m (m (m 19 a) 1) l) 2) 2) := by
                          unfold c_mean
                          repeat' split
                          all_goals first | omega | (rw [show w = 7 by omega]; first | done | omega)
                        have hz := hQ m (fr.wd (by omega))
                        rw [ev0] at hz
                        exact hz
                      · have ev0 : c_mean S a l w = (-1) := by
                          unfold c_mean
                          repeat' split
                          all_goals first | omega | (rw [show w = 7 by omega]; first | done | omega)
                        have hz := hQ m (fr.wd (by omega))
                        rw [ev0] at hz
                        exact hz
                    · replace h22 : w = 8 := h22
                      skip
                      refine And.intro (show (m (m (m (m 19 a) 1) l) 2) ≠ -9 by first | omega | (simp only [mS_iff, eq_self, Int.reduceEq, true_and, and_true, false_and, and_false, and_self, ↓reduceIte]; omega) | (simp only [mS_iff, eq_self, Int.reduceEq, true_and, and_true, false_and, and_false, and_self, ↓reduceIte] at *; omega)) ?_
                      refine And.intro (fun h27 => ?_) (fun h27 => ?_)
                      · refine And.intro (show (m (m (m (m (m 19 a) 1) l) 2) (-1)) = 10 by first | assumption | omega | (simp only [mS_iff, eq_self, Int.reduceEq, true_and, and_true, false_and, and_false, and_self, ↓reduceIte]; omega) | (simp only [mS_iff, eq_self, Int.reduceEq, true_and, and_true, false_and, and_false, and_self, ↓reduceIte] at *; omega)) ?_
                        have ev0 : c_mean S a l w = (m (m (m (m (m 19 a) 1) l) 2) 3) := by
                          unfold c_mean
                          repeat' split
                          all_goals first | omega | (rw [show w = 8 by omega]; first | done | omega)
                        have hz := hQ m (fr.wd (by omega))
                        rw [ev0] at hz
                        exact hz
                      · have ev0 : c_mean S a l w = (-1) := by
                          unfold c_mean
                          repeat' split
                          all_goals first | omega | (rw [show w = 8 by omega]; first | done | omega)
                        have hz := hQ m (fr.wd (by omega))
                        rw [ev0] at hz
                        exact hz
                    · skip
                      refine And.intro (show (m (m (m (m 19 a) 1) l) (-1)) = 7 by first | assumption | omega | (simp only [mS_iff, eq_self, Int.reduceEq, true_and, and_true, false_and, and_false, and_self, ↓reduceIte]; omega) | (simp only [mS_iff, eq_self, Int.reduceEq, true_and, and_true, false_and, and_false, and_self, ↓reduceIte] at *; omega)) ?_
                      have ev0 : c_mean S a l w = (m (m (m (m 19 a) 1) l) 4) := by
                        unfold c_mean
                        repeat' split
                        all_goals first | omega | (rw [show w = 9 by omega]; first | done | omega)
                      have hz := hQ m (fr.wd (by omega))
                      rw [ev0] at hz
                      exact hz
                  · refine And.intro (hB1.2.2.2.2.1) ?_
                    refine And.intro (⟨hB1.2.2.2.2.2.2.1, by omega⟩) ?_
                    have hy := hA1.lay (k := l) (by omega) (by omega)
                    have y1 := hy.2.1
                    have y0 := hy.2.2.1
                    have y2 := hy.2.2.2.1
                    have y7 := hy.2.2.2.2.2.2.1
                    have y8 := hy.2.2.2.2.2.2.2.1
                    have o1 := (hLo hy (by omega)).1
                    have o2 := (hLo hy (by omega)).2
                    have q1 := (hLg hy (by omega)).1
                    have q2 := (hLg hy (by omega)).2
                    refine And.intro (show (m (m (m (m 19 a) 1) l) (-1)) = 7 by first | assumption | omega | (simp only [mS_iff, eq_self, Int.reduceEq, true_and, and_true, false_and, and_false, and_self, ↓reduceIte]; omega) | (simp only [mS_iff, eq_self, Int.reduceEq, true_and, and_true, false_and, and_false, and_self, ↓reduceIte] at *; omega)) ?_
                    refine am_in (k := 0) rfl (by omega) (fun d hd => ?_)
                    refine am_go 400 [] (am_wpc_cm _ _ _) wf_66 ?_
                    refine And.intro (show (m (m (m (m 19 a) 1) l) 1) ≠ -9 by first | omega | (simp only [mS_iff, eq_self, Int.reduceEq, true_and, and_true, false_and, and_false, and_self, ↓reduceIte]; omega) | (simp only [mS_iff, eq_self, Int.reduceEq, true_and, and_true, false_and, and_false, and_self, ↓reduceIte] at *; omega)) ?_
                    refine And.intro (fun h28 => ?_) (fun h28 => ?_)
                    · refine And.intro (fun h29 => ?_) (fun h29 => ?_)
                      · refine And.intro (fun h30 => ?_) (fun h30 => ?_)
                        · skip
                          refine And.intro (show (m (m (m (m (m 19 a) 1) l) 1) (-1)) = 8 by first | assumption | omega | (simp only [mS_iff, eq_self, Int.reduceEq, true_and, and_true, false_and, and_false, and_self, ↓reduceIte]; omega) | (simp only [mS_iff, eq_self, Int.reduceEq, true_and, and_true, false_and, and_false, and_self, ↓reduceIte] at *; omega)) ?_
                          have ev0 : c_mean S a l w = (m (m (m (m (m 19 a) 1) l) 1) 2) := by
                            unfold c_mean
                            repeat' split
                            all_goals first | omega | (rw [show w = 3 by omega]; first | done | omega)
                          have hz := hQ m (fr.wd (by omega))
                          rw [ev0] at hz
                          exact hz
                        · skip
                          refine And.intro (show (m (m (m (m (m 19 a) 1) l) 1) (-1)) = 8 by first | assumption | omega | (simp only [mS_iff, eq_self, Int.reduceEq, true_and, and_true, false_and, and_false, and_self, ↓reduceIte]; omega) | (simp only [mS_iff, eq_self, Int.reduceEq, true_and, and_true, false_and, and_false, and_self, ↓reduceIte] at *; omega)) ?_
                          have ev0 : c_mean S a l w = (m (m (m (m (m 19 a) 1) l) 1) 1) := by
                            unfold c_mean
                            repeat' split
                            all_goals first | omega | (rw [show w = 2 by omega]; first | done | omega)
                          have hz := hQ m (fr.wd (by omega))
                          rw [ev0] at hz
                          exact hz
                      · skip
                        refine And.intro (show (m (m (m (m (m 19 a) 1) l) 1) (-1)) = 8 by first | assumption | omega | (simp only [mS_iff, eq_self, Int.reduceEq, true_and, and_true, false_and, and_false, and_self, ↓reduceIte]; omega) | (simp only [mS_iff, eq_self, Int.reduceEq, true_and, and_true, false_and, and_false, and_self, ↓reduceIte] at *; omega)) ?_
                        have ev0 : c_mean S a l w = (m (m (m (m (m 19 a) 1) l) 1) 0) := by
                          unfold c_mean
                          repeat' split
                          all_goals first | omega | (rw [show w = 1 by omega]; first | done | omega)
                        have hz := hQ m (fr.wd (by omega))
                        rw [ev0] at hz
                        exact hz
                    · refine And.intro (fun h31 => ?_) (fun h31 => ?_)
                      · skip
                        have ev0 : c_mean S a l w = (-1) := by
                          unfold c_mean
                          repeat' split
                          all_goals first | omega | (rcases (show w = 1 ∨ w = 3 by omega) with e | e <;> (rw [e]; omega))
                        have hz := hQ m (fr.wd (by omega))
                        rw [ev0] at hz
                        exact hz
                      · skip
                        have ev0 : c_mean S a l w = 0 := by
                          unfold c_mean
                          repeat' split
                          all_goals first | omega | (rw [show w = 2 by omega]; first | done | omega)
                        have hz := hQ m (fr.wd (by omega))
                        rw [ev0] at hz
                        exact hz
          · refine And.intro (fun h => absurd h (by decide)) (fun _ => ?_)
            have ev0 : c_mean S a l w = (-3) := by
              unfold c_mean
              repeat' split
              all_goals omega
            have hz := hQ m (fr.wd (by omega))
            rw [ev0] at hz
            exact hz
        · refine ct_39 (by omega) (fun h32 => ?_) (fun h32 => ?_)
          · refine And.intro (fun _ => ?_) (fun h => absurd h (by decide))
            refine And.intro (fun h33 => ?_) (fun h33 => ?_)
            · have hf := hA1.fld
              have f1 := hf.2.1
              have f0 := hf.2.2.1
              have f2 := hf.2.2.2.1
              have f3 := hf.2.2.2.2.1
              have f4 := hf.2.2.2.2.2.1
              have f5 := hf.2.2.2.2.2.2.1
              refine And.intro (hB1.2.2.2.2.1) ?_
              refine And.intro (fun h34 => ?_) (fun h34 => ?_)
              · refine And.intro (fun h35 => ?_) (fun h35 => ?_)
                · refine And.intro (fun h36 => ?_) (fun h36 => ?_)
                  · refine And.intro (fun h37 => ?_) (fun h37 => ?_)
                    · skip
                      refine And.intro (show (m (m (m 19 a) 0) (-1)) = 5 by first | assumption | omega | (simp only [mS_iff, eq_self, Int.reduceEq, true_and, and_true, false_and, and_false, and_self, ↓reduceIte]; omega) | (simp only [mS_iff, eq_self, Int.reduceEq, true_and, and_true, false_and, and_false, and_self, ↓reduceIte] at *; omega)) ?_
                      have ev0 : c_mean S a l w = (m (m (m 19 a) 0) 4) := by
                        unfold c_mean
                        repeat' split
                        all_goals first | omega | (rw [show w = 4 by omega]; first | done | omega)
                      have hz := hQ m (fr.wd (by omega))
                      rw [ev0] at hz
                      exact hz
                    · skip
                      refine And.intro (show (m (m (m 19 a) 0) (-1)) = 5 by first | assumption | omega | (simp only [mS_iff, eq_self, Int.reduceEq, true_and, and_true, false_and, and_false, and_self, ↓reduceIte]; omega) | (simp only [mS_iff, eq_self, Int.reduceEq, true_and, and_true, false_and, and_false, and_self, ↓reduceIte] at *; omega)) ?_
                      have ev0 : c_mean S a l w = (m (m (m 19 a) 0) 3) := by
                        unfold c_mean
                        repeat' split
                        all_goals first | omega | (rw [show w = 3 by omega]; first | done | omega)
                      have hz := hQ m (fr.wd (by omega))
                      rw [ev0] at hz
                      exact hz
                  · skip
                    refine And.intro (show (m (m (m 19 a) 0) (-1)) = 5 by first | assumption | omega | (simp only [mS_iff, eq_self, Int.reduceEq, true_and, and_true, false_and, and_false, and_self, ↓reduceIte]; omega) | (simp only [mS_iff, eq_self, Int.reduceEq, true_and, and_true, false_and, and_false, and_self, ↓reduceIte] at *; omega)) ?_
                    have ev0 : c_mean S a l w = (m (m (m 19 a) 0) 2) := by
                      unfold c_mean
                      repeat' split
                      all_goals first | omega | (rw [show w = 2 by omega]; first | done | omega)
                    have hz := hQ m (fr.wd (by omega))
                    rw [ev0] at hz
                    exact hz
                · skip
                  refine And.intro (show (m (m (m 19 a) 0) (-1)) = 5 by first | assumption | omega | (simp only [mS_iff, eq_self, Int.reduceEq, true_and, and_true, false_and, and_false, and_self, ↓reduceIte]; omega) | (simp only [mS_iff, eq_self, Int.reduceEq, true_and, and_true, false_and, and_false, and_self, ↓reduceIte] at *; omega)) ?_
                  have ev0 : c_mean S a l w = (m (m (m 19 a) 0) 1) := by
                    unfold c_mean
                    repeat' split
                    all_goals first | omega | (rw [show w = 1 by omega]; first | done | omega)
                  have hz := hQ m (fr.wd (by omega))
                  rw [ev0] at hz
                  exact hz
              · skip
                refine And.intro (show (m (m (m 19 a) 0) (-1)) = 5 by first | assumption | omega | (simp only [mS_iff, eq_self, Int.reduceEq, true_and, and_true, false_and, and_false, and_self, ↓reduceIte]; omega) | (simp only [mS_iff, eq_self, Int.reduceEq, true_and, and_true, false_and, and_false, and_self, ↓reduceIte] at *; omega)) ?_
                have ev0 : c_mean S a l w = (m (m (m 19 a) 0) 0) := by
                  unfold c_mean
                  repeat' split
                  all_goals first | omega | (rw [show w = 0 by omega]; first | done | omega)
                have hz := hQ m (fr.wd (by omega))
                rw [ev0] at hz
                exact hz
            · refine And.intro (fun h38 => ?_) (fun h38 => ?_)
              · refine And.intro (hB1.2.2.2.2.1) ?_
                refine And.intro (⟨hB1.2.2.2.2.2.2.1, by omega⟩) ?_
                have hy := hA1.lay (k := l) (by omega) (by omega)
                have y1 := hy.2.1
                have y0 := hy.2.2.1
                have y2 := hy.2.2.2.1
                have y7 := hy.2.2.2.2.2.2.1
                have y8 := hy.2.2.2.2.2.2.2.1
                have o1 := (hLo hy (by omega)).1
                have o2 := (hLo hy (by omega)).2
                have q1 := (hLg hy (by omega)).1
                have q2 := (hLg hy (by omega)).2
                refine And.intro (show (m (m (m (m 19 a) 1) l) (-1)) = 7 by first | assumption | omega | (simp only [mS_iff, eq_self, Int.reduceEq, true_and, and_true, false_and, and_false, and_self, ↓reduceIte]; omega) | (simp only [mS_iff, eq_self, Int.reduceEq, true_and, and_true, false_and, and_false, and_self, ↓reduceIte] at *; omega)) ?_
                refine am_in (k := 0) rfl (by omega) (fun d hd => ?_)
                refine am_go 400 [] (am_wpc_cm _ _ _) wf_66 ?_
                refine And.intro (show (m (m (m (m 19 a) 1) l) 1) ≠ -9 by first | omega | (simp only [mS_iff, eq_self, Int.reduceEq, true_and, and_true, false_and, and_false, and_self, ↓reduceIte]; omega) | (simp only [mS_iff, eq_self, Int.reduceEq, true_and, and_true, false_and, and_false, and_self, ↓reduceIte] at *; omega)) ?_
                refine And.intro (fun h39 => ?_) (fun h39 => ?_)
                · refine And.intro (fun h40 => ?_) (fun h40 => ?_)
                  · refine And.intro (fun h41 => ?_) (fun h41 => ?_)
                    · skip
                      refine And.intro (show (m (m (m (m (m 19 a) 1) l) 1) (-1)) = 8 by first | assumption | omega | (simp only [mS_iff, eq_self, Int.reduceEq, true_and, and_true, false_and, and_false, and_self, ↓reduceIte]; omega) | (simp only [mS_iff, eq_self, Int.reduceEq, true_and, and_true, false_and, and_false, and_self, ↓reduceIte] at *; omega)) ?_
                      have ev0 : c_mean S a l w = (m (m (m (m (m 19 a) 1) l) 1) 2) := by
                        unfold c_mean
                        repeat' split
                        all_goals first | omega | (rw [show w = 3 by omega]; first | done | omega)
                      have hz := hQ m (fr.wd (by omega))
                      rw [ev0] at hz
                      exact hz
                    · skip
                      refine And.intro (show (m (m (m (m (m 19 a) 1) l) 1) (-1)) = 8 by first | assumption | omega | (simp only [mS_iff, eq_self, Int.reduceEq, true_and, and_true, false_and, and_false, and_self, ↓reduceIte]; omega) | (simp only [mS_iff, eq_self, Int.reduceEq, true_and, and_true, false_and, and_false, and_self, ↓reduceIte] at *; omega)) ?_
                      have ev0 : c_mean S a l w = (m (m (m (m (m 19 a) 1) l) 1) 1) := by
                        unfold c_mean
                        repeat' split
                        all_goals first | omega | (rw [show w = 2 by omega]; first | done | omega)
                      have hz := hQ m (fr.wd (by omega))
                      rw [ev0] at hz
                      exact hz
                  · skip
                    refine And.intro (show (m (m (m (m (m 19 a) 1) l) 1) (-1)) = 8 by first | assumption | omega | (simp only [mS_iff, eq_self, Int.reduceEq, true_and, and_true, false_and, and_false, and_self, ↓reduceIte]; omega) | (simp only [mS_iff, eq_self, Int.reduceEq, true_and, and_true, false_and, and_false, and_self, ↓reduceIte] at *; omega)) ?_
                    have ev0 : c_mean S a l w = (m (m (m (m (m 19 a) 1) l) 1) 0) := by
                      unfold c_mean
                      repeat' split
                      all_goals first | omega | (rw [show w = 1 by omega]; first | done | omega)
                    have hz := hQ m (fr.wd (by omega))
                    rw [ev0] at hz
                    exact hz
                · refine And.intro (fun h42 => ?_) (fun h42 => ?_)
                  · skip
                    have ev0 : c_mean S a l w = (-1) := by
                      unfold c_mean
                      repeat' split
                      all_goals first | omega | (rcases (show w = 1 ∨ w = 3 by omega) with e | e <;> (rw [e]; omega))
                    have hz := hQ m (fr.wd (by omega))
                    rw [ev0] at hz
                    exact hz
                  · skip
                    have ev0 : c_mean S a l w = 0 := by
                      unfold c_mean
                      repeat' split
                      all_goals first | omega | (rw [show w = 2 by omega]; first | done | omega)
                    have hz := hQ m (fr.wd (by omega))
                    rw [ev0] at hz
                    exact hz
              · refine And.intro (fun h43 => ?_) (fun h43 => ?_)
                · refine And.intro (hB1.2.2.2.2.1) ?_
                  refine And.intro (⟨hB1.2.2.2.2.2.2.1, by omega⟩) ?_
                  have hy := hA1.lay (k := l) (by omega) (by omega)
                  have y1 := hy.2.1
                  have y0 := hy.2.2.1
                  have y2 := hy.2.2.2.1
                  have y7 := hy.2.2.2.2.2.2.1
                  have y8 := hy.2.2.2.2.2.2.2.1
                  have o1 := (hLo hy (by omega)).1
                  have o2 := (hLo hy (by omega)).2
                  have q1 := (hLg hy (by omega)).1
                  have q2 := (hLg hy (by omega)).2
                  refine And.intro (show (m (m (m (m 19 a) 1) l) (-1)) = 7 by first | assumption | omega | (simp only [mS_iff, eq_self, Int.reduceEq, true_and, and_true, false_and, and_false, and_self, ↓reduceIte]; omega) | (simp only [mS_iff, eq_self, Int.reduceEq, true_and, and_true, false_and, and_false, and_self, ↓reduceIte] at *; omega)) ?_
                  refine am_in (k := 0) rfl (by omega) (fun d hd => ?_)
                  refine am_go 400 [] (am_wpc_cm _ _ _) wf_66 ?_
                  refine And.intro (show (m (m (m (m 19 a) 1) l) 1) ≠ -9 by first | omega | (simp only [mS_iff, eq_self, Int.reduceEq, true_and, and_true, false_and, and_false, and_self, ↓reduceIte]; omega) | (simp only [mS_iff, eq_self, Int.reduceEq, true_and, and_true, false_and, and_false, and_self, ↓reduceIte] at *; omega)) ?_
                  refine And.intro (fun h44 => ?_) (fun h44 => ?_)
                  · refine And.intro (fun h45 => ?_) (fun h45 => ?_)
                    · refine And.intro (fun h46 => ?_) (fun h46 => ?_)
                      · skip
                        refine And.intro (show (m (m (m (m (m 19 a) 1) l) 1) (-1)) = 8 by first | assumption | omega | (simp only [mS_iff, eq_self, Int.reduceEq, true_and, and_true, false_and, and_false, and_self, ↓reduceIte]; omega) | (simp only [mS_iff, eq_self, Int.reduceEq, true_and, and_true, false_and, and_false, and_self, ↓reduceIte] at *; omega)) ?_
                        have ev0 : c_mean S a l w = (m (m (m (m (m 19 a) 1) l) 1) 2) := by
                          unfold c_mean
                          repeat' split
                          all_goals first | omega | (rw [show w = 3 by omega]; first | done | omega)
                        have hz := hQ m (fr.wd (by omega))
                        rw [ev0] at hz
                        exact hz
                      · skip
                        refine And.intro (show (m (m (m (m (m 19 a) 1) l) 1) (-1)) = 8 by first | assumption | omega | (simp only [mS_iff, eq_self, Int.reduceEq, true_and, and_true, false_and, and_false, and_self, ↓reduceIte]; omega) | (simp only [mS_iff, eq_self, Int.reduceEq, true_and, and_true, false_and, and_false, and_self, ↓reduceIte] at *; omega)) ?_
                        have ev0 : c_mean S a l w = (m (m (m (m (m 19 a) 1) l) 1) 1) := by
                          unfold c_mean
                          repeat' split
                          all_goals first | omega | (rw [show w = 2 by omega]; first | done | omega)
                        have hz := hQ m (fr.wd (by omega))
                        rw [ev0] at hz
                        exact hz
                    · skip
                      refine And.intro (show (m (m (m (m (m 19 a) 1) l) 1) (-1)) = 8 by first | assumption | omega | (simp only [mS_iff, eq_self, Int.reduceEq, true_and, and_true, false_and, and_false, and_self, ↓reduceIte]; omega) | (simp only [mS_iff, eq_self, Int.reduceEq, true_and, and_true, false_and, and_false, and_self, ↓reduceIte] at *; omega)) ?_
                      have ev0 : c_mean S a l w = (m (m (m (m (m 19 a) 1) l) 1) 0) := by
                        unfold c_mean
                        repeat' split
                        all_goals first | omega | (rw [show w = 1 by omega]; first | done | omega)
                      have hz := hQ m (fr.wd (by omega))
                      rw [ev0] at hz
                      exact hz
                  · refine And.intro (fun h47 => ?_) (fun h47 => ?_)
                    · skip
                      have ev0 : c_mean S a l w = (-1) := by
                        unfold c_mean
                        repeat' split
                        all_goals first | omega | (rcases (show w = 1 ∨ w = 3 by omega) with e | e <;> (rw [e]; omega))
                      have hz := hQ m (fr.wd (by omega))
                      rw [ev0] at hz
                      exact hz
                    · skip
                      have ev0 : c_mean S a l w = 0 := by
                        unfold c_mean
                        repeat' split
                        all_goals first | omega | (rw [show w = 2 by omega]; first | done | omega)
                      have hz := hQ m (fr.wd (by omega))
                      rw [ev0] at hz
                      exact hz
                · refine And.intro (fun h48 => ?_) (fun h48 => ?_)
                  · refine And.intro (hB1.2.2.2.2.1) ?_
                    refine And.intro (⟨hB1.2.2.2.2.2.2.1, by omega⟩) ?_
                    have hy := hA1.lay (k := l) (by omega) (by omega)
                    have y1 := hy.2.1
                    have y0 := hy.2.2.1
                    have y2 := hy.2.2.2.1
                    have y7 := hy.2.2.2.2.2.2.1
                    have y8 := hy.2.2.2.2.2.2.2.1
                    have o1 := (hLo hy (by omega)).1
                    have o2 := (hLo hy (by omega)).2
                    have q1 := (hLg hy (by omega)).1
                    have q2 := (hLg hy (by omega)).2
                    refine am_in (k := 0) rfl (by omega) (fun d hd => ?_)
                    refine am_go 400 [] (am_wpc_cm _ _ _) wf_67 ?_
                    refine And.intro (show (m (m (m (m 19 a) 1) l) (-1)) = 7 by first | assumption | omega | (simp only [mS_iff, eq_self, Int.reduceEq, true_and, and_true, false_and, and_false, and_self, ↓reduceIte]; omega) | (simp only [mS_iff, eq_self, Int.reduceEq, true_and, and_true, false_and, and_false, and_self, ↓reduceIte] at *; omega)) ?_
                    refine And.intro rfl ?_
                    refine And.intro (And.intro (fun h49 => ?_) (And.intro (fun h49 => ?_) (And.intro (fun h49 => ?_) (And.intro (fun h49 => ?_) (And.intro (fun h49 => ?_) (And.intro (fun h49 => ?_) (And.intro (fun h49 => ?_) (And.intro (fun h49 => ?_) (And.intro (fun h49 => ?_) (True.intro)))))))))) (fun h49 => ?_)
                    · replace h49 : w = 0 := h49
                      skip
                      refine And.intro (show (m (m (m (m 19 a) 1) l) (-1)) = 7 by first | assumption | omega | (simp only [mS_iff, eq_self, Int.reduceEq, true_and, and_true, false_and, and_false, and_self, ↓reduceIte]; omega) | (simp only [mS_iff, eq_self, Int.reduceEq, true_and, and_true, false_and, and_false, and_self, ↓reduceIte] at *; omega)) ?_
                      refine And.intro (fun h50 => ?_) (fun h50 => ?_)
                      · have ev0 : c_mean S a l w = 0 := by
                          unfold c_mean
                          repeat' split
                          all_goals first | omega | (rw [show w = 0 by omega, Int.add_zero]; omega)
                        have hz := hQ m (fr.wd (by omega))
                        rw [ev0] at hz
                        exact hz
                      · have ev0 : c_mean S a l w = 1 := by
                          unfold c_mean
                          repeat' split
                          all_goals first | omega | (rw [show w = 0 by omega, Int.add_zero]; omega)
                        have hz := hQ m (fr.wd (by omega))
                        rw [ev0] at hz
                        exact hz
                    · replace h49 : w = 1 := h49
                      skip
                      refine And.intro (show (m (m (m (m 19 a) 1) l) (-1)) = 7 by first | assumption | omega | (simp only [mS_iff, eq_self, Int.reduceEq, true_and, and_true, false_and, and_false, and_self, ↓reduceIte]; omega) | (simp only [mS_iff, eq_self, Int.reduceEq, true_and, and_true, false_and, and_false, and_self, ↓reduceIte] at *; omega)) ?_
                      have ev0 : c_mean S a l w = (m (m (m (m 19 a) 1) l) 4) := by
                        unfold c_mean
                        repeat' split
                        all_goals first | omega | (rw [show w = 9 by omega]; first | done | omega)
                      have hz := hQ m (fr.wd (by omega))
                      rw [ev0] at hz
                      exact hz
                    · replace h49 : w = 2 := h49
                      skip
                      refine And.intro (show (m (m (m (m 19 a) 1) l) (-1)) = 7 by first | assumption | omega | (simp only [mS_iff, eq_self, Int.reduceEq, true_and, and_true, false_and, and_false, and_self, ↓reduceIte]; omega) | (simp only [mS_iff, eq_self, Int.reduceEq, true_and, and_true, false_and, and_false, and_self, ↓reduceIte] at *; omega)) ?_
                      have ev0 : c_mean S a l w = (m (m (m (m 19 a) 1) l) 4) := by
                        unfold c_mean
                        repeat' split
                        all_goals first | omega | (rw [show w = 9 by omega]; first | done | omega)
                      have hz := hQ m (fr.wd (by omega))
                      rw [ev0] at hz
                      exact hz
                    · replace h49 : w = 3 := h49
                      skip
                      refine And.intro (show (m (m (m (m 19 a) 1) l) (-1)) = 7 by first | assumption | omega | (simp only [mS_iff, eq_self, Int.reduceEq, true_and, and_true, false_and, and_false, and_self, ↓reduceIte]; omega) | (simp only [mS_iff, eq_self, Int.reduceEq, true_and, and_true, false_and, and_false, and_self, ↓reduceIte] at *; omega)) ?_
                      have ev0 : c_mean S a l w = (m (m (m (m 19 a) 1) l) 4) := by
                        unfold c_mean
                        repeat' split
                        all_goals first | omega | (rw [show w = 9 by omega]; first | done | omega)
                      have hz := hQ m (fr.wd (by omega))
                      rw [ev0] at hz
                      exact hz
                    · replace h49 : w = 4 := h49
                      skip
                      refine And.intro (show (m (m (m (m 19 a) 1) l) (-1)) = 7 by first | assumption | omega | (simp only [mS_iff, eq_self, Int.reduceEq, true_and, and_true, false_and, and_false, and_self, ↓reduceIte]; omega) | (simp only [mS_iff, eq_self, Int.reduceEq, true_and, and_true, false_and, and_false, and_self, ↓reduceIte] at *; omega)) ?_
                      have ev0 : c_mean S a l w = (m (m (m (m 19 a) 1) l) 3) := by
                        unfold c_mean
                        repeat' split
                        all_goals first | omega | (rw [show w = 4 by omega]; first | done | omega)
                      have hz := hQ m (fr.wd (by omega))
                      rw [ev0] at hz
                      exact hz
                    · replace h49 : w = 5 := h49
                      skip
                      refine And.intro (show (m (m (m (m 19 a) 1) l) 2) ≠ -9 by first | omega | (simp only [mS_iff, eq_self, Int.reduceEq, true_and, and_true, false_and, and_false, and_self, ↓reduceIte]; omega) | (simp only [mS_iff, eq_self, Int.reduceEq, true_and, and_true, false_and, and_false, and_self, ↓reduceIte] at *; omega)) ?_
                      refine And.intro (fun h51 => ?_) (fun h51 => ?_)
                      · refine And.intro (show (m (m (m (m (m 19 a) 1) l) 2) (-1)) = 10 by first | assumption | omega | (simp only [mS_iff, eq_self, Int.reduceEq, true_and, and_true, false_and, and_false, and_self, ↓reduceIte]; omega) | (simp only [mS_iff, eq_self, Int.reduceEq, true_and, and_true, false_and, and_false, and_self, ↓reduceIte] at *; omega)) ?_
                        have ev0 : c_mean S a l w = (m (m (m (m (m 19 a) 1) l) 2) 0) := by
                          unfold c_mean
                          repeat' split
                          all_goals first | omega | (rw [show w = 5 by omega]; first | done | omega)
                        have hz := hQ m (fr.wd (by omega))
                        rw [ev0] at hz
                        exact hz
                      · have ev0 : c_mean S a l w = 0 := by
                          unfold c_mean
                          repeat' split
                          all_goals first | omega | (rw [show w = 5 by omega]; first | done | omega)
                        have hz := hQ m (fr.wd (by omega))
                        rw [ev0] at hz
                        exact hz
                    · replace h49 : w = 6 := h49
                      skip
                      refine And.intro (show (m (m (m (m 19 a) 1) l) 2) ≠ -9 by first | omega | (simp only [mS_iff, eq_self, Int.reduceEq, true_and, and_true, false_and, and_false, and_self, ↓reduceIte]; omega) | (simp only [mS_iff, eq_self, Int.reduceEq, true_and, and_true, false_and, and_false, and_self, ↓reduceIte] at *; omega)) ?_
                      refine And.intro (fun h52 => ?_) (fun h52 => ?_)
                      · refine And.intro (show (m (m (m (m (m 19 a) 1) l) 2) (-1)) = 10 by first | assumption | omega | (simp only [mS_iff, eq_self, Int.reduceEq, true_and, and_true, false_and, and_false, and_self, ↓reduceIte]; omega) | (simp only [mS_iff, eq_self, Int.reduceEq, true_and, and_true, false_and, and_false, and_self, ↓reduceIte] at *; omega)) ?_
                        have ev0 : c_mean S a l w = (m (m (m (m (m 19 a) 1) l) 2) 1) := by
                          unfold c_mean
                          repeat' split
                          all_goals first | omega | (rw [show w = 6 by omega]; first | done | omega)
                        have hz := hQ m (fr.wd (by omega))
                        rw [ev0] at hz
                        exact hz
                      · have ev0 : c_mean S a l w = (-1) := by
                          unfold c_mean
                          repeat' split
                          all_goals first | omega | (rw [show w = 6 by omega]; first | done | omega)
                        have hz := hQ m (fr.wd (by omega))
                        rw [ev0] at hz
                        exact hz
                    · replace h49 : w = 7 := h49
                      skip
                      refine And.intro (show (m (m (m (m 19 a) 1) l) 2) ≠ -9 by first | omega | (simp only [mS_iff, eq_self, Int.reduceEq, true_and, and_true, false_and, and_false, and_self, ↓reduceIte]; omega) | (simp only [mS_iff, eq_self, Int.reduceEq, true_and, and_true, false_and, and_false, and_self, ↓reduceIte] at *; omega)) ?_
                      refine And.intro (fun h53 => ?_) (fun h53 => ?_)
                      · refine And.intro (show (m (m (m (m (m 19 a) 1) l) 2) (-1)) = 10 by first | assumption | omega | (simp only [mS_iff, eq_self, Int.reduceEq, true_and, and_true, false_and, and_false, and_self, ↓reduceIte]; omega) | (simp only [mS_iff, eq_self, Int.reduceEq, true_and, and_true, false_and, and_false, and_self, ↓reduceIte] at *; omega)) ?_
                        have ev0 : c_mean S a l w = (m (m (m (m (m 19 a) 1) l) 2) 2) := by
                          unfold c_mean
                          repeat' split
                          all_goals first | omega | (rw [show w = 7 by omega]; first | done | omega)
                        have hz := hQ m (fr.wd (by omega))
                        rw [ev0] at hz
                        exact hz
                      · have ev0 : c_mean S a l w = (-1) := by
                          unfold c_mean
                          repeat' split
                          all_goals first | omega | (rw [show w = 7 by omega]; first | done | omega)
                        have hz := hQ m (fr.wd (by omega))
                        rw [ev0] at hz
                        exact hz
                    · replace h49 : w = 8 := h49
                      skip
                      refine And.intro (show (m (m (m (m 19 a) 1) l) 2) ≠ -9 by first | omega | (simp only [mS_iff, eq_self, Int.reduceEq, true_and, and_true, false_and, and_false, and_self, ↓reduceIte]; omega) | (simp only [mS_iff, eq_self, Int.reduceEq, true_and, and_true, false_and, and_false, and_self, ↓reduceIte] at *; omega)) ?_
                      refine And.intro (fun h54 => ?_) (fun h54 => ?_)
                      · refine And.intro (show (m (m (m (m (m 19 a) 1) l) 2) (-1)) = 10 by first | assumption | omega | (simp only [mS_iff, eq_self, Int.reduceEq, true_and, and_true, false_and, and_false, and_self, ↓reduceIte]; omega) | (simp only [mS_iff, eq_self, Int.reduceEq, true_and, and_true, false_and, and_false, and_self, ↓reduceIte] at *; omega)) ?_
                        have ev0 : c_mean S a l w = (m (m (m (m (m 19 a) 1) l) 2) 3) := by
                          unfold c_mean
                          repeat' split
                          all_goals first | omega | (rw [show w = 8 by omega]; first | done | omega)
                        have hz := hQ m (fr.wd (by omega))
                        rw [ev0] at hz
                        exact hz
                      · have ev0 : c_mean S a l w = (-1) := by
                          unfold c_mean
                          repeat' split
                          all_goals first | omega | (rw [show w = 8 by omega]; first | done | omega)
                        have hz := hQ m (fr.wd (by omega))
                        rw [ev0] at hz
                        exact hz
                    · skip
                      refine And.intro (show (m (m (m (m 19 a) 1) l) (-1)) = 7 by first | assumption | omega | (simp only [mS_iff, eq_self, Int.reduceEq, true_and, and_true, false_and, and_false, and_self, ↓reduceIte]; omega) | (simp only [mS_iff, eq_self, Int.reduceEq, true_and, and_true, false_and, and_false, and_self, ↓reduceIte] at *; omega)) ?_
                      have ev0 : c_mean S a l w = (m (m (m (m 19 a) 1) l) 4) := by
                        unfold c_mean
                        repeat' split
                        all_goals first | omega | (rw [show w = 9 by omega]; first | done | omega)
                      have hz := hQ m (fr.wd (by omega))
                      rw [ev0] at hz
                      exact hz
                  · refine And.intro (hB1.2.2.2.2.1) ?_
                    refine And.intro (⟨hB1.2.2.2.2.2.2.1, by omega⟩) ?_
                    have hy := hA1.lay (k := l) (by omega) (by omega)
                    have y1 := hy.2.1
                    have y0 := hy.2.2.1
                    have y2 := hy.2.2.2.1
                    have y7 := hy.2.2.2.2.2.2.1
                    have y8 := hy.2.2.2.2.2.2.2.1
                    have o1 := (hLo hy (by omega)).1
                    have o2 := (hLo hy (by omega)).2
                    have q1 := (hLg hy (by omega)).1
                    have q2 := (hLg hy (by omega)).2
                    refine And.intro (show (m (m (m (m 19 a) 1) l) (-1)) = 7 by first | assumption | omega | (simp only [mS_iff, eq_self, Int.reduceEq, true_and, and_true, false_and, and_false, and_self, ↓reduceIte]; omega) | (simp only [mS_iff, eq_self, Int.reduceEq, true_and, and_true, false_and, and_false, and_self, ↓reduceIte] at *; omega)) ?_
                    refine am_in (k := 0) rfl (by omega) (fun d hd => ?_)
                    refine am_go 400 [] (am_wpc_cm _ _ _) wf_66 ?_
                    refine And.intro (show (m (m (m (m 19 a) 1) l) 1) ≠ -9 by first | omega | (simp only [mS_iff, eq_self, Int.reduceEq, true_and, and_true, false_and, and_false, and_self, ↓reduceIte]; omega) | (simp only [mS_iff, eq_self, Int.reduceEq, true_and, and_true, false_and, and_false, and_self, ↓reduceIte] at *; omega)) ?_
                    refine And.intro (fun h55 => ?_) (fun h55 => ?_)
                    · refine And.intro (fun h56 => ?_) (fun h56 => ?_)
                      · refine And.intro (fun h57 => ?_) (fun h57 => ?_)
                        · skip
                          refine And.intro (show (m (m (m (m (m 19 a) 1) l) 1) (-1)) = 8 by first | assumption | omega | (simp only [mS_iff, eq_self, Int.reduceEq, true_and, and_true, false_and, and_false, and_self, ↓reduceIte]; omega) | (simp only [mS_iff, eq_self, Int.reduceEq, true_and, and_true, false_and, and_false, and_self, ↓reduceIte] at *; omega)) ?_
                          have ev0 : c_mean S a l w = (m (m (m (m (m 19 a) 1) l) 1) 2) := by
                            unfold c_mean
                            repeat' split
                            all_goals first | omega | (rw [show w = 3 by omega]; first | done | omega)
                          have hz := hQ m (fr.wd (by omega))
                          rw [ev0] at hz
                          exact hz
                        · skip
                          refine And.intro (show (m (m (m (m (m 19 a) 1) l) 1) (-1)) = 8 by first | assumption | omega | (simp only [mS_iff, eq_self, Int.reduceEq, true_and, and_true, false_and, and_false, and_self, ↓reduceIte]; omega) | (simp only [mS_iff, eq_self, Int.reduceEq, true_and, and_true, false_and, and_false, and_self, ↓reduceIte] at *; omega)) ?_
                          have ev0 : c_mean S a l w = (m (m (m (m (m 19 a) 1) l) 1) 1) := by
                            unfold c_mean
                            repeat' split
                            all_goals first | omega | (rw [show w = 2 by omega]; first | done | omega)
                          have hz := hQ m (fr.wd (by omega))
                          rw [ev0] at hz
                          exact hz
                      · skip
                        refine And.intro (show (m (m (m (m (m 19 a) 1) l) 1) (-1)) = 8 by first | assumption | omega | (simp only [mS_iff, eq_self, Int.reduceEq, true_and, and_true, false_and, and_false, and_self, ↓reduceIte]; omega) | (simp only [mS_iff, eq_self, Int.reduceEq, true_and, and_true, false_and, and_false, and_self, ↓reduceIte] at *; omega)) ?_
                        have ev0 : c_mean S a l w = (m (m (m (m (m 19 a) 1) l) 1) 0) := by
                          unfold c_mean
                          repeat' split
                          all_goals first | omega | (rw [show w = 1 by omega]; first | done | omega)
                        have hz := hQ m (fr.wd (by omega))
                        rw [ev0] at hz
                        exact hz
                    · refine And.intro (fun h58 => ?_) (fun h58 => ?_)
                      · skip
                        have ev0 : c_mean S a l w = (-1) := by
                          unfold c_mean
                          repeat' split
                          all_goals first | omega | (rcases (show w = 1 ∨ w = 3 by omega) with e | e <;> (rw [e]; omega))
                        have hz := hQ m (fr.wd (by omega))
                        rw [ev0] at hz
                        exact hz
                      · skip
                        have ev0 : c_mean S a l w = 0 := by
                          unfold c_mean
                          repeat' split
                          all_goals first | omega | (rw [show w = 2 by omega]; first | done | omega)
                        have hz := hQ m (fr.wd (by omega))
                        rw [ev0] at hz
                        exact hz
          · refine And.intro (fun h => absurd h (by decide)) (fun _ => ?_)
            have ev0 : c_mean S a l w = (-3) := by
              unfold c_mean
              repeat' split
              all_goals omega
            have hz := hQ m (fr.wd (by omega))
            rw [ev0] at hz
            exact hz
      · refine And.intro (fun h => absurd h (by decide)) (fun _ => ?_)
        have ev0 : c_mean S a l w = (-2) := by
          unfold c_mean
          repeat' split
          all_goals omega
        have hz := hQ m (fr.wd (by omega))
        rw [ev0] at hz
        exact hz
  · have fr := fr.trans fx
    have cn := fr.1
    have cs := fr.2.1
    refine And.intro (by decide) ?_
    refine And.intro (fun _ => ?_) (fun h => absurd h (by decide))
    have ev0 : c_mean S a l w = (-2) := by
      unfold c_mean
      repeat' split
      all_goals omega
    have hz := hQ mw1 (fr.wd (by omega))
    rw [ev0] at hz
    exact hz
theorem s_bt_b {w : Int → Int} (h : 0 ≤ w 5 ∧ w 5 ≤ 6) : 0 ≤ s_bt w ∧ s_bt w ≤ 18 := by
  have := s_bn_b w h.1 h.2
  unfold s_bt
  omega
theorem s_ct_b {S : aM} {day : Int} : 0 ≤ s_ct S day ∧ s_ct S day ≤ 1700 := s_cn_b S day (by omega)
/-- the i-th breach; the i-th conflict; the i-th clash -/
def c_br (S : aM) (a i v : Int) : Prop := if v_has S a then (if 0 ≤ i ∧ i < s_bt (S (100 + a)) then (∀ c, s_bi (S (100 + a)) (S (100 + a) 5) i c → v = c) else v = -3) else v = -2
def c_cf (S : aM) (a day i v : Int) : Prop := if v_has S a then (if v_day day ∧ 0 ≤ i ∧ i < s_sum (s_cf S (S (100 + a)) day) (S 0 5).toNat then (∀ e, s_ith (s_cf S (S (100 + a)) day) (S 0 5) i e → v = e) else v = -3) else v = -2
noncomputable def c_cls (S : aM) (day : Int) : Int := if v_day day then s_ct S day else -3
def c_cl (S : aM) (day i v : Int) : Prop := if v_day day ∧ 0 ≤ i ∧ i < s_ct S day then (∀ q, s_ci S day 1700 i q → v = s_cv q) else v = -3
theorem hs_77 {d : Nat} {m : aM} {Q : aO → aM → Prop} {S : aM} {F : Int → aD} {lo hi cl ch : Int → Int} {a i : Int} (hd : 60 ≤ d) (h : hI S F lo hi cl ch m) (hr : hRo 1 m) (hQ : ∀ v m', hFr 90 m m' → c_br S a i v → Q (.inl (some (aI v))) m') : am_wpc am_G am_T d 77 [aR 1, aI a, aI i] m Q := by
  have fr := hFr.rfl m
  obtain ⟨r1, r2, r3, r4, r5⟩ := id hr
  have hS := h.2.2.2.1
  have h0 := h.1
  have s1 := hS.1
  obtain ⟨dk, hdk⟩ : ∃ k, d = k + 1 := ⟨d - 1, by omega⟩
  refine am_in (k := dk) rfl (by omega) (fun d hd => ?_)
  refine am_go 400 [] (am_wpc_cm _ _ _) wf_77 ?_
  refine And.intro (rfl) ?_
  refine am_in (k := 3) rfl (by omega) (fun d hd => ?_)
  refine am_go 400 [] (am_wpc_cm _ _ _) wf_76 ?_
  refine And.intro (rfl) ?_
  refine ct_59 (by omega) h (by omega) (fun t1 => ?_) (fun t1 mw1 fx => ?_)
  · have hA1 := hS.2.2.1 a t1.1 t1.2
    have hB1 := hA1.basic
    refine And.intro (fun _ => ?_) (fun h => absurd h (by decide))
    refine And.intro (rfl) ?_
    refine And.intro (⟨rfl, by first | omega | (simp only [mS_iff, eq_self, Int.reduceEq, true_and, and_true, false_and, and_false, and_self, ↓reduceIte]; omega) | (simp only [mS_iff, eq_self, Int.reduceEq, true_and, and_true, false_and, and_false, and_self, ↓reduceIte] at *; omega)⟩) ?_
    refine And.intro (rfl) ?_
    refine ct_35 (by omega) hA1 (fun mj fj bj bi => ?_)
    have fr := fr.trans fj.H
    have bb := s_bt_b hB1.2.2.2.2.2.2.2.2
    refine And.intro (rfl) ?_
    refine And.intro (fun h2 => ?_) (fun h2 => ?_)
    · refine And.intro (show -2147483648 ≤ (mj 1 5) - 1 ∧ (mj 1 5) - 1 ≤ 2147483647 by first | omega | (simp only [mS_iff, eq_self, Int.reduceEq, true_and, and_true, false_and, and_false, and_self, ↓reduceIte]; omega) | (simp only [mS_iff, eq_self, Int.reduceEq, true_and, and_true, false_and, and_false, and_self, ↓reduceIte] at *; omega)) ?_
      refine ct_39 (by omega) (fun h3 => ?_) (fun h3 => ?_)
      · refine And.intro (fun h => absurd h (by decide)) (fun _ => ?_)
        skip
        refine And.intro (rfl) ?_
        refine And.intro (⟨rfl, by omega⟩) ?_
        refine hQ _ _ (fr.wd (by omega)) ?_
        unfold c_br
        rw [if_pos t1, if_pos (by omega)]
        exact bi _
      · refine And.intro (fun _ => ?_) (fun h => absurd h (by decide))
        refine hQ _ _ (fr.wd (by omega)) ?_
        unfold c_br
        rw [if_pos t1, if_neg (by omega)]
    · exfalso
      omega
  · have fr := fr.trans fx
    have cn := fr.1
    have cs := fr.2.1
    refine And.intro (fun h => absurd h (by decide)) (fun _ => ?_)
    refine And.intro (fun h => absurd h (by decide)) (fun _ => ?_)
    refine hQ _ _ (fr.wd (by omega)) ?_
    unfold c_br
    rw [if_neg t1]
theorem ct_95 {d : Nat} {m : aM} {Q : aO → aM → Prop} {x : Int} (hd : 2 ≤ d) (hQ1 : v_day x → Q (.inl (some (aI 1))) m) (hQ0 : ¬ v_day x → Q (.inl (some (aI 0))) m) : am_wpc am_G am_T d 95 [aI x] m Q := by
  refine am_in rfl hd (fun d hd => ?_)
  refine am_go 400 [] (am_wpc_cm _ _ _) wf_95 ?_
  refine ct_39 (by omega) (fun h1 => ?_) (fun h1 => ?_)
  · refine And.intro (by first | omega | (simp only [mS_iff, eq_self, Int.reduceEq, true_and, and_true, false_and, and_false, and_self, ↓reduceIte]; omega) | (simp only [mS_iff, eq_self, Int.reduceEq, true_and, and_true, false_and, and_false, and_self, ↓reduceIte] at *; omega)) ?_
    exact hQ1 (by assumption)
  · refine And.intro (by first | omega | (simp only [mS_iff, eq_self, Int.reduceEq, true_and, and_true, false_and, and_false, and_self, ↓reduceIte]; omega) | (simp only [mS_iff, eq_self, Int.reduceEq, true_and, and_true, false_and, and_false, and_self, ↓reduceIte] at *; omega)) ?_
    exact hQ0 (by assumption)
theorem hs_112 {d : Nat} {m : aM} {Q : aO → aM → Prop} {S : aM} {F : Int → aD} {lo hi cl ch : Int → Int} {a day : Int} (hd : 60 ≤ d) (h : hI S F lo hi cl ch m) (hr : hRo 1 m)  (hQ : ∀ m', hFr 90 m m' → Q (.inl (some (aI (c_cfs S a day)))) m') : am_wpc am_G am_T d 112 [aR 1, aI a, aI day] m Q := by
  have fr := hFr.rfl m
  obtain ⟨r1, r2, r3, r4, r5⟩ := id hr
  have hS := h.2.2.2.1
  have h0 := h.1
  have s1 := hS.1
  obtain ⟨dk, hdk⟩ : ∃ k, d = k + 1 := ⟨d - 1, by omega⟩
  refine am_in (k := dk) rfl (by omega) (fun d hd => ?_)
  refine am_go 400 [] (am_wpc_cm _ _ _) wf_112 ?_
  refine And.intro (rfl) ?_
  refine ct_59 (by omega) h (by omega) (fun t1 => ?_) (fun t1 mw1 fx => ?_)
  · have hA1 := hS.2.2.1 a t1.1 t1.2
    have hB1 := hA1.basic
    refine And.intro (fun _ => ?_) (fun h => absurd h (by decide))
    refine ct_95 (by omega) (fun h2 => ?_) (fun h2 => ?_)
    · have dy := h2
      refine And.intro (fun h => absurd h (by decide)) (fun _ => ?_)
      refine And.intro (rfl) ?_
      refine And.intro (⟨rfl, by first | omega | (simp only [mS_iff, eq_self, Int.reduceEq, true_and, and_true, false_and, and_false, and_self, ↓reduceIte]; omega) | (simp only [mS_iff, eq_self, Int.reduceEq, true_and, and_true, false_and, and_false, and_self, ↓reduceIte] at *; omega)⟩) ?_
      refine And.intro (rfl) ?_
      refine ct_113 (by omega) hS h.2.2.2.2.1 hA1 (fun mc v3 fc h4 ci => ?_)
      have fr := fr.trans fc.H
      have cb := (s_sum_b (c := 1) (s_cf_b S (S (100 + a)) day) (S 0 5).toNat)
      have c5 := h.2.2.2.2.1.1.1
      have ev0 : c_cfs S a day = v3 := by
        unfold c_cfs
        repeat' split
        all_goals omega
      have hz := hQ mc (fr.wd (by omega))
      rw [ev0] at hz
      exact hz
    · have dn := h2
      refine And.intro (fun _ => ?_) (fun h => absurd h (by decide))
      have ev0 : c_cfs S a day = (-3) := by
        unfold c_cfs
        repeat' split
        all_goals omega
      have hz := hQ m (fr.wd (by omega))
      rw [ev0] at hz
      exact hz
  · have fr := fr.trans fx
    have cn := fr.1
    have cs := fr.2.1
    refine And.intro (fun h => absurd h (by decide)) (fun _ => ?_)
    have ev0 : c_cfs S a day = (-2) := by
      unfold c_cfs
      repeat' split
      all_goals omega
    have hz := hQ mw1 (fr.wd (by omega))
    rw [ev0] at hz
    exact hz
theorem hs_114 {d : Nat} {m : aM} {Q : aO → aM → Prop} {S : aM} {F : Int → aD} {lo hi cl ch : Int → Int} {a day i : Int} (hd : 60 ≤ d) (h : hI S F lo hi cl ch m) (hr : hRo 1 m) (hQ : ∀ v m', hFr 90 m m' → c_cf S a day i v → Q (.inl (some (aI v))) m') : am_wpc am_G am_T d 114 [aR 1, aI a, aI day, aI i] m Q := by
  have fr := hFr.rfl m
  obtain ⟨r1, r2, r3, r4, r5⟩ := id hr
  have hS := h.2.2.2.1
  have h0 := h.1
  have s1 := hS.1
  obtain ⟨dk, hdk⟩ : ∃ k, d = k + 1 := ⟨d - 1, by omega⟩
  refine am_in (k := dk) rfl (by omega) (fun d hd => ?_)
  refine am_go 400 [] (am_wpc_cm _ _ _) wf_114 ?_
  refine And.intro (rfl) ?_
  refine ct_59 (by omega) h (by omega) (fun t1 => ?_) (fun t1 mw1 fx => ?_)
  · have hA1 := hS.2.2.1 a t1.1 t1.2
    have hB1 := hA1.basic
    refine And.intro (fun _ => ?_) (fun h => absurd h (by decide))
    refine ct_95 (by omega) (fun h2 => ?_) (fun h2 => ?_)
    · have dy := h2
      refine And.intro (fun h => absurd h (by decide)) (fun _ => ?_)
      refine And.intro (rfl) ?_
      refine And.intro (⟨rfl, by first | omega | (simp only [mS_iff, eq_self, Int.reduceEq, true_and, and_true, false_and, and_false, and_self, ↓reduceIte]; omega) | (simp only [mS_iff, eq_self, Int.reduceEq, true_and, and_true, false_and, and_false, and_self, ↓reduceIte] at *; omega)⟩) ?_
      refine And.intro (rfl) ?_
      refine ct_113 (by omega) hS h.2.2.2.2.1 hA1 (fun mc v3 fc h4 ci => ?_)
      have fr := fr.trans fc.H
      have cb := (s_sum_b (c := 1) (s_cf_b S (S (100 + a)) day) (S 0 5).toNat)
      have c5 := h.2.2.2.2.1.1.1
      refine And.intro (show -2147483648 ≤ v3 - 1 ∧ v3 - 1 ≤ 2147483647 by first | omega | (simp only [mS_iff, eq_self, Int.reduceEq, true_and, and_true, false_and, and_false, and_self, ↓reduceIte]; omega) | (simp only [mS_iff, eq_self, Int.reduceEq, true_and, and_true, false_and, and_false, and_self, ↓reduceIte] at *; omega)) ?_
      refine ct_39 (by omega) (fun h5 => ?_) (fun h5 => ?_)
      · refine And.intro (fun h => absurd h (by decide)) (fun _ => ?_)
        skip
        refine And.intro (rfl) ?_
        refine hQ _ _ (fr.wd (by omega)) ?_
        unfold c_cf
        rw [if_pos t1, if_pos (by omega)]
        exact ci
      · refine And.intro (fun _ => ?_) (fun h => absurd h (by decide))
        refine hQ _ _ (fr.wd (by omega)) ?_
        unfold c_cf
        rw [if_pos t1, if_neg (by omega)]
    · have dn := h2
      refine And.intro (fun _ => ?_) (fun h => absurd h (by decide))
      refine hQ _ _ (fr.wd (by omega)) ?_
      unfold c_cf
      rw [if_pos t1, if_neg (by omega)]
  · have fr := fr.trans fx
    have cn := fr.1
    have cs := fr.2.1
    refine And.intro (fun h => absurd h (by decide)) (fun _ => ?_)
    refine hQ _ _ (fr.wd (by omega)) ?_
    unfold c_cf
    rw [if_neg t1]
theorem hs_105 {d : Nat} {m : aM} {Q : aO → aM → Prop} {S : aM} {F : Int → aD} {lo hi cl ch : Int → Int} {day : Int} (hd : 60 ≤ d) (h : hI S F lo hi cl ch m) (hr : hRo 1 m)  (hQ : ∀ m', hFr 90 m m' → Q (.inl (some (aI (c_cls S day)))) m') : am_wpc am_G am_T d 105 [aR 1, aI day] m Q := by
  have fr := hFr.rfl m
  obtain ⟨r1, r2, r3, r4, r5⟩ := id hr
  have hS := h.2.2.2.1
  have h0 := h.1
  have s1 := hS.1
  obtain ⟨dk, hdk⟩ : ∃ k, d = k + 1 := ⟨d - 1, by omega⟩
  refine am_in (k := dk) rfl (by omega) (fun d hd => ?_)
  refine am_go 400 [] (am_wpc_cm _ _ _) wf_105 ?_
  refine ct_95 (by omega) (fun h1 => ?_) (fun h1 => ?_)
  · have dy := h1
    refine And.intro (fun h => absurd h (by decide)) (fun _ => ?_)
    refine And.intro (rfl) ?_
    refine ct_106 (by omega) hS h.2.2.2.2.2.1 (fun mc v2 fc h3 ci => ?_)
    have fr := fr.trans fc.H
    have cb := s_ct_b (S := S) (day := day)
    have ev0 : c_cls S day = v2 := by
      unfold c_cls
      repeat' split
      all_goals omega
    have hz := hQ mc (fr.wd (by omega))
    rw [ev0] at hz
    exact hz
  · have dn := h1
    refine And.intro (fun _ => ?_) (fun h => absurd h (by decide))
    have ev0 : c_cls S day = (-3) := by
      unfold c_cls
      repeat' split
      all_goals omega
    have hz := hQ m (fr.wd (by omega))
    rw [ev0] at hz
    exact hz
theorem hs_108 {d : Nat} {m : aM} {Q : aO → aM → Prop} {S : aM} {F : Int → aD} {lo hi cl ch : Int → Int} {day i : Int} (hd : 60 ≤ d) (h : hI S F lo hi cl ch m) (hr : hRo 1 m) (hQ : ∀ v m', hFr 90 m m' → c_cl S day i v → Q (.inl (some (aI v))) m') : am_wpc am_G am_T d 108 [aR 1, aI day, aI i] m Q := by
  have fr := hFr.rfl m
  obtain ⟨r1, r2, r3, r4, r5⟩ := id hr
  have hS := h.2.2.2.1
  have h0 := h.1
  have s1 := hS.1
  obtain ⟨dk, hdk⟩ : ∃ k, d = k + 1 := ⟨d - 1, by omega⟩
  refine am_in (k := dk) rfl (by omega) (fun d hd => ?_)
  refine am_go 400 [] (am_wpc_cm _ _ _) wf_108 ?_
  refine ct_95 (by omega) (fun h1 => ?_) (fun h1 => ?_)
  · have dy := h1
    refine And.intro (fun h => absurd h (by decide)) (fun _ => ?_)
    refine And.intro (rfl) ?_
    refine ct_106 (by omega) hS h.2.2.2.2.2.1 (fun mc v2 fc h3 ci => ?_)
    have fr := fr.trans fc.H
    have cb := s_ct_b (S := S) (day := day)
    refine And.intro (show -2147483648 ≤ v2 - 1 ∧ v2 - 1 ≤ 2147483647 by first | omega | (simp only [mS_iff, eq_self, Int.reduceEq, true_and, and_true, false_and, and_false, and_self, ↓reduceIte]; omega) | (simp only [mS_iff, eq_self, Int.reduceEq, true_and, and_true, false_and, and_false, and_self, ↓reduceIte] at *; omega)) ?_
    refine ct_39 (by omega) (fun h4 => ?_) (fun h4 => ?_)
    · refine And.intro (fun h => absurd h (by decide)) (fun _ => ?_)
      skip
      refine And.intro (rfl) ?_
      refine hQ _ _ (fr.wd (by omega)) ?_
      unfold c_cl
      rw [if_pos (by omega)]
      exact ci
    · refine And.intro (fun _ => ?_) (fun h => absurd h (by decide))
      refine hQ _ _ (fr.wd (by omega)) ?_
      unfold c_cl
      rw [if_neg (by omega)]
  · have dn := h1
    refine And.intro (fun _ => ?_) (fun h => absurd h (by decide))
    refine hQ _ _ (fr.wd (by omega)) ?_
    unfold c_cl
    rw [if_neg (by omega)]
