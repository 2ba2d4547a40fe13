/-! needs: d02 -/
/-! CALLS of the family: tally, show, find, house; by tools/gend3.py -/
set_option maxRecDepth 100000
set_option maxHeartbeats 8000000
/-- what the calls of the family tell -/
noncomputable def t_n (a n : Int) : Int := if a + n ≤ fN then n else fN - a
noncomputable def t_f (F : Int → aD) (c a k : Int) : Int := @ite Int (t_y (F c) (fw (fG (a + k)))) (Classical.propDecidable _) 1 0
noncomputable def c_tal (S : aM) (F : Int → aD) (c a n : Int) : Int := if 0 ≤ c ∧ c < S 0 6 then (if (0 ≤ a ∧ a < fN) ∧ 1 ≤ n ∧ n ≤ 8 then s_sum (t_f F c a) (t_n a n).toNat else -3) else -2
def t_P (F : Int → aD) (c a n r : Int) : Prop := (a ≤ r ∧ r < a + n ∧ r < fN) ∧ ¬ t_y (F c) (fw (fG r))
noncomputable def c_shw (S : aM) (F : Int → aD) (c a n : Int) : Int × aM := if 0 ≤ c ∧ c < S 0 6 then (if (0 ≤ a ∧ a < fN) ∧ 1 ≤ n ∧ n ≤ 8 then ((if s_fst (t_P F c a n) fN = -1 then 1 else 0), mS S 0 9 (s_fst (t_P F c a n) fN)) else (-3, S)) else (-2, S)
def t_R (S : aM) (F : Int → aD) (c day a n i : Int) : Prop := (a ≤ i ∧ i < a + n ∧ i < 21681) ∧ s_bt (fw i) = 0 ∧ t_y (F c) (fw i) ∧ s_sum (s_cf S (fw i) day) (S 0 5).toNat = 0
noncomputable def c_fnd (S : aM) (F : Int → aD) (c day a n : Int) : Int := if 0 ≤ c ∧ c < S 0 6 then (if (0 ≤ day ∧ day ≤ 9999) ∧ (0 ≤ a ∧ a < 21681) ∧ 1 ≤ n ∧ n ≤ 8 then s_fst (t_R S F c day a n) 21681 else -3) else -2
/-- the house while clauses are asked of lent arms -/
def hLv (S : aM) (F : Int → aD) (lo hi cl ch : Int → Int) (m : aM) (t : Int) (w : aM) : Prop := hI S F lo hi cl ch w ∧ hFam w ∧ (m 0 0 ≤ w 0 0 ∧ w 0 0 ≤ m 0 0 + 26 * t) ∧ (m 0 1 ≤ w 0 1 ∧ 3 * w 0 1 ≤ 3 * m 0 1 + 26000 * t) ∧ w 1 14 = m 1 14 ∧ (∀ x j, 41 ≤ x → x ≤ 76 → w x j = m x j)
theorem hLv.mem {S : aM} {F : Int → aD} {lo hi cl ch : Int → Int} {m w w' : aM} {t : Int} (h : hLv S F lo hi cl ch m t w) (ff : ∀ x j, x ≠ 30 → x ≠ 34 → x ≠ 39 → w' x j = w x j) (fo : hFo w') : hLv S F lo hi cl ch m t w' := by
  obtain ⟨h1, h2, h3, h4, h5, h6⟩ := h
  have e0 := ff 0 0 (by omega) (by omega) (by omega)
  have e1 := ff 0 1 (by omega) (by omega) (by omega)
  exact ⟨h1.ext (fun x j u => ff x j (by omega) (by omega) (by omega)), ⟨⟨by rw [ff 1 45 (by omega) (by omega) (by omega)]; exact h2.1.1, fun r a b => by rw [ff 37 r (by omega) (by omega) (by omega)]; exact h2.1.2 r a b⟩, fo⟩, by omega, by omega, by rw [ff 1 14 (by omega) (by omega) (by omega)]; exact h5, fun x j a b => by rw [ff x j (by omega) (by omega) (by omega)]; exact h6 x j a b⟩
theorem hLv.fr {S : aM} {F : Int → aD} {lo hi cl ch : Int → Int} {m w w' : aM} {t s c : Int} (h : hLv S F lo hi cl ch m t w) (f : hFr c w w') (h0 : 77 ≤ w 0 0) (hs : c ≤ 26 * s) (q : 3 * w' 0 1 ≤ 3 * w 0 1 + 26000 * s) : hLv S F lo hi cl ch m (t + s) w' := by
  obtain ⟨h1, h2, h3, h4, h5, h6⟩ := h
  have f1 := f.1
  have f2 := f.2.1
  refine ⟨h1.fr f, h2.fr f h0, by omega, by omega, by rw [f.2.2.2.2 1 14 (by omega) (by omega) (by unfold hKpt; omega)]; exact h5, fun x j a b => ?_⟩
  rw [f.M x j a b]
  exact h6 x j a b
theorem hLv.Z {S S' : aM} {F : Int → aD} {lo hi cl ch : Int → Int} {m w : aM} {k t : Int} (h : hLv S' F lo hi cl ch m t w) (z : hZ (k + 1) S F lo hi cl ch m) (ht : t ≤ 8) : hZ k S' F lo hi cl ch w := by
  obtain ⟨h1, h2, h3, h4, h5, h6⟩ := h
  obtain ⟨z0, z1, z2, z3, z4, z5⟩ := z
  exact ⟨h1, by omega, by omega, by omega, by omega, by omega⟩
theorem hLv.rf {S : aM} {F : Int → aD} {lo hi cl ch : Int → Int} {m : aM} (h : hI S F lo hi cl ch m) (g : hFam m) : hLv S F lo hi cl ch m 0 m := ⟨h, g, by omega, by omega, rfl, fun _ _ _ _ => rfl⟩
theorem hI.le {S : aM} {F : Int → aD} {lo hi cl ch : Int → Int} {m : aM} {v : Int} (h : hI S F lo hi cl ch m) : hI (mS S 0 9 v) F lo hi cl ch (mS m 1 46 v) := by
  have s : ∀ x, x ≠ 0 → mS S 0 9 v x = S x := fun x u => funext fun j => by rw [mS_iff, if_neg (by omega)]
  have s0 : ∀ j, j ≠ 9 → mS S 0 9 v 0 j = S 0 j := fun j u => by rw [mS_iff, if_neg (by omega)]
  have e : ∀ x j, (x ≠ 1 ∨ j ≠ 46) → mS m 1 46 v x j = m x j := fun x j u => by rw [mS_iff, if_neg (by omega)]
  have hn : hNm (mS S 0 9 v) (mS m 1 46 v) := by
    obtain ⟨n1, n2, n3, n4, n5, n6, n7, n8, n9⟩ := h.2.2.1
    unfold hNm
    rw [s 1 (by omega), s 2 (by omega), s0 0 (by omega), s0 1 (by omega), s0 2 (by omega), s0 7 (by omega), s0 8 (by omega), e 1 17 (by omega), e 1 3 (by omega), e 1 18 (by omega), e 1 38 (by omega), e 1 41 (by omega), e 1 39 (by omega)]
    exact ⟨n1, fun i a b => by rw [e 18 i (by omega)]; exact n2 i a b, n3, fun i a b => by rw [e 4 i (by omega)]; exact n4 i a b, n5, n6, n7, by rw [mS_iff, if_pos ⟨rfl, rfl⟩, mS_iff, if_pos ⟨rfl, rfl⟩], n9⟩
  exact h.up (fun x j u => e x j (by omega)) hn ((h.2.2.2.2.1.keep (e 1 29 (by omega)) (fun x u => funext fun j => e x j (by omega))).cg (s0 5 (by omega)) (s0 3 (by omega)) (fun x a b => s x (by omega))) (fun j u => e 1 j (by omega)) (fun x u => funext fun j => e x j (by omega)) ⟨e 18 _ (by omega), e 18 _ (by omega)⟩ (s0 3 (by omega)) (s0 4 (by omega)) (s0 6 (by omega)) (fun x u => s x (by omega))
theorem mI.le {S : aM} {F : Int → aD} {m : aM} {v : Int} (h : mI S F m) : mI (mS S 0 9 v) F (mS m 41 67 v) := by
  have s : ∀ x, x ≠ 0 → mS S 0 9 v x = S x := fun x u => funext fun j => by rw [mS_iff, if_neg (by omega)]
  have s0 : ∀ j, j ≠ 9 → mS S 0 9 v 0 j = S 0 j := fun j u => by rw [mS_iff, if_neg (by omega)]
  have e : ∀ x j, (x ≠ 41 ∨ j ≠ 67) → mS m 41 67 v x j = m x j := fun x j u => by rw [mS_iff, if_neg (by omega)]
  have hn : mNm (mS S 0 9 v) (mS m 41 67 v) := by
    obtain ⟨n1, n2, n3, n4, n5, n6, n7, n8⟩ := h.1
    unfold mNm
    rw [s 1 (by omega), s 2 (by omega), s0 0 (by omega), s0 1 (by omega), s0 2 (by omega), s0 7 (by omega), s0 8 (by omega), e 41 3 (by omega), e 41 5 (by omega), e 41 17 (by omega), e 41 62 (by omega), e 41 63 (by omega)]
    exact ⟨n1, fun i a b => by rw [e 43 i (by omega)]; exact n2 i a b, n3, fun i a b => by rw [e 44 i (by omega)]; exact n4 i a b, n5, n6, n7, by rw [mS_iff, if_pos ⟨rfl, rfl⟩, mS_iff, if_pos ⟨rfl, rfl⟩]⟩
  have he : mEs (mS S 0 9 v) (mS m 41 67 v) := by
    refine mEs.cg ?_ (s0 5 (by omega)) (s0 3 (by omega)) (fun r a b => s r (by omega))
    unfold mEs
    rw [e 41 40 (by omega), show mS m 41 67 v 65 = m 65 from funext fun j => e 65 j (by omega), show mS m 41 67 v 66 = m 66 from funext fun j => e 66 j (by omega), show mS m 41 67 v 67 = m 67 from funext fun j => e 67 j (by omega)]
    exact h.2.2.1
  exact h.up hn he (fun j u => e 41 j (by omega)) (fun r u => funext fun j => e r j (by omega)) (fun j u => e 42 j (by omega)) (s0 3 (by omega)) (s0 4 (by omega)) (s0 6 (by omega)) (fun r u => s r (by omega))
theorem hFam.le {m : aM} {v : Int} (h : hFam m) : hFam (mS m 1 46 v) := h.keep (fun r a b => by rw [show mS m 1 46 v r = m r from funext fun j => mS_a _ _ _ _ (by omega)]; exact ⟨rfl, fun _ => rfl⟩) (by rw [mS_iff, if_neg (by omega)]) ⟨mS_a _ _ _ _ (by omega), mS_a _ _ _ _ (by omega)⟩
theorem hLv.le {S : aM} {F : Int → aD} {lo hi cl ch : Int → Int} {m w : aM} {t v : Int} (h : hLv S F lo hi cl ch m t w) : hLv (mS S 0 9 v) F lo hi cl ch m t (mS w 1 46 v) := by
  obtain ⟨h1, h2, h3, h4, h5, h6⟩ := h
  have e0 : ∀ j, mS w 1 46 v 0 j = w 0 j := fun j => mS_a _ _ _ _ (by omega)
  exact ⟨h1.le, h2.le, by rw [e0]; exact h3, by rw [e0]; exact h4, by rw [mS_iff, if_neg (by omega)]; exact h5, fun x j a b => by rw [mS_iff, if_neg (by omega)]; exact h6 x j a b⟩
theorem mS_2 {S : aM} {a b u v : Int} : mS (mS S a b u) a b v = mS S a b v := funext fun x => funext fun j => by
  by_cases k : x = a ∧ j = b
  · rw [mS_iff, if_pos k, mS_iff, if_pos k]
  · rw [mS_iff, if_neg k, mS_iff, if_neg k, mS_iff, if_neg k]
theorem sI.le {S : aM} {F : Int → aD} {v : Int} (h : sI S F) : sI (mS S 0 9 v) F := by
  have s : ∀ x, x ≠ 0 → mS S 0 9 v x = S x := fun x u => funext fun j => by rw [mS_iff, if_neg (by omega)]
  have s0 : ∀ j, j ≠ 9 → mS S 0 9 v 0 j = S 0 j := fun j u => by rw [mS_iff, if_neg (by omega)]
  unfold sI
  rw [s0 0 (by omega), s0 1 (by omega), s0 2 (by omega), s0 6 (by omega), s 1 (by omega), s 2 (by omega)]
  exact h
theorem hs_143 {d : Nat} {m : aM} {Q : aO → aM → Prop} {S : aM} {F : Int → aD} {lo hi cl ch : Int → Int} {k c a n : Int} (hd : 120 ≤ d) (hk : 0 ≤ k) (hz0 : hZ (k + 1) S F lo hi cl ch m) (hF : hFam m) (si : sI S F) (hQ : ∀ m', hZ k S F lo hi cl ch m' → hFam m' → (∀ x j, 41 ≤ x → x ≤ 76 → m' x j = m x j) → Q (.inl (some (aI (c_tal S F c a n)))) m') : am_wpc am_G am_T d 143 [aR 1, aI c, aI a, aI n] m Q := by
  have h := hz0.1
  have hr := hz0.2
  have h0 := h.1
  obtain ⟨r1, r2, r3, r4, r5⟩ := id hr
  have hC := h.2.2.2.2.2.2.1
  have c37 := hC.2.1
  have c20 := hC.1
  have fb := fN_b
  have c45 := hF.1.1
  obtain ⟨dk, hdk⟩ : ∃ k, d = k + 1 := ⟨d - 1, by omega⟩
  refine am_in (k := dk) rfl (by omega) (fun d hd => ?_)
  have K56 : ∀ (Nm : Nat), ∀ (t : Int) (r : Int), ∀ (mw : aM), (fN - r).toNat = Nm → ((0 ≤ c ∧ c < S 0 6) ∧ (0 ≤ a ∧ a < fN) ∧ (1 ≤ n ∧ n ≤ 8) ∧ (a ≤ r ∧ r ≤ a + n ∧ r ≤ fN)) → (0 ≤ t ∧ t ≤ r - a) → (t = s_sum (t_f F c a) (r - a).toNat) → (hLv S F lo hi cl ch m (r - a) mw) → am_WP am_G (am_wpc am_G am_T d) [] cd_143 Q 56 [aR 1, aI c, aI a, aI n, aI t, aI r] [] mw := by
    intro Nm
    induction Nm using Nat.strongRecOn with
    | _ Nm ih56 =>
      intro t r mw hN hb tb ht lv
      have l1 := lv.1.1
      have l2 := lv.2.2.1
      have l3 := lv.2.2.2.1
      have w45 := lv.2.1.1.1
      refine am_go 400 [56] (am_wpc_cm _ _ _) wf_143 ?_
      refine And.intro (rfl) ?_
      refine And.intro (fun h1 => ?_) (fun h1 => ?_)
      · have ev0 : c_tal S F c a n = t := by
          unfold c_tal t_n
          rw [if_pos (by omega), if_pos (by omega), ht]
          by_cases qq : a + n ≤ fN
          · rw [if_pos qq, show r - a = n by omega]
          · rw [if_neg qq, show r - a = fN - a by omega]
        rw [ev0] at hQ
        exact hQ mw (lv.Z hz0 (by omega)) lv.2.1 lv.2.2.2.2.2
      · refine And.intro (show -2147483648 ≤ a + n ∧ a + n ≤ 2147483647 by first | omega | (simp only [mS_iff, eq_self, Int.reduceEq, true_and, and_true, false_and, and_false, and_self, ↓reduceIte]; omega) | (simp only [mS_iff, eq_self, Int.reduceEq, true_and, and_true, false_and, and_false, and_self, ↓reduceIte] at *; omega)) ?_
        refine And.intro (fun h2 => ?_) (fun h2 => ?_)
        · have ev0 : c_tal S F c a n = t := by
            unfold c_tal t_n
            rw [if_pos (by omega), if_pos (by omega), ht]
            by_cases qq : a + n ≤ fN
            · rw [if_pos qq, show r - a = n by omega]
            · rw [if_neg qq, show r - a = fN - a by omega]
          rw [ev0] at hQ
          exact hQ mw (lv.Z hz0 (by omega)) lv.2.1 lv.2.2.2.2.2
        · have e37 := lv.2.1.1.2 r (by omega) (by omega)
          have gp := fG_p (r := r) (by omega) (by omega)
          refine And.intro (rfl) ?_
          refine And.intro (⟨rfl, by omega⟩) ?_
          refine And.intro (rfl) ?_
          refine ct_33 (by omega) lv.2.1.2 (by omega) (by omega) (fun m1 r1 b1 u1 rr fo ha ff => ?_)
          have lv1 := lv.mem ff fo
          rw [e37] at ha
          have z00 := ff 0 0 (by omega) (by omega) (by omega)
          have z01 := ff 0 1 (by omega) (by omega) (by omega)
          refine And.intro (rfl) ?_
          refine ct_142 (by omega) lv1.1 lv1.2.1.2 (by omega) ha (by omega) (by omega) si (fun ty m2 fh sl => ?_) (fun ty m2 fh sl => ?_)
          · have lv2 := lv1.fr (s := 1) fh (by omega) (by omega) (by omega)
            refine And.intro (fun h => absurd h (by decide)) (fun _ => ?_)
            refine And.intro (show -2147483648 ≤ t + 1 ∧ t + 1 ≤ 2147483647 by first | omega | (simp only [mS_iff, eq_self, Int.reduceEq, true_and, and_true, false_and, and_false, and_self, ↓reduceIte]; omega) | (simp only [mS_iff, eq_self, Int.reduceEq, true_and, and_true, false_and, and_false, and_self, ↓reduceIte] at *; omega)) ?_
            refine And.intro (show -2147483648 ≤ r + 1 ∧ r + 1 ≤ 2147483647 by first | omega | (simp only [mS_iff, eq_self, Int.reduceEq, true_and, and_true, false_and, and_false, and_self, ↓reduceIte]; omega) | (simp only [mS_iff, eq_self, Int.reduceEq, true_and, and_true, false_and, and_false, and_self, ↓reduceIte] at *; omega)) ?_
            refine ih56 _ ?_ _ _ _ (Eq.refl _) ?_ ?_ ?_ ?_
            · omega
            · omega
            · omega
            · rw [show r + 1 - a = (r - a) + 1 by omega, s_sum_i (by omega), ← ht]; unfold t_f; rw [show a + (r - a) = r by omega]; first | (rw [if_pos ty]; done) | (rw [if_neg ty]; done)
            · rw [show r + 1 - a = (r - a) + 1 by omega]; exact lv2
          · have lv2 := lv1.fr (s := 1) fh (by omega) (by omega) (by omega)
            refine And.intro (fun _ => ?_) (fun h => absurd h (by decide))
            refine And.intro (show -2147483648 ≤ t + 0 ∧ t + 0 ≤ 2147483647 by first | omega | (simp only [mS_iff, eq_self, Int.reduceEq, true_and, and_true, false_and, and_false, and_self, ↓reduceIte]; omega) | (simp only [mS_iff, eq_self, Int.reduceEq, true_and, and_true, false_and, and_false, and_self, ↓reduceIte] at *; omega)) ?_
            refine And.intro (show -2147483648 ≤ r + 1 ∧ r + 1 ≤ 2147483647 by first | omega | (simp only [mS_iff, eq_self, Int.reduceEq, true_and, and_true, false_and, and_false, and_self, ↓reduceIte]; omega) | (simp only [mS_iff, eq_self, Int.reduceEq, true_and, and_true, false_and, and_false, and_self, ↓reduceIte] at *; omega)) ?_
            refine ih56 _ ?_ _ _ _ (Eq.refl _) ?_ ?_ ?_ ?_
            · omega
            · omega
            · omega
            · rw [show r + 1 - a = (r - a) + 1 by omega, s_sum_i (by omega), ← ht]; unfold t_f; rw [show a + (r - a) = r by omega]; first | (rw [if_pos ty]; done) | (rw [if_neg ty]; done)
            · rw [show r + 1 - a = (r - a) + 1 by omega]; exact lv2
  refine am_go 400 [56] (am_wpc_cm _ _ _) wf_143 ?_
  refine And.intro (rfl) ?_
  refine And.intro (show -2147483648 ≤ (m 1 37) - 1 ∧ (m 1 37) - 1 ≤ 2147483647 by first | omega | (simp only [mS_iff, eq_self, Int.reduceEq, true_and, and_true, false_and, and_false, and_self, ↓reduceIte]; omega) | (simp only [mS_iff, eq_self, Int.reduceEq, true_and, and_true, false_and, and_false, and_self, ↓reduceIte] at *; omega)) ?_
  refine ct_39 (by omega) (fun h3 => ?_) (fun h3 => ?_)
  · refine And.intro (fun _ => ?_) (fun h => absurd h (by decide))
    refine And.intro (rfl) ?_
    refine And.intro (show -2147483648 ≤ (m 1 45) - 1 ∧ (m 1 45) - 1 ≤ 2147483647 by first | omega | (simp only [mS_iff, eq_self, Int.reduceEq, true_and, and_true, false_and, and_false, and_self, ↓reduceIte]; omega) | (simp only [mS_iff, eq_self, Int.reduceEq, true_and, and_true, false_and, and_false, and_self, ↓reduceIte] at *; omega)) ?_
    refine ct_39 (by omega) (fun h4 => ?_) (fun h4 => ?_)
    · refine And.intro (fun h => absurd h (by decide)) (fun _ => ?_)
      refine ct_39 (by omega) (fun h5 => ?_) (fun h5 => ?_)
      · refine And.intro (fun _ => ?_) (fun h => absurd h (by decide))
        refine K56 _ _ _ _ (Eq.refl _) ?_ ?_ ?_ ?_
        · omega
        · omega
        · rw [show (a - a).toNat = 0 by omega]; rfl
        · rw [show a - a = 0 by omega]; exact hLv.rf h hF
      · refine And.intro (fun h => absurd h (by decide)) (fun _ => ?_)
        have ev0 : c_tal S F c a n = (-3) := by
          unfold c_tal
          rw [if_pos (by omega), if_neg (by omega)]
        rw [ev0] at hQ
        exact hQ m (hz0.fr (hFr.rfl m) (by omega)) hF (fun _ _ _ _ => rfl)
    · refine And.intro (fun _ => ?_) (fun h => absurd h (by decide))
      have ev0 : c_tal S F c a n = (-3) := by
        unfold c_tal
        rw [if_pos (by omega), if_neg (by omega)]
      rw [ev0] at hQ
      exact hQ m (hz0.fr (hFr.rfl m) (by omega)) hF (fun _ _ _ _ => rfl)
  · refine And.intro (fun h => absurd h (by decide)) (fun _ => ?_)
    have ev0 : c_tal S F c a n = (-2) := by
      unfold c_tal
      rw [if_neg (by omega)]
    rw [ev0] at hQ
    exact hQ m (hz0.fr (hFr.rfl m) (by omega)) hF (fun _ _ _ _ => rfl)
theorem hs_144 {d : Nat} {m : aM} {Q : aO → aM → Prop} {S : aM} {F : Int → aD} {lo hi cl ch : Int → Int} {k c a n : Int} (hd : 120 ≤ d) (hk : 0 ≤ k) (hz0 : hZ (k + 1) S F lo hi cl ch m) (hF : hFam m) (si : sI S F) (hQ : ∀ m', hZ k (c_shw S F c a n).2 F lo hi cl ch m' → hFam m' → (∀ x j, 41 ≤ x → x ≤ 76 → m' x j = m x j) → Q (.inl (some (aI (c_shw S F c a n).1))) m') : am_wpc am_G am_T d 144 [aR 1, aI c, aI a, aI n] m Q := by
  have h := hz0.1
  have hr := hz0.2
  have h0 := h.1
  obtain ⟨r1, r2, r3, r4, r5⟩ := id hr
  have hC := h.2.2.2.2.2.2.1
  have c37 := hC.2.1
  have c20 := hC.1
  have fb := fN_b
  have c45 := hF.1.1
  have s6 : mS S 0 9 (-1) 0 6 = S 0 6 := by rw [mS_iff, if_neg (by omega)]
  obtain ⟨dk, hdk⟩ : ∃ k, d = k + 1 := ⟨d - 1, by omega⟩
  refine am_in (k := dk) rfl (by omega) (fun d hd => ?_)
  have K58 : ∀ (Nm : Nat), ∀ (r : Int), ∀ (mw : aM), (fN - r).toNat = Nm → ((0 ≤ c ∧ c < S 0 6) ∧ (0 ≤ a ∧ a < fN) ∧ (1 ≤ n ∧ n ≤ 8) ∧ (a ≤ r ∧ r ≤ a + n ∧ r ≤ fN)) → (∀ x, 0 ≤ x → x < r → ¬ t_P F c a n x) → (hLv (mS S 0 9 (-1)) F lo hi cl ch m (r - a) mw) → am_WP am_G (am_wpc am_G am_T d) [] cd_144 Q 58 [aR 1, aI c, aI a, aI n, aI r] [] mw := by
    intro Nm
    induction Nm using Nat.strongRecOn with
    | _ Nm ih58 =>
      intro r mw hN hb np lv
      have l1 := lv.1.1
      have l2 := lv.2.2.1
      have l3 := lv.2.2.2.1
      have w45 := lv.2.1.1.1
      refine am_go 400 [58] (am_wpc_cm _ _ _) wf_144 ?_
      refine And.intro (rfl) ?_
      refine And.intro (fun h1 => ?_) (fun h1 => ?_)
      · have ef : s_fst (t_P F c a n) fN = -1 := s_fst_n (fun x x0 x1 p => np x x0 (by have := p.1; omega) p)
        have ev0 : c_shw S F c a n = (1, mS S 0 9 (-1)) := by
          unfold c_shw
          rw [if_pos (by omega), if_pos (by omega), ef]
          rfl
        rw [ev0] at hQ
        exact hQ mw (lv.Z hz0 (by omega)) lv.2.1 lv.2.2.2.2.2
      · refine And.intro (show -2147483648 ≤ a + n ∧ a + n ≤ 2147483647 by first | omega | (simp only [mS_iff, eq_self, Int.reduceEq, true_and, and_true, false_and, and_false, and_self, ↓reduceIte]; omega) | (simp only [mS_iff, eq_self, Int.reduceEq, true_and, and_true, false_and, and_false, and_self, ↓reduceIte] at *; omega)) ?_
        refine And.intro (fun h2 => ?_) (fun h2 => ?_)
        · have ef : s_fst (t_P F c a n) fN = -1 := s_fst_n (fun x x0 x1 p => np x x0 (by have := p.1; omega) p)
          have ev0 : c_shw S F c a n = (1, mS S 0 9 (-1)) := by
            unfold c_shw
            rw [if_pos (by omega), if_pos (by omega), ef]
            rfl
          rw [ev0] at hQ
          exact hQ mw (lv.Z hz0 (by omega)) lv.2.1 lv.2.2.2.2.2
        · have e37 := lv.2.1.1.2 r (by omega) (by omega)
          have gp := fG_p (r := r) (by omega) (by omega)
          refine And.intro (rfl) ?_
          refine And.intro (⟨rfl, by omega⟩) ?_
          refine And.intro (rfl) ?_
          refine ct_33 (by omega) lv.2.1.2 (by omega) (by omega) (fun m1 r1 b1 u1 rr fo ha ff => ?_)
          have lv1 := lv.mem ff fo
          rw [e37] at ha
          have z00 := ff 0 0 (by omega) (by omega) (by omega)
          have z01 := ff 0 1 (by omega) (by omega) (by omega)
          refine And.intro (rfl) ?_
          refine ct_142 (by omega) lv1.1 lv1.2.1.2 (by omega) ha (by omega) (by omega) si.le (fun ty m2 fh sl => ?_) (fun ty m2 fh sl => ?_)
          · have lv2 := lv1.fr (s := 1) fh (by omega) (by omega) (by omega)
            refine And.intro (fun _ => ?_) (fun h => absurd h (by decide))
            refine And.intro (show -2147483648 ≤ r + 1 ∧ r + 1 ≤ 2147483647 by first | omega | (simp only [mS_iff, eq_self, Int.reduceEq, true_and, and_true, false_and, and_false, and_self, ↓reduceIte]; omega) | (simp only [mS_iff, eq_self, Int.reduceEq, true_and, and_true, false_and, and_false, and_self, ↓reduceIte] at *; omega)) ?_
            refine ih58 _ ?_ _ _ (Eq.refl _) ?_ ?_ ?_
            · omega
            · omega
            · intro x x0 x1 p
              by_cases q : x = r
              · rw [q] at p; exact p.2 ty
              · exact np x x0 (by omega) p
            · rw [show r + 1 - a = (r - a) + 1 by omega]; exact lv2
          · have lv2 := lv1.fr (s := 1) fh (by omega) (by omega) (by omega)
            refine And.intro (fun h => absurd h (by decide)) (fun _ => ?_)
            refine And.intro (rfl) ?_
            have ef : s_fst (t_P F c a n) fN = r := s_fst_i (by omega) ⟨by omega, ty⟩ np
            have ev0 : c_shw S F c a n = (0, mS S 0 9 r) := by
              unfold c_shw
              rw [if_pos (by omega), if_pos (by omega), ef, if_neg (by omega)]
            rw [ev0] at hQ
            have lv3 := lv2.le (v := r)
            rw [mS_2] at lv3
            exact hQ _ (lv3.Z hz0 (by omega)) lv3.2.1 lv3.2.2.2.2.2
  refine am_go 400 [58] (am_wpc_cm _ _ _) wf_144 ?_
  refine And.intro (rfl) ?_
  refine And.intro (show -2147483648 ≤ (m 1 37) - 1 ∧ (m 1 37) - 1 ≤ 2147483647 by first | omega | (simp only [mS_iff, eq_self, Int.reduceEq, true_and, and_true, false_and, and_false, and_self, ↓reduceIte]; omega) | (simp only [mS_iff, eq_self, Int.reduceEq, true_and, and_true, false_and, and_false, and_self, ↓reduceIte] at *; omega)) ?_
  refine ct_39 (by omega) (fun h3 => ?_) (fun h3 => ?_)
  · refine And.intro (fun _ => ?_) (fun h => absurd h (by decide))
    refine And.intro (rfl) ?_
    refine And.intro (show -2147483648 ≤ (m 1 45) - 1 ∧ (m 1 45) - 1 ≤ 2147483647 by first | omega | (simp only [mS_iff, eq_self, Int.reduceEq, true_and, and_true, false_and, and_false, and_self, ↓reduceIte]; omega) | (simp only [mS_iff, eq_self, Int.reduceEq, true_and, and_true, false_and, and_false, and_self, ↓reduceIte] at *; omega)) ?_
    refine ct_39 (by omega) (fun h4 => ?_) (fun h4 => ?_)
    · refine And.intro (fun h => absurd h (by decide)) (fun _ => ?_)
      refine ct_39 (by omega) (fun h5 => ?_) (fun h5 => ?_)
      · refine And.intro (fun _ => ?_) (fun h => absurd h (by decide))
        refine And.intro (rfl) ?_
        refine K58 _ _ _ (Eq.refl _) ?_ ?_ ?_
        · omega
        · exact fun x x0 x1 p => by have := p.1; omega
        · rw [show a - a = 0 by omega]; exact (hLv.rf h hF).le
      · refine And.intro (fun h => absurd h (by decide)) (fun _ => ?_)
        have ev0 : c_shw S F c a n = ((-3), S) := by
          unfold c_shw
          rw [if_pos (by omega), if_neg (by omega)]
        rw [ev0] at hQ
        exact hQ m (hz0.fr (hFr.rfl m) (by omega)) hF (fun _ _ _ _ => rfl)
    · refine And.intro (fun _ => ?_) (fun h => absurd h (by decide))
      have ev0 : c_shw S F c a n = ((-3), S) := by
        unfold c_shw
        rw [if_pos (by omega), if_neg (by omega)]
      rw [ev0] at hQ
      exact hQ m (hz0.fr (hFr.rfl m) (by omega)) hF (fun _ _ _ _ => rfl)
  · refine And.intro (fun h => absurd h (by decide)) (fun _ => ?_)
    have ev0 : c_shw S F c a n = ((-2), S) := by
      unfold c_shw
      rw [if_neg (by omega)]
    rw [ev0] at hQ
    exact hQ m (hz0.fr (hFr.rfl m) (by omega)) hF (fun _ _ _ _ => rfl)
theorem hs_141 {d : Nat} {m : aM} {Q : aO → aM → Prop} {S : aM} {F : Int → aD} {lo hi cl ch : Int → Int} {k c a n : Int} (hd : 120 ≤ d) (hk : 0 ≤ k) (hz0 : hZ (k + 1) S F lo hi cl ch m) (hF : hFam m) (si : sI S F) {day : Int} (hQ : ∀ m', hZ k S F lo hi cl ch m' → hFam m' → (∀ x j, 41 ≤ x → x ≤ 76 → m' x j = m x j) → Q (.inl (some (aI (c_fnd S F c day a n)))) m') : am_wpc am_G am_T d 141 [aR 1, aI c, aI day, aI a, aI n] m Q := by
  have h := hz0.1
  have hr := hz0.2
  have h0 := h.1
  obtain ⟨r1, r2, r3, r4, r5⟩ := id hr
  have hC := h.2.2.2.2.2.2.1
  have c37 := hC.2.1
  have c20 := hC.1
  have fb := fN_b
  have c45 := hF.1.1
  obtain ⟨dk, hdk⟩ : ∃ k, d = k + 1 := ⟨d - 1, by omega⟩
  refine am_in (k := dk) rfl (by omega) (fun d hd => ?_)
  have K61 : ∀ (Nm : Nat), ∀ (r : Int) (t : Int) (z6 : aV), ∀ (mw : aM), (fN - r).toNat = Nm → ((0 ≤ c ∧ c < S 0 6) ∧ (0 ≤ day ∧ day ≤ 9999) ∧ (0 ≤ a ∧ a < 21681) ∧ (1 ≤ n ∧ n ≤ 8) ∧ (0 ≤ r ∧ r ≤ fN)) → (0 ≤ t ∧ ∀ q, 0 ≤ q → q < fN → r ≤ q → a + t ≤ fG q) → (t ≤ 8) → (∀ y, t_R S F c day a n y → r ≤ gn y.toNat) → (hLv S F lo hi cl ch m t mw) → am_WP am_G (am_wpc am_G am_T d) [] cd_141 Q 61 [aR 1, aI c, aI day, aI a, aI n, aI r, z6] [] mw := by
    intro Nm
    induction Nm using Nat.strongRecOn with
    | _ Nm ih61 =>
      intro r t z6 mw hN hb tb t8 np lv
      have l1 := lv.1.1
      have l2 := lv.2.2.1
      have l3 := lv.2.2.2.1
      have w45 := lv.2.1.1.1
      refine am_go 400 [61] (am_wpc_cm _ _ _) wf_141 ?_
      refine And.intro (rfl) ?_
      refine And.intro (fun h1 => ?_) (fun h1 => ?_)
      · have ef : s_fst (t_R S F c day a n) 21681 = -1 := s_fst_n (fun y y0 y1 p => by
          have q := np y p
          obtain ⟨z1, z2⟩ := fG_r (i := y) (by omega) p.2.1
          have p1 := p.1
          omega)
        have ev0 : c_fnd S F c day a n = -1 := by
          unfold c_fnd
          rw [if_pos (by omega), if_pos (by omega), ef]
        rw [ev0] at hQ
        exact hQ mw (lv.Z hz0 (by omega)) lv.2.1 lv.2.2.2.2.2
      · have e37 := lv.2.1.1.2 r (by omega) (by omega)
        have gp := fG_p (r := r) (by omega) (by omega)
        skip
        refine And.intro (rfl) ?_
        refine And.intro (⟨rfl, by omega⟩) ?_
        refine And.intro (show -2147483648 ≤ a + n ∧ a + n ≤ 2147483647 by first | omega | (simp only [mS_iff, eq_self, Int.reduceEq, true_and, and_true, false_and, and_false, and_self, ↓reduceIte]; omega) | (simp only [mS_iff, eq_self, Int.reduceEq, true_and, and_true, false_and, and_false, and_self, ↓reduceIte] at *; omega)) ?_
        refine And.intro (fun h2 => ?_) (fun h2 => ?_)
        · have ef : s_fst (t_R S F c day a n) 21681 = -1 := s_fst_n (fun y y0 y1 p => by
            have q := np y p
            obtain ⟨z1, z2⟩ := fG_r (i := y) (by omega) p.2.1
            have p1 := p.1
            have e37 := lv.2.1.1.2 r (by omega) (by omega)
            by_cases e : gn y.toNat = r
            · rw [e] at z2; omega
            · have := fG_mo r (gn y.toNat) (by omega) (by omega) (by omega)
              omega)
          have ev0 : c_fnd S F c day a n = -1 := by
            unfold c_fnd
            rw [if_pos (by omega), if_pos (by omega), ef]
          rw [ev0] at hQ
          exact hQ mw (lv.Z hz0 (by omega)) lv.2.1 lv.2.2.2.2.2
        · have t8 : t < 8 := by have := tb.2 r (by omega) (by omega) (by omega); omega
          refine And.intro (rfl) ?_
          refine And.intro (⟨rfl, by omega⟩) ?_
          refine And.intro (rfl) ?_
          refine ct_33 (by omega) lv.2.1.2 (by omega) (by omega) (fun m1 r1 b1 u1 rr fo ha ff => ?_)
          have lv1 := lv.mem ff fo
          rw [e37] at ha
          have z00 := ff 0 0 (by omega) (by omega) (by omega)
          have z01 := ff 0 1 (by omega) (by omega) (by omega)
          refine And.intro (rfl) ?_
          refine ct_142 (by omega) lv1.1 lv1.2.1.2 (by omega) ha (by omega) (by omega) si (fun ty m2 fh sl => ?_) (fun ty m2 fh sl => ?_)
          · have lv2 := lv1.fr (s := 1) fh (by omega) (by omega) (by omega)
            refine And.intro (fun h => absurd h (by decide)) (fun _ => ?_)
            have ha2 := ha.keep (fun q u v => fh.k40 (by omega) q (by omega) (by omega)) (by have := fh.1; have := ha.1; omega)
            have q00 := fh.1
            refine And.intro (rfl) ?_
            refine ct_113 (by omega) lv2.1.2.2.2.1 lv2.1.2.2.2.2.1 ha2 (fun m3 v f3 ex ei => ?_)
            have lv3 := lv2.fr (s := 0) f3.H (by omega) (by omega) (by have := f3 0 1 (by omega); omega)
            refine And.intro (fun h3 => ?_) (fun h3 => ?_)
            · refine And.intro (show -2147483648 ≤ r + 1 ∧ r + 1 ≤ 2147483647 by first | omega | (simp only [mS_iff, eq_self, Int.reduceEq, true_and, and_true, false_and, and_false, and_self, ↓reduceIte]; omega) | (simp only [mS_iff, eq_self, Int.reduceEq, true_and, and_true, false_and, and_false, and_self, ↓reduceIte] at *; omega)) ?_
              refine ih61 _ ?_ _ (t + 1) _ _ (Eq.refl _) ?_ ?_ ?_ ?_ ?_
              · omega
              · omega
              · exact ⟨by omega, fun q q0 q1 q2 => by have := tb.2 r (by omega) (by omega) (by omega); have := fG_mo r q (by omega) (by omega) q1; omega⟩
              · omega
              · intro y p
                have q := np y p
                obtain ⟨z1, z2⟩ := fG_r (i := y) (by have := p.1; omega) p.2.1
                by_cases e : gn y.toNat = r
                · rw [e] at z2
                  rw [← z2] at p
                  exact absurd p.2.2.2 (by rw [← ex]; omega)
                · omega
              · exact ⟨lv3.1, lv3.2.1, by have := lv3.2.2.1; omega, by have := lv3.2.2.2.1; omega, lv3.2.2.2.2⟩
            · refine And.intro (rfl) ?_
              refine And.intro (⟨rfl, by omega⟩) ?_
              have e3 : (m3 37 r) = fG r := lv3.2.1.1.2 r (by omega) (by omega)
              have tb2 := tb.2 r (by omega) (by omega) (by omega)
              have tr : t_R S F c day a n (fG r) := ⟨by omega, gp.2.1, ty, by rw [← ex]; omega⟩
              have ef : s_fst (t_R S F c day a n) 21681 = fG r := s_fst_i (by omega) tr (fun y y0 y1 p => by
                have q := np y p
                obtain ⟨z1, z2⟩ := fG_r (i := y) (by omega) p.2.1
                by_cases e : gn y.toNat = r
                · rw [e] at z2; omega
                · have := fG_mo r (gn y.toNat) (by omega) (by omega) (by omega)
                  omega)
              have ev0 : c_fnd S F c day a n = (m3 37 r) := by
                unfold c_fnd
                rw [if_pos (by omega), if_pos (by omega), ef, e3]
              rw [ev0] at hQ
              exact hQ m3 (lv3.Z hz0 (by omega)) lv3.2.1 lv3.2.2.2.2.2
          · have lv2 := lv1.fr (s := 1) fh (by omega) (by omega) (by omega)
            refine And.intro (fun _ => ?_) (fun h => absurd h (by decide))
            refine And.intro (show -2147483648 ≤ r + 1 ∧ r + 1 ≤ 2147483647 by first | omega | (simp only [mS_iff, eq_self, Int.reduceEq, true_and, and_true, false_and, and_false, and_self, ↓reduceIte]; omega) | (simp only [mS_iff, eq_self, Int.reduceEq, true_and, and_true, false_and, and_false, and_self, ↓reduceIte] at *; omega)) ?_
            refine ih61 _ ?_ _ (t + 1) _ _ (Eq.refl _) ?_ ?_ ?_ ?_ ?_
            · omega
            · omega
            · exact ⟨by omega, fun q q0 q1 q2 => by have := tb.2 r (by omega) (by omega) (by omega); have := fG_mo r q (by omega) (by omega) q1; omega⟩
            · omega
            · intro y p
              have q := np y p
              obtain ⟨z1, z2⟩ := fG_r (i := y) (by have := p.1; omega) p.2.1
              by_cases e : gn y.toNat = r
              · rw [e] at z2
                rw [← z2] at p
                exact absurd p.2.2.1 ty
              · omega
            · have := lv2.2.2.1; exact ⟨lv2.1, lv2.2.1, by omega, by have := lv2.2.2.2.1; omega, lv2.2.2.2.2⟩
  refine am_go 400 [61] (am_wpc_cm _ _ _) wf_141 ?_
  refine And.intro (rfl) ?_
  refine And.intro (show -2147483648 ≤ (m 1 37) - 1 ∧ (m 1 37) - 1 ≤ 2147483647 by first | omega | (simp only [mS_iff, eq_self, Int.reduceEq, true_and, and_true, false_and, and_false, and_self, ↓reduceIte]; omega) | (simp only [mS_iff, eq_self, Int.reduceEq, true_and, and_true, false_and, and_false, and_self, ↓reduceIte] at *; omega)) ?_
  refine ct_39 (by omega) (fun h4 => ?_) (fun h4 => ?_)
  · refine And.intro (fun _ => ?_) (fun h => absurd h (by decide))
    refine ct_95 (by omega) (fun h5 => ?_) (fun h5 => ?_)
    · replace h5 : 0 ≤ day ∧ day ≤ 9999 := h5
      refine And.intro (fun h => absurd h (by decide)) (fun _ => ?_)
      refine ct_39 (by omega) (fun h6 => ?_) (fun h6 => ?_)
      · refine And.intro (fun h => absurd h (by decide)) (fun _ => ?_)
        refine ct_39 (by omega) (fun h7 => ?_) (fun h7 => ?_)
        · refine And.intro (fun _ => ?_) (fun h => absurd h (by decide))
          refine And.intro (rfl) ?_
          refine ct_140 (by omega) fb c45 hF.1.2 fG_mo (fun x x0 xl xr => ?_)
          refine K61 _ _ (0) _ _ (Eq.refl _) ?_ ?_ ?_ ?_ ?_
          · omega
          · exact ⟨by omega, fun q q0 q1 q2 => by have := xr q (by omega) q1; omega⟩
          · omega
          · intro y p
            obtain ⟨z1, z2⟩ := fG_r (i := y) (by have := p.1; omega) p.2.1
            rcases Int.lt_or_le (gn y.toNat) x with q | q
            · have := xl _ z1.1 q
              have := p.1
              omega
            · exact q
          · exact hLv.rf h hF
        · refine And.intro (fun h => absurd h (by decide)) (fun _ => ?_)
          have ev0 : c_fnd S F c day a n = (-3) := by
            unfold c_fnd
            rw [if_pos (by omega), if_neg (by omega)]
          rw [ev0] at hQ
          exact hQ m (hz0.fr (hFr.rfl m) (by omega)) hF (fun _ _ _ _ => rfl)
      · refine And.intro (fun _ => ?_) (fun h => absurd h (by decide))
        have ev0 : c_fnd S F c day a n = (-3) := by
          unfold c_fnd
          rw [if_pos (by omega), if_neg (by omega)]
        rw [ev0] at hQ
        exact hQ m (hz0.fr (hFr.rfl m) (by omega)) hF (fun _ _ _ _ => rfl)
    · replace h5 : ¬ (0 ≤ day ∧ day ≤ 9999) := h5
      refine And.intro (fun _ => ?_) (fun h => absurd h (by decide))
      have ev0 : c_fnd S F c day a n = (-3) := by
        unfold c_fnd
        rw [if_pos (by omega), if_neg (by omega)]
      rw [ev0] at hQ
      exact hQ m (hz0.fr (hFr.rfl m) (by omega)) hF (fun _ _ _ _ => rfl)
  · refine And.intro (fun h => absurd h (by decide)) (fun _ => ?_)
    have ev0 : c_fnd S F c day a n = (-2) := by
      unfold c_fnd
      rw [if_neg (by omega)]
    rw [ev0] at hQ
    exact hQ m (hz0.fr (hFr.rfl m) (by omega)) hF (fun _ _ _ _ => rfl)
