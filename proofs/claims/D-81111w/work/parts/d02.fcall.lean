/-! needs: d01 -/
/-! CALLS of the family: what a clause tells of lent arms; rank, both; by tools/gend2.py -/
set_option maxRecDepth 100000
set_option maxHeartbeats 8000000
/-- the house does not look at what is lent -/
theorem hI.ext {S : aM} {F : Int → aD} {lo hi cl ch : Int → Int} {m m' : aM} (h : hI S F lo hi cl ch m) (f : ∀ x j, x < 29 ∨ 40 < x → m' x j = m x j) : hI S F lo hi cl ch m' := by
  obtain ⟨i1, i2, i3, i4, i5, i6, i7, i8, i9, ia, ib, ic, id⟩ := h
  have E : ∀ x, x < 29 ∨ 40 < x → m' x = m x := fun x a => funext fun j => f x j a
  have KP : ∀ a b, 41 ≤ a → hKeep m m' a b := fun a b u r x y => by rw [E r (by omega)]; exact ⟨rfl, fun _ => rfl⟩
  refine ⟨by rw [E 0 (by omega)]; exact i1, by rw [E 0 (by omega)]; exact i2, ?_, ?_, i5.keep (f 1 29 (by omega)) (fun x q => E x (by omega)), ?_, ?_, i8, ?_, ?_, ?_, ic, id.keep (E 20 (by omega))⟩
  · unfold hNm
    rw [E 1 (by omega), E 18 (by omega), E 4 (by omega)]
    exact i3
  · obtain ⟨a1, a2, a3, a4, a5⟩ := i4
    refine ⟨a1, by rw [E 1 (by omega)]; exact a2, fun i u v => ?_, by rw [E 19 (by omega)]; exact a4, a5⟩
    rw [E 19 (by omega)]
    exact (a3 i u v).keep (KP _ _ (by have := ic i u v; omega)) (by rw [E 0 (by omega)]; exact (a3 i u v).1.2)
  · obtain ⟨h1, h2, h3, h4⟩ := i6
    refine ⟨h1, by rw [E 1 (by omega), h2], fun p a b => ?_, by rw [E 20 (by omega)]; exact h4⟩
    obtain ⟨g1, g2, g3⟩ := h3 p a b
    rw [E 20 (by omega), E (m 20 p) (by omega), E 0 (by omega), show hpr m' (S 11 p) = hpr m (S 11 p) by unfold hpr; rw [E 20 (by omega)], show hpr m' (S 12 p) = hpr m (S 12 p) by unfold hpr; rw [E 20 (by omega)]]
    exact ⟨g1, g2, g3⟩
  · obtain ⟨h1, h2, h3⟩ := i7
    refine ⟨h1, by rw [E 1 (by omega), h2], fun i a b => ?_⟩
    obtain ⟨g1, ⟨p, g2, g3⟩, g4⟩ := h3 i a b
    refine ⟨⟨g1.1, by rw [E 0 (by omega)]; exact g1.2⟩, ⟨p, g2, ?_⟩, by rw [E 28 (by omega)]; exact g4⟩
    rw [E 27 (by omega)]
    exact g3.keep (KP _ _ (by omega))
  · unfold hDn hDr
    rw [E 0 (by omega), E 1 (by omega), E 19 (by omega), E 6 (by omega), E 10 (by omega)]
    exact i9
  · unfold hTk
    rw [E 1 (by omega), E 9 (by omega)]
    exact ia
  · unfold hOn hWd hCst
    rw [E 26 (by omega), E 3 (by omega), E 14 (by omega), E 18 (by omega), E 2 (by omega), E (-4) (by omega)]
    exact ⟨⟨fun r q => (E r (by omega)).trans (ib.1.1 r q), ib.1.2⟩, ib.2⟩
theorem fr_A.L {lo hi alo ahi c : Int} {m m' : aM} (h : fr_A lo hi alo ahi c m m') (h0 : 77 ≤ m 0 0) (hl : 77 ≤ lo) (ha : 29 ≤ alo ∧ ahi ≤ 40) (t : m 37 (-1) = 40) : hFr c m m' := by
  obtain ⟨h1, h2, h3, h4⟩ := h
  refine ⟨h1, by omega, h4, ⟨h1.1, fun r a b c => ⟨h3 r (-1) (by omega) c (by omega) (by omega) (by omega), fun n => funext fun j => h3 r j (by omega) c (by omega) (by omega) (by omega)⟩⟩, fun x j a b c => ?_⟩
  by_cases k : x = 37
  · subst k
    exact h3 37 j a (by omega) (by omega) (by omega) (by omega)
  · exact h3 x j a (by omega) (by unfold hKpt at c; omega) (by unfold hKpt at c; omega) (by unfold hKpt at c; omega)
theorem hFr.k40 {c : Int} {m m' : aM} (f : hFr c m m') (h0 : 77 ≤ m 0 0) : hKeep m m' 29 40 := fun r a b => f.2.2.2.1.2 r a (by omega) (by omega)
theorem hFo.fr {c : Int} {m m' : aM} (h : hFo m) (f : hFr c m m') (h0 : 77 ≤ m 0 0) : hFo m' := h.keep (f.k40 h0) ⟨f.2.2.2.2 4 (-1) (by omega) (by omega) (by unfold hKpt; omega), f.2.2.2.2 4 (-2) (by omega) (by omega) (by unfold hKpt; omega)⟩
theorem hFam.fr {c : Int} {m m' : aM} (h : hFam m) (f : hFr c m m') (h0 : 77 ≤ m 0 0) : hFam m' := h.keep (f.k40 h0) (f.2.2.2.2 1 45 (by omega) (by omega) (by unfold hKpt; omega)) ⟨f.2.2.2.2 4 (-1) (by omega) (by omega) (by unfold hKpt; omega), f.2.2.2.2 4 (-2) (by omega) (by omega) (by unfold hKpt; omega)⟩
theorem hFo.t37 {m : aM} (h : hFo m) : m 37 (-1) = 40 := by
  unfold hFo at h
  exact h.2.2.2.2.2.2.2.2.2.2.2.2.2.2.2.2.2.2.2.2.2.2.2.2.2.2.2.2.2.2.2.1
theorem ct_142 {d : Nat} {m : aM} {Q : aO → aM → Prop} {S : aM} {F : Int → aD} {lo hi cl ch : Int → Int} {c ar alo ahi : Int} {w : Int → Int} (hd : 90 ≤ d) (h : hI S F lo hi cl ch m) (hF : hFo m) (hc : 0 ≤ c ∧ c < S 0 6) (hA : hArms m alo ahi ar w) (ha : 29 ≤ alo ∧ ahi ≤ 40) (hr : m 0 0 + 60 ≤ amC ∧ 0 ≤ m 0 1 ∧ m 0 1 + 10000 ≤ amS) (si : sI S F) (hQ1 : t_y (F c) w → ∀ m', hFr 26 m m' → 3 * m' 0 1 ≤ 3 * m 0 1 + 26000 → Q (.inl (some (aI 1))) m') (hQ0 : ¬ t_y (F c) w → ∀ m', hFr 26 m m' → 3 * m' 0 1 ≤ 3 * m 0 1 + 26000 → Q (.inl (some (aI 0))) m') : am_wpc am_G am_T d 142 [aR 1, aI c, aR ar] m Q := by
  have h0 := h.1
  have hC := h.2.2.2.2.2.2.1
  have c20 := hC.1
  have n9 := h.2.2.1.2.2.2.2.2.2.2.2
  have hO := h.2.2.2.2.2.2.2.2.2.2.1
  obtain ⟨g1, ⟨p, g2, hn⟩, g4⟩ := hC.2.2 c (by omega) (by omega)
  have hp1 := hn.2.2.1
  have t37 := hF.t37
  obtain ⟨dk, hdk⟩ : ∃ k, d = k + 1 := ⟨d - 1, by omega⟩
  refine am_in (k := dk) rfl (by omega) (fun d hd => ?_)
  refine am_go 400 [] (am_wpc_cm _ _ _) wf_142 ?_
  refine And.intro (rfl) ?_
  refine ct_133 (by omega) hn hA ⟨by omega, by omega, hO.2.1, hn.2.2.1, by omega, by omega, by omega, hO.2.2.2.2⟩ (by omega) (by omega) (by omega) rfl (fun v z m1 fa e40 => ?_) (fun s v z n m1 fa e33 => ?_) (fun e q z m1 fa e33 => ?_)
  · have fh := (fa.L h0 (by omega) ha t37).wd (c' := 26) (by omega)
    have f21 := fa.2.1
    refine And.intro (fun h => absurd h (by omega)) (fun _ => ?_)
    refine And.intro (rfl) ?_
    refine And.intro (fun h1 => ?_) (fun h1 => ?_)
    · replace h1 := am_lc_eq.mp h1
      refine And.intro (by first | omega | (simp only [mS_iff, eq_self, Int.reduceEq, true_and, and_true, false_and, and_false, and_self, ↓reduceIte]; omega) | (simp only [mS_iff, eq_self, Int.reduceEq, true_and, and_true, false_and, and_false, and_self, ↓reduceIte] at *; omega)) ?_
      exact hQ0 (t_y0 z (by omega)) _ fh (by omega)
    · replace h1 := am_lc_ne.mp h1
      refine And.intro (by first | omega | (simp only [mS_iff, eq_self, Int.reduceEq, true_and, and_true, false_and, and_false, and_self, ↓reduceIte]; omega) | (simp only [mS_iff, eq_self, Int.reduceEq, true_and, and_true, false_and, and_false, and_self, ↓reduceIte] at *; omega)) ?_
      exact hQ1 (t_y1 z (by omega)) _ fh (by omega)
  · have fh := (fa.L h0 (by omega) ha t37).wd (c' := 26) (by omega)
    have f21 := fa.2.1
    refine And.intro (fun _ => ?_) (fun h => absurd h (by omega))
    refine And.intro (by first | omega | (simp only [mS_iff, eq_self, Int.reduceEq, true_and, and_true, false_and, and_false, and_self, ↓reduceIte]; omega) | (simp only [mS_iff, eq_self, Int.reduceEq, true_and, and_true, false_and, and_false, and_self, ↓reduceIte] at *; omega)) ?_
    exact hQ0 (t_yc z n) _ fh (by omega)
  · have fh := (fa.L h0 (by omega) ha t37).wd (c' := 26) (by omega)
    have f21 := fa.2.1
    have ez := si.2.2.2.1 c (by omega) (by omega) _ _ _ z
    refine And.intro (fun _ => ?_) (fun h => absurd h (by omega))
    refine And.intro (by first | omega | (simp only [mS_iff, eq_self, Int.reduceEq, true_and, and_true, false_and, and_false, and_self, ↓reduceIte]; omega) | (simp only [mS_iff, eq_self, Int.reduceEq, true_and, and_true, false_and, and_false, and_self, ↓reduceIte] at *; omega)) ?_
    exact hQ0 (t_ye z) _ fh (by omega)
theorem ct_314 {d : Nat} {m : aM} {Q : aO → aM → Prop} {S : aM} {F : Int → aD} {c a : Int} {w : Int → Int} (hd : 90 ≤ d) (h : mI S F m) (hc : 0 ≤ c ∧ c < S 0 6) (hA : mRow m a w) (ok : okRow w) (si : sI S F) (hQ1 : t_y (F c) w → ∀ m', fr_K m m' → Q (.inl (some (aI 1))) m') (hQ0 : ¬ t_y (F c) w → ∀ m', fr_K m m' → Q (.inl (some (aI 0))) m') : am_wpc am_G am_T d 314 [aR 41, aI c, aI a] m Q := by
  have hC := h.2.2.2.2.1
  have c20 := hC.1
  obtain ⟨⟨p, hh, g2, g3, hn⟩, g4⟩ := hC.2.2 c (by omega) (by omega)
  have hp1 := hn.2.1
  obtain ⟨dk, hdk⟩ : ∃ k, d = k + 1 := ⟨d - 1, by omega⟩
  refine am_in (k := dk) rfl (by omega) (fun d hd => ?_)
  refine am_go 400 [] (am_wpc_cm _ _ _) wf_314 ?_
  refine And.intro (rfl) ?_
  refine ct_298 (by omega) hn hA ok (by omega) (fun v z m1 fk e58 => ?_) (fun s v z n m1 fk e60 => ?_) (fun e q z m1 fk e60 => ?_)
  · refine And.intro (fun h => absurd h (by omega)) (fun _ => ?_)
    refine And.intro (rfl) ?_
    refine And.intro (fun h1 => ?_) (fun h1 => ?_)
    · replace h1 := am_lc_eq.mp h1
      refine And.intro (by first | omega | (simp only [mS_iff, eq_self, Int.reduceEq, true_and, and_true, false_and, and_false, and_self, ↓reduceIte]; omega) | (simp only [mS_iff, eq_self, Int.reduceEq, true_and, and_true, false_and, and_false, and_self, ↓reduceIte] at *; omega)) ?_
      exact hQ0 (t_y0 z (by omega)) _ fk
    · replace h1 := am_lc_ne.mp h1
      refine And.intro (by first | omega | (simp only [mS_iff, eq_self, Int.reduceEq, true_and, and_true, false_and, and_false, and_self, ↓reduceIte]; omega) | (simp only [mS_iff, eq_self, Int.reduceEq, true_and, and_true, false_and, and_false, and_self, ↓reduceIte] at *; omega)) ?_
      exact hQ1 (t_y1 z (by omega)) _ fk
  · refine And.intro (fun _ => ?_) (fun h => absurd h (by omega))
    refine And.intro (by first | omega | (simp only [mS_iff, eq_self, Int.reduceEq, true_and, and_true, false_and, and_false, and_self, ↓reduceIte]; omega) | (simp only [mS_iff, eq_self, Int.reduceEq, true_and, and_true, false_and, and_false, and_self, ↓reduceIte] at *; omega)) ?_
    exact hQ0 (t_yc z n) _ fk
  · have ez := si.2.2.2.1 c (by omega) (by omega) _ _ _ z
    refine And.intro (fun _ => ?_) (fun h => absurd h (by omega))
    refine And.intro (by first | omega | (simp only [mS_iff, eq_self, Int.reduceEq, true_and, and_true, false_and, and_false, and_self, ↓reduceIte]; omega) | (simp only [mS_iff, eq_self, Int.reduceEq, true_and, and_true, false_and, and_false, and_self, ↓reduceIte] at *; omega)) ?_
    exact hQ0 (t_ye z) _ fk
def c_rk (i : Int) : Int := if 0 ≤ i ∧ i < 21681 then fK i else -3
theorem hs_139 {d : Nat} {m : aM} {Q : aO → aM → Prop} {i : Int} (hd : 3 ≤ d) (hF : hFam m) (hQ : Q (.inl (some (aI (c_rk i)))) m) : am_wpc am_G am_T d 139 [aR 1, aI i] m Q := by
  have hn := fN_b
  have hc := hF.1.1
  refine am_in rfl hd (fun d hd => ?_)
  refine am_go 400 [] (am_wpc_cm _ _ _) wf_139 ?_
  refine ct_39 (by omega) (fun h1 => ?_) (fun h1 => ?_)
  · refine And.intro (fun _ => ?_) (fun h => absurd h (by decide))
    refine And.intro (rfl) ?_
    refine ct_140 (by omega) hn hc hF.1.2 fG_mo (fun x x0 xl xr => ?_)
    refine And.intro (rfl) ?_
    refine And.intro (fun h2 => ?_) (fun h2 => ?_)
    · have ev0 : c_rk i = -1 := by
        unfold c_rk
        rw [if_pos (by omega)]
        unfold fK
        rw [if_neg]
        intro z
        obtain ⟨z1, z2⟩ := fG_r (i := i) (by omega) z
        rcases Int.lt_trichotomy (gn i.toNat) x with q | q | q
        · have := xl _ z1.1 q
          omega
        · have := hF.1.2 x (by omega) (by omega)
          rw [← q, z2] at this
          rw [q] at this
          omega
        · have a1 := xr x (by omega) (by omega)
          have a2 := fG_mo x (gn i.toNat) (by omega) q (by omega)
          omega
      rw [ev0] at hQ
      exact hQ
    · refine And.intro (rfl) ?_
      refine And.intro (⟨rfl, by first | omega | (simp only [mS_iff, eq_self, Int.reduceEq, true_and, and_true, false_and, and_false, and_self, ↓reduceIte]; omega) | (simp only [mS_iff, eq_self, Int.reduceEq, true_and, and_true, false_and, and_false, and_self, ↓reduceIte] at *; omega)⟩) ?_
      refine And.intro (fun h3 => ?_) (fun h3 => ?_)
      · have ev0 : c_rk i = -1 := by
          unfold c_rk
          rw [if_pos (by omega)]
          unfold fK
          rw [if_neg]
          intro z
          obtain ⟨z1, z2⟩ := fG_r (i := i) (by omega) z
          rcases Int.lt_trichotomy (gn i.toNat) x with q | q | q
          · have := xl _ z1.1 q
            omega
          · have := hF.1.2 x (by omega) (by omega)
            rw [← q, z2] at this
            rw [q] at this
            omega
          · have a1 := xr x (by omega) (by omega)
            have a2 := fG_mo x (gn i.toNat) (by omega) q (by omega)
            omega
        rw [ev0] at hQ
        exact hQ
      · have ev0 : c_rk i = x := by
          unfold c_rk
          rw [if_pos (by omega)]
          unfold fK
          have e1 := hF.1.2 x (by omega) (by omega)
          obtain ⟨p1, p2, p3⟩ := fG_p (r := x) (by omega) (by omega)
          have e2 : fG x = i := by omega
          rw [e2] at p2 p3
          rw [if_pos p2, p3]
        rw [ev0] at hQ
        exact hQ
  · refine And.intro (fun h => absurd h (by decide)) (fun _ => ?_)
    have ev0 : c_rk i = -3 := if_neg (by omega)
    rw [ev0] at hQ
    exact hQ
theorem ms_310 {d : Nat} {m : aM} {Q : aO → aM → Prop} {i : Int} (hd : 1 ≤ d) (hF : mFam m) (hQ : Q (.inl (some (aI (c_rk i)))) m) : am_wpc am_G am_T d 310 [aR 41, aI i] m Q := by
  refine am_in rfl hd (fun d hd => ?_)
  refine am_go 400 [] (am_wpc_cm _ _ _) wf_310 ?_
  refine And.intro (fun h1 => ?_) (fun h1 => ?_)
  · have ev0 : c_rk i = (-3) := by
      unfold c_rk
      rw [if_neg (by omega)]
    rw [ev0] at hQ
    exact hQ
  · refine And.intro (fun h2 => ?_) (fun h2 => ?_)
    · refine And.intro (rfl) ?_
      refine And.intro (⟨rfl, by first | omega | (simp only [mS_iff, eq_self, Int.reduceEq, true_and, and_true, false_and, and_false, and_self, ↓reduceIte]; omega) | (simp only [mS_iff, eq_self, Int.reduceEq, true_and, and_true, false_and, and_false, and_self, ↓reduceIte] at *; omega)⟩) ?_
      have ev0 : c_rk i = (m 76 i) := by
        unfold c_rk
        rw [if_pos (by omega)]; exact (hF.2.2 i (by omega) (by omega)).symm
      rw [ev0] at hQ
      exact hQ
    · have ev0 : c_rk i = (-3) := by
        unfold c_rk
        rw [if_neg (by omega)]
      rw [ev0] at hQ
      exact hQ
