/-! needs: c01 -/
/-! CALLS that look, house (2); by tools/genc2.py -/
set_option maxRecDepth 100000
set_option maxHeartbeats 8000000
/-- the whole state of the house, with room for k calls -/
def hZ (k : Int) (S : aM) (F : Int → aD) (lo hi cl ch : Int → Int) (m : aM) : Prop := hI S F lo hi cl ch m ∧ hRo k m
theorem hZ.fr {k c : Int} {S : aM} {F : Int → aD} {lo hi cl ch : Int → Int} {m m' : aM} (h : hZ (k + 1) S F lo hi cl ch m) (f : hFr c m m') (hc : c ≤ 90) : hZ k S F lo hi cl ch m' := ⟨h.1.fr f, h.2.fr f hc⟩
theorem hAs.u {S : aM} {lo hi : Int → Int} {m : aM} (h : hAs S lo hi m) {i j : Int} (a : 0 ≤ i) (b : i < S 0 3) (c : 0 ≤ j) (e : j < S 0 3) (q : m 19 i = m 19 j) : i = j := by
  refine Classical.byContradiction fun n => ?_
  have x := (h.2.2.1 i a b).basic
  have y := (h.2.2.1 j c e).basic
  have z := h.2.2.2.2 i j a b c e n
  omega
/-- behind drawing -/
theorem hZ.D {k a : Int} {S : aM} {F : Int → aD} {lo hi cl ch : Int → Int} {m m' : aM} (h : hZ (k + 1) S F lo hi cl ch m) (f : fr_D m m') (ha : 0 ≤ a ∧ a < S 0 3) (e : m' 1 13 = m 19 a) (d : hDr m' (S (100 + a))) (t : hTk m') (b : m 1 14 ≤ m' 1 14 ∧ m' 1 14 ≤ m 1 14 + 126) : hZ k S F lo hi cl ch m' := by
  obtain ⟨⟨i1, i2, i3, i4, i5, i6, i7, i8, i9, ia, ib, ic⟩, r1, r2, r3, r4, r5⟩ := h
  have E : ∀ x, (x < 6 ∨ 12 < x) → x ≠ 1 → m' x = m x := fun x a b => funext fun j => f x j a (by omega)
  have e1 : ∀ j, j ≠ 13 → j ≠ 14 → m' 1 j = m 1 j := fun j a b => f 1 j (by omega) (by omega)
  have K : hK m m' := hK.of (f 0 0 (by omega) (by omega)) (fun r a b j => f r j (by omega) (by omega))
  have x00 := f 0 0 (by omega) (by omega)
  have x01 := f 0 1 (by omega) (by omega)
  refine ⟨⟨by omega, by rw [E 0 (by omega) (by omega)]; exact i2, ?_, i4.keep K (e1 20 (by omega) (by omega)) (E 19 (by omega) (by omega)), i5.keep (e1 29 (by omega) (by omega)) (fun x q => E x (by omega) (by omega)), i6.K K (e1 22 (by omega) (by omega)) (E 20 (by omega) (by omega)), i7.K K (e1 37 (by omega) (by omega)) (E 27 (by omega) (by omega)) (E 28 (by omega) (by omega)), i8, ⟨?_, fun i u v q => ?_⟩, t, ?_, ic.1, ic.2.keep (E 20 (by omega) (by omega))⟩, by omega, by omega, by omega, by omega, by omega⟩
  · unfold hNm
    rw [e1 17 (by omega) (by omega), e1 3 (by omega) (by omega), e1 18 (by omega) (by omega), e1 38 (by omega) (by omega), e1 41 (by omega) (by omega), e1 46 (by omega) (by omega), e1 39 (by omega) (by omega), E 18 (by omega) (by omega), E 4 (by omega) (by omega)]
    exact i3
  · rw [e]
    have := (i4.2.2.1 a ha.1 ha.2).basic
    omega
  · rw [E 19 (by omega) (by omega), e] at q
    rw [i4.u u v ha.1 ha.2 q.symm]
    exact d
  · unfold hOn hWd hCst
    rw [E 26 (by omega) (by omega), E 3 (by omega) (by omega), E 14 (by omega) (by omega), E 18 (by omega) (by omega), E 2 (by omega) (by omega), E (-4) (by omega) (by omega)]
    exact ⟨⟨fun r q => (E r (by omega) (by omega)).trans (ib.1.1 r q), ib.1.2⟩, ib.2⟩
theorem hs_78 {d : Nat} {m : aM} {Q : aO → aM → Prop} {S : aM} {F : Int → aD} {lo hi cl ch : Int → Int} {a x y : Int} {k : Int} (hd : 60 ≤ d) (hk : 0 ≤ k) (hz0 : hZ (k + 1) S F lo hi cl ch m)  (hQ : ∀ m', hZ k S F lo hi cl ch m' → (∀ x j, 41 ≤ x → x ≤ 76 → m' x j = m x j) → Q (.inl (some (aI (c_dot S a x y)))) m') : am_wpc am_G am_T d 78 [aR 1, aI a, aI x, aI y] m Q := by
  have h := hz0.1
  have hr := hz0.2
  have fr := hFr.rfl m
  obtain ⟨r1, r2, r3, r4, r5⟩ := id hr
  have hS := h.2.2.2.1
  have h0 := h.1
  have s1 := hS.1
  obtain ⟨dk, hdk⟩ : ∃ k, d = k + 1 := ⟨d - 1, by omega⟩
  refine am_in (k := dk) rfl (by omega) (fun d hd => ?_)
  refine am_go 400 [] (am_wpc_cm _ _ _) wf_78 ?_
  refine And.intro (rfl) ?_
  refine ct_59 (by omega) h (by omega) (fun t1 => ?_) (fun t1 mw1 fx => ?_)
  · have hA1 := hS.2.2.1 a t1.1 t1.2
    have hB1 := hA1.basic
    refine And.intro (fun _ => ?_) (fun h => absurd h (by decide))
    refine ct_39 (by omega) (fun h2 => ?_) (fun h2 => ?_)
    · refine And.intro (fun h => absurd h (by decide)) (fun _ => ?_)
      refine ct_39 (by omega) (fun h3 => ?_) (fun h3 => ?_)
      · refine And.intro (fun _ => ?_) (fun h => absurd h (by decide))
        refine And.intro (rfl) ?_
        refine And.intro (⟨rfl, by first | omega | (simp only [mS_iff, eq_self, Int.reduceEq, true_and, and_true, false_and, and_false, and_self, ↓reduceIte]; omega) | (simp only [mS_iff, eq_self, Int.reduceEq, true_and, and_true, false_and, and_false, and_self, ↓reduceIte] at *; omega)⟩) ?_
        refine And.intro (rfl) ?_
        refine ct_79 (by omega) hA1 h.2.2.2.2.2.2.2.2.2.2.1.1.1 h.2.2.2.2.2.2.2.2.2.1 (by omega) h.2.2.2.2.2.2.2.2.1.1.1 (fun z => h.2.2.2.2.2.2.2.2.1.2 a t1.1 t1.2 z) (fun md fd d1 d2 d3 d4 => ?_)
        have hz := hZ.D ⟨h, hr⟩ fd t1 d1 d2 d3 d4
        have fo : ∀ x j, 41 ≤ x → x ≤ 76 → md x j = m x j := fun x j u v => fd x j (by omega) (by omega)
        refine And.intro (rfl) ?_
        refine And.intro (show -2147483648 ≤ 48 * y ∧ 48 * y ≤ 2147483647 by first | omega | (simp only [mS_iff, eq_self, Int.reduceEq, true_and, and_true, false_and, and_false, and_self, ↓reduceIte]; omega) | (simp only [mS_iff, eq_self, Int.reduceEq, true_and, and_true, false_and, and_false, and_self, ↓reduceIte] at *; omega)) ?_
        refine And.intro (show -2147483648 ≤ (48 * y) + x ∧ (48 * y) + x ≤ 2147483647 by first | omega | (simp only [mS_iff, eq_self, Int.reduceEq, true_and, and_true, false_and, and_false, and_self, ↓reduceIte]; omega) | (simp only [mS_iff, eq_self, Int.reduceEq, true_and, and_true, false_and, and_false, and_self, ↓reduceIte] at *; omega)) ?_
        refine And.intro (⟨rfl, by first | omega | (simp only [mS_iff, eq_self, Int.reduceEq, true_and, and_true, false_and, and_false, and_self, ↓reduceIte]; omega) | (simp only [mS_iff, eq_self, Int.reduceEq, true_and, and_true, false_and, and_false, and_self, ↓reduceIte] at *; omega)⟩) ?_
        have ev := d2.1 (48 * y + x) (by omega) (by omega)
        have ev0 : c_dot S a x y = (md 6 ((48 * y) + x)) := by
          unfold c_dot
          repeat' split
          all_goals omega
        have hzz := hQ md hz fo
        rw [ev0] at hzz
        exact hzz
      · refine And.intro (fun h => absurd h (by decide)) (fun _ => ?_)
        have ev0 : c_dot S a x y = (-3) := by
          unfold c_dot
          repeat' split
          all_goals omega
        have hzz := hQ m (hz0.fr fr (by omega)) (fr.M)
        rw [ev0] at hzz
        exact hzz
    · refine And.intro (fun _ => ?_) (fun h => absurd h (by decide))
      have ev0 : c_dot S a x y = (-3) := by
        unfold c_dot
        repeat' split
        all_goals omega
      have hzz := hQ m (hz0.fr fr (by omega)) (fr.M)
      rw [ev0] at hzz
      exact hzz
  · have fr := fr.trans fx
    have cn := fr.1
    have cs := fr.2.1
    refine And.intro (fun h => absurd h (by decide)) (fun _ => ?_)
    have ev0 : c_dot S a x y = (-2) := by
      unfold c_dot
      repeat' split
      all_goals omega
    have hzz := hQ mw1 (hz0.fr fr (by omega)) (fr.M)
    rw [ev0] at hzz
    exact hzz
theorem hs_92 {d : Nat} {m : aM} {Q : aO → aM → Prop} {S : aM} {F : Int → aD} {lo hi cl ch : Int → Int} {a l : Int} {k : Int} (hd : 60 ≤ d) (hk : 0 ≤ k) (hz0 : hZ (k + 1) S F lo hi cl ch m)  (hQ : ∀ m', hZ k S F lo hi cl ch m' → (∀ x j, 41 ≤ x → x ≤ 76 → m' x j = m x j) → Q (.inl (some (aI (c_size S a l)))) m') : am_wpc am_G am_T d 92 [aR 1, aI a, aI l] m Q := by
  have h := hz0.1
  have hr := hz0.2
  have fr := hFr.rfl m
  obtain ⟨r1, r2, r3, r4, r5⟩ := id hr
  have hS := h.2.2.2.1
  have h0 := h.1
  have s1 := hS.1
  obtain ⟨dk, hdk⟩ : ∃ k, d = k + 1 := ⟨d - 1, by omega⟩
  refine am_in (k := dk) rfl (by omega) (fun d hd => ?_)
  refine am_go 400 [] (am_wpc_cm _ _ _) wf_92 ?_
  refine And.intro (rfl) ?_
  refine ct_60 (by omega) h (by omega) (fun t1 => ?_) (fun t1 mw1 fx => ?_)
  · have hA1 := hS.2.2.1 a t1.1 t1.2
    have hB1 := hA1.basic
    have nn : m 19 a ≠ 0 := by omega
    refine And.intro (show (m 19 a) ≠ -9 by first | omega | (simp only [mS_iff, eq_self, Int.reduceEq, true_and, and_true, false_and, and_false, and_self, ↓reduceIte]; omega) | (simp only [mS_iff, eq_self, Int.reduceEq, true_and, and_true, false_and, and_false, and_self, ↓reduceIte] at *; omega)) ?_
    refine And.intro (fun h2 => ?_) (fun h2 => ?_)
    · have ev0 : c_size S a l = (-2) := by
        unfold c_size
        repeat' split
        all_goals omega
      have hzz := hQ m (hz0.fr fr (by omega)) (fr.M)
      rw [ev0] at hzz
      exact hzz
    · have hl := hB1.2.2.2.2.2.2.2.1
      have hl2 := hB1.2.2.2.2.2.2.2.2
      refine And.intro (hB1.2.2.2.2.1) ?_
      refine And.intro (by have := hB1.2.2.2.2.2.2.1; omega) ?_
      refine And.intro (show -2147483648 ≤ (m (m (m 19 a) 1) (-2)) - 1 ∧ (m (m (m 19 a) 1) (-2)) - 1 ≤ 2147483647 by first | omega | (simp only [mS_iff, eq_self, Int.reduceEq, true_and, and_true, false_and, and_false, and_self, ↓reduceIte]; omega) | (simp only [mS_iff, eq_self, Int.reduceEq, true_and, and_true, false_and, and_false, and_self, ↓reduceIte] at *; omega)) ?_
      refine ct_39 (by omega) (fun h3 => ?_) (fun h3 => ?_)
      · refine And.intro (fun _ => ?_) (fun h => absurd h (by decide))
        refine And.intro (hB1.2.2.2.2.1) ?_
        refine And.intro (⟨hB1.2.2.2.2.2.2.1, by have := hB1.2.2.2.2.2.2.2.1; omega⟩) ?_
        have hy := hA1.lay (k := l) (by omega) (by omega)
        have g0 := (hG0 hy (by omega)).1
        have g1 := hG3 hy
        refine And.intro ((hA1.lay (by omega) (by omega)).2.1) ?_
        refine And.intro (show (m (m (m (m 19 a) 1) l) 2) ≠ -9 by first | omega | (simp only [mS_iff, eq_self, Int.reduceEq, true_and, and_true, false_and, and_false, and_self, ↓reduceIte]; omega) | (simp only [mS_iff, eq_self, Int.reduceEq, true_and, and_true, false_and, and_false, and_self, ↓reduceIte] at *; omega)) ?_
        refine And.intro (fun h4 => ?_) (fun h4 => ?_)
        · have g2 := (g1 (by assumption)).2.2.1
          unfold okGrp at g2
          refine And.intro (rfl) ?_
          refine ct_79 (by omega) hA1 h.2.2.2.2.2.2.2.2.2.2.1.1.1 h.2.2.2.2.2.2.2.2.2.1 (by omega) h.2.2.2.2.2.2.2.2.1.1.1 (fun z => h.2.2.2.2.2.2.2.2.1.2 a t1.1 t1.2 z) (fun md fd d1 d2 d3 d4 => ?_)
          have hz := hZ.D ⟨h, hr⟩ fd t1 d1 d2 d3 d4
          have fo : ∀ x j, 41 ≤ x → x ≤ 76 → md x j = m x j := fun x j u v => fd x j (by omega) (by omega)
          refine And.intro (rfl) ?_
          refine And.intro (⟨rfl, by first | omega | (simp only [mS_iff, eq_self, Int.reduceEq, true_and, and_true, false_and, and_false, and_self, ↓reduceIte]; omega) | (simp only [mS_iff, eq_self, Int.reduceEq, true_and, and_true, false_and, and_false, and_self, ↓reduceIte] at *; omega)⟩) ?_
          have ev := d2.2 l (by omega) (by omega)
          have ev0 : c_size S a l = (md 10 l) := by
            unfold c_size
            repeat' split
            all_goals omega
          have hzz := hQ md hz fo
          rw [ev0] at hzz
          exact hzz
        · have ev0 : c_size S a l = (-4) := by
            unfold c_size
            repeat' split
            all_goals omega
          have hzz := hQ m (hz0.fr fr (by omega)) (fr.M)
          rw [ev0] at hzz
          exact hzz
      · refine And.intro (fun h => absurd h (by decide)) (fun _ => ?_)
        have ev0 : c_size S a l = (-2) := by
          unfold c_size
          repeat' split
          all_goals omega
        have hzz := hQ m (hz0.fr fr (by omega)) (fr.M)
        rw [ev0] at hzz
        exact hzz
  · have fr := fr.trans fx
    have cn := fr.1
    have cs := fr.2.1
    refine And.intro (by decide) ?_
    refine And.intro (fun _ => ?_) (fun h => absurd h (by decide))
    have ev0 : c_size S a l = (-2) := by
      unfold c_size
      repeat' split
      all_goals omega
    have hzz := hQ mw1 (hz0.fr fr (by omega)) (fr.M)
    rw [ev0] at hzz
    exact hzz
