/-! needs: d00 -/
/-! THE FAMILY: what is lent (house), what is made (reference); by tools/gend1.py -/
set_option maxRecDepth 100000
set_option maxHeartbeats 8000000
/-- the two arms that are lent, and arrays that stand -/
def hFo (m : aM) : Prop := m 29 (-1) = 4 ∧ m 29 0 = 30 ∧ m 29 1 = 32 ∧ m 30 (-1) = 5 ∧ m 30 1 = 0 ∧ m 30 2 = 0 ∧ m 30 5 = 31 ∧ m 31 (-1) = 6 ∧ m 32 (-1) = 45 ∧ m 32 (-2) = 0 ∧ m 33 (-1) = 4 ∧ m 33 0 = 34 ∧ m 33 1 = 36 ∧ m 34 (-1) = 5 ∧ m 34 1 = 0 ∧ m 34 2 = 0 ∧ m 34 5 = 35 ∧ m 35 (-1) = 6 ∧ m 36 (-1) = 45 ∧ m 36 (-2) = 1 ∧ m 36 0 = 38 ∧ m 38 (-1) = 7 ∧ m 38 0 = 0 ∧ m 38 1 = 39 ∧ m 38 2 = 0 ∧ m 38 3 = 0 ∧ m 38 4 = 0 ∧ m 39 (-1) = 8 ∧ m 39 1 = 0 ∧ m 39 3 = 40 ∧ m 40 (-1) = 6 ∧ m 37 (-1) = 40 ∧ m 4 (-1) = 40 ∧ m 4 (-2) = 700
def hFp (r j : Int) : Prop := (r = 4 ∧ (j = -1 ∨ j = -2)) ∨ ((r = 31 ∨ r = 35 ∨ r = 40) ∧ j = -1) ∨ ((29 ≤ r ∧ r ≤ 39) ∧ r ≠ 31 ∧ r ≠ 35 ∧ (r ≠ 30 ∨ (j ≠ 0 ∧ j ≠ 3 ∧ j ≠ 4)) ∧ (r ≠ 34 ∨ (j ≠ 0 ∧ j ≠ 3 ∧ j ≠ 4)) ∧ (r ≠ 39 ∨ (j ≠ 0 ∧ j ≠ 2)) ∧ (r ≠ 37 ∨ j < 0))
theorem hFo.cg {m m' : aM} (h : hFo m) (e : ∀ r j, hFp r j → m' r j = m r j) : hFo m' := by
  obtain ⟨g29a, g290, g291, g30a, g301, g302, g305, g31a, g32a, g32b, g33a, g330, g331, g34a, g341, g342, g345, g35a, g36a, g36b, g360, g38a, g380, g381, g382, g383, g384, g39a, g391, g393, g40a, g37a, g4a, g4b⟩ := h
  exact ⟨by rw [e 29 (-1) (by unfold hFp; decide)]; exact g29a, by rw [e 29 0 (by unfold hFp; decide)]; exact g290, by rw [e 29 1 (by unfold hFp; decide)]; exact g291, by rw [e 30 (-1) (by unfold hFp; decide)]; exact g30a, by rw [e 30 1 (by unfold hFp; decide)]; exact g301, by rw [e 30 2 (by unfold hFp; decide)]; exact g302, by rw [e 30 5 (by unfold hFp; decide)]; exact g305, by rw [e 31 (-1) (by unfold hFp; decide)]; exact g31a, by rw [e 32 (-1) (by unfold hFp; decide)]; exact g32a, by rw [e 32 (-2) (by unfold hFp; decide)]; exact g32b, by rw [e 33 (-1) (by unfold hFp; decide)]; exact g33a, by rw [e 33 0 (by unfold hFp; decide)]; exact g330, by rw [e 33 1 (by unfold hFp; decide)]; exact g331, by rw [e 34 (-1) (by unfold hFp; decide)]; exact g34a, by rw [e 34 1 (by unfold hFp; decide)]; exact g341, by rw [e 34 2 (by unfold hFp; decide)]; exact g342, by rw [e 34 5 (by unfold hFp; decide)]; exact g345, by rw [e 35 (-1) (by unfold hFp; decide)]; exact g35a, by rw [e 36 (-1) (by unfold hFp; decide)]; exact g36a, by rw [e 36 (-2) (by unfold hFp; decide)]; exact g36b, by rw [e 36 0 (by unfold hFp; decide)]; exact g360, by rw [e 38 (-1) (by unfold hFp; decide)]; exact g38a, by rw [e 38 0 (by unfold hFp; decide)]; exact g380, by rw [e 38 1 (by unfold hFp; decide)]; exact g381, by rw [e 38 2 (by unfold hFp; decide)]; exact g382, by rw [e 38 3 (by unfold hFp; decide)]; exact g383, by rw [e 38 4 (by unfold hFp; decide)]; exact g384, by rw [e 39 (-1) (by unfold hFp; decide)]; exact g39a, by rw [e 39 1 (by unfold hFp; decide)]; exact g391, by rw [e 39 3 (by unfold hFp; decide)]; exact g393, by rw [e 40 (-1) (by unfold hFp; decide)]; exact g40a, by rw [e 37 (-1) (by unfold hFp; decide)]; exact g37a, by rw [e 4 (-1) (by unfold hFp; decide)]; exact g4a, by rw [e 4 (-2) (by unfold hFp; decide)]; exact g4b⟩
theorem hFo.keep {m m' : aM} (h : hFo m) (k : hKeep m m' 29 40) (e4 : m' 4 (-1) = m 4 (-1) ∧ m' 4 (-2) = m 4 (-2)) : hFo m' := by
  have T6 : ∀ x, (29 ≤ x ∧ x ≤ 39) → x ≠ 31 → x ≠ 35 → m' x = m x := fun x q q1 q2 => (k x (by omega) (by omega)).2 (by
    have : x = 29 ∨ x = 30 ∨ x = 32 ∨ x = 33 ∨ x = 34 ∨ x = 36 ∨ x = 37 ∨ x = 38 ∨ x = 39 := by clear h k e4; omega
    obtain ⟨g29a, g290, g291, g30a, g301, g302, g305, g31a, g32a, g32b, g33a, g330, g331, g34a, g341, g342, g345, g35a, g36a, g36b, g360, g38a, g380, g381, g382, g383, g384, g39a, g391, g393, g40a, g37a, g4a, g4b⟩ := h
    clear k e4
    rcases this with q | q | q | q | q | q | q | q | q <;> subst q
    · rw [g29a]; decide
    · rw [g30a]; decide
    · rw [g32a]; decide
    · rw [g33a]; decide
    · rw [g34a]; decide
    · rw [g36a]; decide
    · rw [g37a]; decide
    · rw [g38a]; decide
    · rw [g39a]; decide)
  refine h.cg (fun r j p => ?_)
  by_cases a : r = 4
  · subst a
    have : j = -1 ∨ j = -2 := by unfold hFp at p; omega
    rcases this with q | q <;> subst q
    · exact e4.1
    · exact e4.2
  · by_cases b : r = 31 ∨ r = 35 ∨ r = 40
    · rw [show j = -1 by unfold hFp at p; omega]
      exact (k r (by omega) (by omega)).1
    · unfold hFp at p
      rw [T6 r (by omega) (by omega) (by omega)]
def hFam (m : aM) : Prop := (m 1 45 = fN ∧ ∀ r, 0 ≤ r → r < fN → m 37 r = fG r) ∧ hFo m
theorem hFam.keep {m m' : aM} (h : hFam m) (k : hKeep m m' 29 40) (e : m' 1 45 = m 1 45) (e4 : m' 4 (-1) = m 4 (-1) ∧ m' 4 (-2) = m 4 (-2)) : hFam m' := by
  have q37 : m 37 (-1) = 40 := by
    obtain ⟨g29a, g290, g291, g30a, g301, g302, g305, g31a, g32a, g32b, g33a, g330, g331, g34a, g341, g342, g345, g35a, g36a, g36b, g360, g38a, g380, g381, g382, g383, g384, g39a, g391, g393, g40a, g37a, g4a, g4b⟩ := h.2
    exact g37a
  have e37 := (k 37 (by omega) (by omega)).2 (by omega)
  exact ⟨⟨by rw [e]; exact h.1.1, fun r a b => by rw [e37]; exact h.1.2 r a b⟩, h.2.keep k e4⟩
def mFam (m : aM) : Prop := m 41 66 = fN ∧ (∀ r, 0 ≤ r → r < fN → m 75 r = fG r) ∧ ∀ i, 0 ≤ i → i < 21681 → m 76 i = fK i
theorem mFam.keep {m m' : aM} (h : mFam m) (e : m' 41 66 = m 41 66) (e5 : m' 75 = m 75) (e6 : m' 76 = m 76) : mFam m' := by
  unfold mFam
  rw [e, e5, e6]
  exact h
/-- the lent arms say the row of a place -/
def hFv (m : aM) (f i : Int) : Prop := m f 0 = fw i 0 ∧ m f 3 = fw i 3 ∧ m f 4 = fw i 4
theorem hFo.fld {m : aM} {i lo hi f : Int} (hl : lo ≤ f ∧ f ≤ hi) (v : hFv m f i) (ht : m f (-1) = 5) (h1 : m f 1 = 0) (h2 : m f 2 = 0) (h5 : hTold m lo hi (m f 5)) : hFld m lo hi f (fw i) := ⟨hl, ht, v.1, h1, h2, v.2.1, v.2.2, h5⟩
theorem hFo.a0 {m : aM} {i : Int} (h : hFo m) (hm : 40 ≤ m 0 0) (hi : 0 ≤ i ∧ i < 21681) (hr : i % 73 = 0) (v : hFv m 30 i) : hArms m 29 32 29 (fw i) := by
  obtain ⟨g29a, g290, g291, g30a, g301, g302, g305, g31a, g32a, g32b, g33a, g330, g331, g34a, g341, g342, g345, g35a, g36a, g36b, g360, g38a, g380, g381, g382, g383, g384, g39a, g391, g393, g40a, g37a, g4a, g4b⟩ := h
  have e5 : fw i 5 = 0 := by rw [fw_5, if_pos hr]
  refine ⟨⟨⟨by omega, Or.inl (by omega)⟩, by omega⟩, by omega, g29a, ?_, by omega, ?_, ?_, fw_ok hi, fun k a b => by omega, fun j k a b => by omega⟩
  · rw [g290]
    exact hFo.fld (by omega) v g30a g301 g302 ⟨by omega, by omega, by rw [g305]; exact g31a⟩
  · rw [g291]; exact g32a
  · rw [g291, e5]; exact g32b
theorem hFo.a1 {m : aM} {i : Int} (h : hFo m) (hm : 40 ≤ m 0 0) (hi : 0 ≤ i ∧ i < 21681) (hr : i % 73 ≠ 0) (v : hFv m 34 i) (o0 : m 39 0 = fw i 7) (o2 : m 39 2 = fw i 9) : hArms m 33 40 33 (fw i) := by
  obtain ⟨g29a, g290, g291, g30a, g301, g302, g305, g31a, g32a, g32b, g33a, g330, g331, g34a, g341, g342, g345, g35a, g36a, g36b, g360, g38a, g380, g381, g382, g383, g384, g39a, g391, g393, g40a, g37a, g4a, g4b⟩ := h
  have e5 : fw i 5 = 1 := by rw [fw_5, if_neg hr]
  have ok := fw_ok hi
  have L : ∀ j, 0 ≤ j → j ≤ 9 → (j ≠ 1 ∧ j ≠ 3) → fw i (6 + 10 * 0 + j) = l_no j := fun j b c e => by
    rw [fw_l (by omega) (by omega) (by omega), show (6 + 10 * 0 + j - 6) % 10 = j by omega]
  have f7 : fw i (6 + 10 * 0 + 1) = fw i 7 := rfl
  have f9 : fw i (6 + 10 * 0 + 3) = fw i 9 := rfl
  have y := ok.2.2.2.2.2.2.2.1 0 (by omega) (by omega)
  refine ⟨⟨⟨by omega, Or.inl (by omega)⟩, by omega⟩, by omega, g33a, ?_, by omega, ?_, ?_, ok, fun k a b => ?_, fun j k a b c e n => by omega⟩
  · rw [g330]
    exact hFo.fld (by omega) v g34a g341 g342 ⟨by omega, by omega, by rw [g345]; exact g35a⟩
  · rw [g331]; exact g36a
  · rw [g331, e5]; exact g36b
  · have k0 : k = 0 := by omega
    subst k0
    rw [g331, g360]
    obtain ⟨y1, y2, y3, y4, y5⟩ := y
    have w0 : fw i (6 + 10 * 0) = 0 := by have := L 0 (by omega) (by omega) (by omega); rw [Int.add_zero] at this; exact this
    have w4 := L 4 (by omega) (by omega) (by omega)
    have w9 := L 9 (by omega) (by omega) (by omega)
    have w2 := L 2 (by omega) (by omega) (by omega)
    have w1 : 0 ≤ fw i 7 := by rw [fw_7, if_neg hr]; omega
    refine ⟨by omega, g38a, y1, by rw [g380, w0], Or.inr ?_, Or.inl ⟨g382, ?_⟩, by rw [g383, w4]; rfl, by rw [g384, w9]; rfl, y4, y5⟩
    · rw [g381]
      refine ⟨by omega, by omega, g39a, ?_, o0.trans f7.symm, by rw [g391, w2]; rfl, o2.trans f9.symm, ⟨by omega, by omega, by rw [g393]; exact g40a⟩⟩
      rcases y2 with q | q
      · exact q
      · exfalso
        have := q.1
        rw [f7] at this
        omega
    · rcases y3 with q | q
      · exfalso
        have := q.1
        rw [w4] at this
        simp [l_no] at this
      · exact q
theorem hFo.w0 {m : aM} {a b c : Int} (h : hFo m) : hFo (mS (mS (mS m 30 0 a) 30 3 b) 30 4 c) := h.cg (fun x j p => by
  unfold hFp at p
  clear h
  rw [mS_iff, if_neg (by omega), mS_iff, if_neg (by omega), mS_iff, if_neg (by omega)])
theorem hFo.w1 {m : aM} {a b c e f : Int} (h : hFo m) : hFo (mS (mS (mS (mS (mS m 34 0 a) 34 3 b) 34 4 c) 39 0 e) 39 2 f) := h.cg (fun x j p => by
  unfold hFp at p
  clear h
  rw [mS_iff, if_neg (by omega), mS_iff, if_neg (by omega), mS_iff, if_neg (by omega), mS_iff, if_neg (by omega), mS_iff, if_neg (by omega)])
theorem hFo.f0 {m : aM} {a b c : Int} : ∀ x j, x ≠ 30 → x ≠ 34 → x ≠ 39 → (mS (mS (mS m 30 0 a) 30 3 b) 30 4 c) x j = m x j := fun x j p q r => by rw [mS_iff, if_neg (by omega), mS_iff, if_neg (by omega), mS_iff, if_neg (by omega)]
theorem hFo.f1 {m : aM} {a b c e f : Int} : ∀ x j, x ≠ 30 → x ≠ 34 → x ≠ 39 → (mS (mS (mS (mS (mS m 34 0 a) 34 3 b) 34 4 c) 39 0 e) 39 2 f) x j = m x j := fun x j p q r => by rw [mS_iff, if_neg (by omega), mS_iff, if_neg (by omega), mS_iff, if_neg (by omega), mS_iff, if_neg (by omega), mS_iff, if_neg (by omega)]
theorem ct_33 {d : Nat} {m : aM} {Q : aO → aM → Prop} {i : Int} (hd : 1 ≤ d) (h : hFo m) (hm : 40 ≤ m 0 0) (hi : 0 ≤ i ∧ i < 21681) (hQ : ∀ m' r lo hi, ((r = 29 ∧ lo = 29 ∧ hi = 32) ∨ (r = 33 ∧ lo = 33 ∧ hi = 40)) → hFo m' → hArms m' lo hi r (fw i) → (∀ x j, x ≠ 30 → x ≠ 34 → x ≠ 39 → m' x j = m x j) → Q (.inl (some (aR r))) m') : am_wpc am_G am_T d 33 [aR 1, aI i] m Q := by
  have h0 := h
  have GG := h
  obtain ⟨g29a, g290, g291, g30a, g301, g302, g305, g31a, g32a, g32b, g33a, g330, g331, g34a, g341, g342, g345, g35a, g36a, g36b, g360, g38a, g380, g381, g382, g383, g384, g39a, g391, g393, g40a, g37a, g4a, g4b⟩ := GG
  clear h g301 g302 g305 g31a g32a g32b g291 g341 g342 g345 g35a g380 g382 g383 g384 g391 g393 g40a g37a g4a g4b
  have q73 : i.tdiv 73 = i / 73 := Int.tdiv_eq_ediv_of_nonneg (by omega)
  have r73 : i.tmod 73 = i % 73 := Int.tmod_eq_emod_of_nonneg (by omega)
  refine am_in rfl hd (fun d hd => ?_)
  refine am_go 400 [] (am_wpc_cm _ _ _) wf_33 ?_
  refine And.intro (show 0 < 73 by first | omega | (simp only [mS_iff, eq_self, Int.reduceEq, true_and, and_true, false_and, and_false, and_self, ↓reduceIte]; omega) | (simp only [mS_iff, eq_self, Int.reduceEq, true_and, and_true, false_and, and_false, and_self, ↓reduceIte] at *; omega)) ?_
  generalize e_f : (i.tdiv 73) = f
  refine And.intro (show 0 < 73 by first | omega | (simp only [mS_iff, eq_self, Int.reduceEq, true_and, and_true, false_and, and_false, and_self, ↓reduceIte]; omega) | (simp only [mS_iff, eq_self, Int.reduceEq, true_and, and_true, false_and, and_false, and_self, ↓reduceIte] at *; omega)) ?_
  generalize e_o : (i.tmod 73) = o
  refine And.intro (fun h1 => ?_) (fun h1 => ?_)
  · refine And.intro (rfl) ?_
    refine And.intro (show -2147483648 ≤ f - 9 ∧ f - 9 ≤ 2147483647 by first | omega | (simp only [mS_iff, eq_self, Int.reduceEq, true_and, and_true, false_and, and_false, and_self, ↓reduceIte]; omega) | (simp only [mS_iff, eq_self, Int.reduceEq, true_and, and_true, false_and, and_false, and_self, ↓reduceIte] at *; omega)) ?_
    refine And.intro (show 0 < 72 by first | omega | (simp only [mS_iff, eq_self, Int.reduceEq, true_and, and_true, false_and, and_false, and_self, ↓reduceIte]; omega) | (simp only [mS_iff, eq_self, Int.reduceEq, true_and, and_true, false_and, and_false, and_self, ↓reduceIte] at *; omega)) ?_
    generalize e_p : ((f - 9).tmod 72) = p
    have qp : 9 ≤ f → p = (f - 9) % 72 := fun z => by rw [← e_p]; exact Int.tmod_eq_emod_of_nonneg (by omega)
    have pb : -72 < p ∧ p < 72 := by rw [← e_p]; exact ⟨Int.lt_tmod_of_pos _ (by omega), Int.tmod_lt_of_pos _ (by omega)⟩
    refine And.intro (show (m 33 (-1)) = 4 by first | assumption | omega | (simp only [mS_iff, eq_self, Int.reduceEq, true_and, and_true, false_and, and_false, and_self, ↓reduceIte]; omega) | (simp only [mS_iff, eq_self, Int.reduceEq, true_and, and_true, false_and, and_false, and_self, ↓reduceIte] at *; omega)) ?_
    rw [show m 33 0 = 34 by first | exact g330 | (simp only [mS_iff, eq_self, Int.reduceEq, true_and, and_true, false_and, and_false, and_self, ↓reduceIte]; exact g330)]
    refine And.intro (fun h2 => ?_) (fun h2 => ?_)
    · have dq : 9 ≤ f → (f - 9).tdiv 72 = (f - 9) / 72 := fun z => Int.tdiv_eq_ediv_of_nonneg (by omega)
      refine And.intro (show -2147483648 ≤ f - 9 ∧ f - 9 ≤ 2147483647 by first | omega | (simp only [mS_iff, eq_self, Int.reduceEq, true_and, and_true, false_and, and_false, and_self, ↓reduceIte]; omega) | (simp only [mS_iff, eq_self, Int.reduceEq, true_and, and_true, false_and, and_false, and_self, ↓reduceIte] at *; omega)) ?_
      refine And.intro (show 0 < 72 by first | omega | (simp only [mS_iff, eq_self, Int.reduceEq, true_and, and_true, false_and, and_false, and_self, ↓reduceIte]; omega) | (simp only [mS_iff, eq_self, Int.reduceEq, true_and, and_true, false_and, and_false, and_self, ↓reduceIte] at *; omega)) ?_
      refine And.intro (show -2147483648 ≤ 1 + ((f - 9).tdiv 72) ∧ 1 + ((f - 9).tdiv 72) ≤ 2147483647 by first | omega | (simp only [mS_iff, eq_self, Int.reduceEq, true_and, and_true, false_and, and_false, and_self, ↓reduceIte]; omega) | (simp only [mS_iff, eq_self, Int.reduceEq, true_and, and_true, false_and, and_false, and_self, ↓reduceIte] at *; omega)) ?_
      refine And.intro (show 0 < 34 ∧ (m 34 (-1)) = 5 by first | omega | (simp only [mS_iff, eq_self, Int.reduceEq, true_and, and_true, false_and, and_false, and_self, ↓reduceIte]; omega) | (simp only [mS_iff, eq_self, Int.reduceEq, true_and, and_true, false_and, and_false, and_self, ↓reduceIte] at *; omega)) ?_
      refine And.intro (show (m 33 (-1)) = 4 by first | assumption | omega | (simp only [mS_iff, eq_self, Int.reduceEq, true_and, and_true, false_and, and_false, and_self, ↓reduceIte]; omega) | (simp only [mS_iff, eq_self, Int.reduceEq, true_and, and_true, false_and, and_false, and_self, ↓reduceIte] at *; omega)) ?_
      rw [show (mS m 34 0 (1 + ((f - 9).tdiv 72))) 33 0 = 34 by first | exact g330 | (simp only [mS_iff, eq_self, Int.reduceEq, true_and, and_true, false_and, and_false, and_self, ↓reduceIte]; exact g330)]
      refine And.intro (fun _ => ?_) (fun h => absurd h (by omega))
      refine And.intro (show 0 < 8 by first | omega | (simp only [mS_iff, eq_self, Int.reduceEq, true_and, and_true, false_and, and_false, and_self, ↓reduceIte]; omega) | (simp only [mS_iff, eq_self, Int.reduceEq, true_and, and_true, false_and, and_false, and_self, ↓reduceIte] at *; omega)) ?_
      have d8 : 9 ≤ f → p.tdiv 8 = p / 8 := fun z => Int.tdiv_eq_ediv_of_nonneg (by have := qp z; omega)
      have m8 : 9 ≤ f → p.tmod 8 = p % 8 := fun z => Int.tmod_eq_emod_of_nonneg (by have := qp z; omega)
      refine And.intro (show 0 < 34 ∧ (m 34 (-1)) = 5 by first | omega | (simp only [mS_iff, eq_self, Int.reduceEq, true_and, and_true, false_and, and_false, and_self, ↓reduceIte]; omega) | (simp only [mS_iff, eq_self, Int.reduceEq, true_and, and_true, false_and, and_false, and_self, ↓reduceIte] at *; omega)) ?_
      refine And.intro (show 0 < 8 by first | omega | (simp only [mS_iff, eq_self, Int.reduceEq, true_and, and_true, false_and, and_false, and_self, ↓reduceIte]; omega) | (simp only [mS_iff, eq_self, Int.reduceEq, true_and, and_true, false_and, and_false, and_self, ↓reduceIte] at *; omega)) ?_
      refine And.intro (show (m 33 (-1)) = 4 by first | assumption | omega | (simp only [mS_iff, eq_self, Int.reduceEq, true_and, and_true, false_and, and_false, and_self, ↓reduceIte]; omega) | (simp only [mS_iff, eq_self, Int.reduceEq, true_and, and_true, false_and, and_false, and_self, ↓reduceIte] at *; omega)) ?_
      rw [show (mS (mS m 34 0 (1 + ((f - 9).tdiv 72))) 34 3 (p.tdiv 8)) 33 0 = 34 by first | exact g330 | (simp only [mS_iff, eq_self, Int.reduceEq, true_and, and_true, false_and, and_false, and_self, ↓reduceIte]; exact g330)]
      refine And.intro (fun _ => ?_) (fun h => absurd h (by omega))
      refine And.intro (show 0 < 8 by first | omega | (simp only [mS_iff, eq_self, Int.reduceEq, true_and, and_true, false_and, and_false, and_self, ↓reduceIte]; omega) | (simp only [mS_iff, eq_self, Int.reduceEq, true_and, and_true, false_and, and_false, and_self, ↓reduceIte] at *; omega)) ?_
      refine And.intro (fun h3 => ?_) (fun h3 => ?_)
      · replace h3 : (p.tmod 8) ≥ (p.tdiv 8) := h3
        refine And.intro (show -2147483648 ≤ (p.tmod 8) + 1 ∧ (p.tmod 8) + 1 ≤ 2147483647 by first | omega | (simp only [mS_iff, eq_self, Int.reduceEq, true_and, and_true, false_and, and_false, and_self, ↓reduceIte]; omega) | (simp only [mS_iff, eq_self, Int.reduceEq, true_and, and_true, false_and, and_false, and_self, ↓reduceIte] at *; omega)) ?_
        refine And.intro (show 0 < 34 ∧ (m 34 (-1)) = 5 by first | omega | (simp only [mS_iff, eq_self, Int.reduceEq, true_and, and_true, false_and, and_false, and_self, ↓reduceIte]; omega) | (simp only [mS_iff, eq_self, Int.reduceEq, true_and, and_true, false_and, and_false, and_self, ↓reduceIte] at *; omega)) ?_
        refine And.intro (fun h => absurd h (by omega)) (fun _ => ?_)
        have o9 : (o - 1).tdiv 9 = (o - 1) / 9 := Int.tdiv_eq_ediv_of_nonneg (by omega)
        have o8 : (o - 1).tmod 9 = (o - 1) % 9 := Int.tmod_eq_emod_of_nonneg (by omega)
        refine And.intro (show (m 33 (-1)) = 4 by first | assumption | omega | (simp only [mS_iff, eq_self, Int.reduceEq, true_and, and_true, false_and, and_false, and_self, ↓reduceIte]; omega) | (simp only [mS_iff, eq_self, Int.reduceEq, true_and, and_true, false_and, and_false, and_self, ↓reduceIte] at *; omega)) ?_
        rw [show (mS (mS (mS m 34 0 (1 + ((f - 9).tdiv 72))) 34 3 (p.tdiv 8)) 34 4 ((p.tmod 8) + 1)) 33 1 = 36 by first | exact g331 | (simp only [mS_iff, eq_self, Int.reduceEq, true_and, and_true, false_and, and_false, and_self, ↓reduceIte]; exact g331)]
        refine And.intro (⟨by first | assumption | omega | (simp only [mS_iff, eq_self, Int.reduceEq, true_and, and_true, false_and, and_false, and_self, ↓reduceIte]; omega), by first | omega | (simp only [mS_iff, eq_self, Int.reduceEq, true_and, and_true, false_and, and_false, and_self, ↓reduceIte]; omega) | (simp only [mS_iff, eq_self, Int.reduceEq, true_and, and_true, false_and, and_false, and_self, ↓reduceIte] at *; omega)⟩) ?_
        rw [show (mS (mS (mS m 34 0 (1 + ((f - 9).tdiv 72))) 34 3 (p.tdiv 8)) 34 4 ((p.tmod 8) + 1)) 36 0 = 38 by first | exact g360 | (simp only [mS_iff, eq_self, Int.reduceEq, true_and, and_true, false_and, and_false, and_self, ↓reduceIte]; exact g360)]
        refine And.intro (show (m 38 (-1)) = 7 by first | assumption | omega | (simp only [mS_iff, eq_self, Int.reduceEq, true_and, and_true, false_and, and_false, and_self, ↓reduceIte]; omega) | (simp only [mS_iff, eq_self, Int.reduceEq, true_and, and_true, false_and, and_false, and_self, ↓reduceIte] at *; omega)) ?_
        rw [show (mS (mS (mS m 34 0 (1 + ((f - 9).tdiv 72))) 34 3 (p.tdiv 8)) 34 4 ((p.tmod 8) + 1)) 38 1 = 39 by first | exact g381 | (simp only [mS_iff, eq_self, Int.reduceEq, true_and, and_true, false_and, and_false, and_self, ↓reduceIte]; exact g381)]
        refine And.intro (show -2147483648 ≤ o - 1 ∧ o - 1 ≤ 2147483647 by first | omega | (simp only [mS_iff, eq_self, Int.reduceEq, true_and, and_true, false_and, and_false, and_self, ↓reduceIte]; omega) | (simp only [mS_iff, eq_self, Int.reduceEq, true_and, and_true, false_and, and_false, and_self, ↓reduceIte] at *; omega)) ?_
        refine And.intro (show 0 < 9 by first | omega | (simp only [mS_iff, eq_self, Int.reduceEq, true_and, and_true, false_and, and_false, and_self, ↓reduceIte]; omega) | (simp only [mS_iff, eq_self, Int.reduceEq, true_and, and_true, false_and, and_false, and_self, ↓reduceIte] at *; omega)) ?_
        refine And.intro (show 0 < 39 ∧ (m 39 (-1)) = 8 by first | omega | (simp only [mS_iff, eq_self, Int.reduceEq, true_and, and_true, false_and, and_false, and_self, ↓reduceIte]; omega) | (simp only [mS_iff, eq_self, Int.reduceEq, true_and, and_true, false_and, and_false, and_self, ↓reduceIte] at *; omega)) ?_
        refine And.intro (show (m 33 (-1)) = 4 by first | assumption | omega | (simp only [mS_iff, eq_self, Int.reduceEq, true_and, and_true, false_and, and_false, and_self, ↓reduceIte]; omega) | (simp only [mS_iff, eq_self, Int.reduceEq, true_and, and_true, false_and, and_false, and_self, ↓reduceIte] at *; omega)) ?_
        rw [show (mS (mS (mS (mS m 34 0 (1 + ((f - 9).tdiv 72))) 34 3 (p.tdiv 8)) 34 4 ((p.tmod 8) + 1)) 39 0 ((o - 1).tdiv 9)) 33 1 = 36 by first | exact g331 | (simp only [mS_iff, eq_self, Int.reduceEq, true_and, and_true, false_and, and_false, and_self, ↓reduceIte]; exact g331)]
        refine And.intro (⟨by first | assumption | omega | (simp only [mS_iff, eq_self, Int.reduceEq, true_and, and_true, false_and, and_false, and_self, ↓reduceIte]; omega), by first | omega | (simp only [mS_iff, eq_self, Int.reduceEq, true_and, and_true, false_and, and_false, and_self, ↓reduceIte]; omega) | (simp only [mS_iff, eq_self, Int.reduceEq, true_and, and_true, false_and, and_false, and_self, ↓reduceIte] at *; omega)⟩) ?_
        rw [show (mS (mS (mS (mS m 34 0 (1 + ((f - 9).tdiv 72))) 34 3 (p.tdiv 8)) 34 4 ((p.tmod 8) + 1)) 39 0 ((o - 1).tdiv 9)) 36 0 = 38 by first | exact g360 | (simp only [mS_iff, eq_self, Int.reduceEq, true_and, and_true, false_and, and_false, and_self, ↓reduceIte]; exact g360)]
        refine And.intro (show (m 38 (-1)) = 7 by first | assumption | omega | (simp only [mS_iff, eq_self, Int.reduceEq, true_and, and_true, false_and, and_false, and_self, ↓reduceIte]; omega) | (simp only [mS_iff, eq_self, Int.reduceEq, true_and, and_true, false_and, and_false, and_self, ↓reduceIte] at *; omega)) ?_
        rw [show (mS (mS (mS (mS m 34 0 (1 + ((f - 9).tdiv 72))) 34 3 (p.tdiv 8)) 34 4 ((p.tmod 8) + 1)) 39 0 ((o - 1).tdiv 9)) 38 1 = 39 by first | exact g381 | (simp only [mS_iff, eq_self, Int.reduceEq, true_and, and_true, false_and, and_false, and_self, ↓reduceIte]; exact g381)]
        refine And.intro (show -2147483648 ≤ o - 1 ∧ o - 1 ≤ 2147483647 by first | omega | (simp only [mS_iff, eq_self, Int.reduceEq, true_and, and_true, false_and, and_false, and_self, ↓reduceIte]; omega) | (simp only [mS_iff, eq_self, Int.reduceEq, true_and, and_true, false_and, and_false, and_self, ↓reduceIte] at *; omega)) ?_
        refine And.intro (show 0 < 9 by first | omega | (simp only [mS_iff, eq_self, Int.reduceEq, true_and, and_true, false_and, and_false, and_self, ↓reduceIte]; omega) | (simp only [mS_iff, eq_self, Int.reduceEq, true_and, and_true, false_and, and_false, and_self, ↓reduceIte] at *; omega)) ?_
        refine And.intro (show 0 < 39 ∧ (m 39 (-1)) = 8 by first | omega | (simp only [mS_iff, eq_self, Int.reduceEq, true_and, and_true, false_and, and_false, and_self, ↓reduceIte]; omega) | (simp only [mS_iff, eq_self, Int.reduceEq, true_and, and_true, false_and, and_false, and_self, ↓reduceIte] at *; omega)) ?_
        have V0 : ((mS (mS (mS (mS (mS m 34 0 (1 + ((f - 9).tdiv 72))) 34 3 (p.tdiv 8)) 34 4 ((p.tmod 8) + 1)) 39 0 ((o - 1).tdiv 9)) 39 2 ((o - 1).tmod 9))) 34 0 = fw i 0 := by simp only [mS_iff, eq_self, Int.reduceEq, true_and, and_true, false_and, and_false, and_self, ↓reduceIte]; rw [fw_0]; first | (rw [if_pos (by omega)]) | (rw [if_neg (by omega)]; have := dq (by omega); omega)
        have V3 : ((mS (mS (mS (mS (mS m 34 0 (1 + ((f - 9).tdiv 72))) 34 3 (p.tdiv 8)) 34 4 ((p.tmod 8) + 1)) 39 0 ((o - 1).tdiv 9)) 39 2 ((o - 1).tmod 9))) 34 3 = fw i 3 := by simp only [mS_iff, eq_self, Int.reduceEq, true_and, and_true, false_and, and_false, and_self, ↓reduceIte]; rw [fw_3]; first | (rw [if_pos (by omega)]; omega) | (rw [if_neg (by omega)]; have := d8 (by omega); have := qp (by omega); rw [← show f = i / 73 by omega]; omega)
        have V4 : ((mS (mS (mS (mS (mS m 34 0 (1 + ((f - 9).tdiv 72))) 34 3 (p.tdiv 8)) 34 4 ((p.tmod 8) + 1)) 39 0 ((o - 1).tdiv 9)) 39 2 ((o - 1).tmod 9))) 34 4 = fw i 4 := by simp only [mS_iff, eq_self, Int.reduceEq, true_and, and_true, false_and, and_false, and_self, ↓reduceIte]; rw [fw_4]; first | (rw [if_pos (by omega)]; done) | (rw [if_neg (by omega)]; have := d8 (by omega); have := m8 (by omega); have := qp (by omega); rw [← show f = i / 73 by omega, ← qp (by omega)]; first | (rw [if_pos (by omega)]; omega) | (rw [if_neg (by omega)]; omega))
        have FO : hFo ((mS (mS (mS (mS (mS m 34 0 (1 + ((f - 9).tdiv 72))) 34 3 (p.tdiv 8)) 34 4 ((p.tmod 8) + 1)) 39 0 ((o - 1).tdiv 9)) 39 2 ((o - 1).tmod 9))) := h0.w1
        have Z0 : ((mS (mS (mS (mS (mS m 34 0 (1 + ((f - 9).tdiv 72))) 34 3 (p.tdiv 8)) 34 4 ((p.tmod 8) + 1)) 39 0 ((o - 1).tdiv 9)) 39 2 ((o - 1).tmod 9))) 0 0 = m 0 0 := by simp only [mS_iff, eq_self, Int.reduceEq, true_and, and_true, false_and, and_false, and_self, ↓reduceIte]
        have O0 : ((mS (mS (mS (mS (mS m 34 0 (1 + ((f - 9).tdiv 72))) 34 3 (p.tdiv 8)) 34 4 ((p.tmod 8) + 1)) 39 0 ((o - 1).tdiv 9)) 39 2 ((o - 1).tmod 9))) 39 0 = fw i 7 := by simp only [mS_iff, eq_self, Int.reduceEq, true_and, and_true, false_and, and_false, and_self, ↓reduceIte]; rw [fw_7, if_neg (by omega)]; omega
        have O2 : ((mS (mS (mS (mS (mS m 34 0 (1 + ((f - 9).tdiv 72))) 34 3 (p.tdiv 8)) 34 4 ((p.tmod 8) + 1)) 39 0 ((o - 1).tdiv 9)) 39 2 ((o - 1).tmod 9))) 39 2 = fw i 9 := by simp only [mS_iff, eq_self, Int.reduceEq, true_and, and_true, false_and, and_false, and_self, ↓reduceIte]; rw [fw_9, if_neg (by omega)]; omega
        exact hQ _ 33 33 40 (Or.inr ⟨rfl, rfl, rfl⟩) FO (FO.a1 (by omega) hi (by omega) ⟨V0, V3, V4⟩ O0 O2) hFo.f1
      · replace h3 : (p.tmod 8) < (p.tdiv 8) := h3
        refine And.intro (show 0 < 34 ∧ (m 34 (-1)) = 5 by first | omega | (simp only [mS_iff, eq_self, Int.reduceEq, true_and, and_true, false_and, and_false, and_self, ↓reduceIte]; omega) | (simp only [mS_iff, eq_self, Int.reduceEq, true_and, and_true, false_and, and_false, and_self, ↓reduceIte] at *; omega)) ?_
        refine And.intro (fun h => absurd h (by omega)) (fun _ => ?_)
        have o9 : (o - 1).tdiv 9 = (o - 1) / 9 := Int.tdiv_eq_ediv_of_nonneg (by omega)
        have o8 : (o - 1).tmod 9 = (o - 1) % 9 := Int.tmod_eq_emod_of_nonneg (by omega)
        refine And.intro (show (m 33 (-1)) = 4 by first | assumption | omega | (simp only [mS_iff, eq_self, Int.reduceEq, true_and, and_true, false_and, and_false, and_self, ↓reduceIte]; omega) | (simp only [mS_iff, eq_self, Int.reduceEq, true_and, and_true, false_and, and_false, and_self, ↓reduceIte] at *; omega)) ?_
        rw [show (mS (mS (mS m 34 0 (1 + ((f - 9).tdiv 72))) 34 3 (p.tdiv 8)) 34 4 (p.tmod 8)) 33 1 = 36 by first | exact g331 | (simp only [mS_iff, eq_self, Int.reduceEq, true_and, and_true, false_and, and_false, and_self, ↓reduceIte]; exact g331)]
        refine And.intro (⟨by first | assumption | omega | (simp only [mS_iff, eq_self, Int.reduceEq, true_and, and_true, false_and, and_false, and_self, ↓reduceIte]; omega), by first | omega | (simp only [mS_iff, eq_self, Int.reduceEq, true_and, and_true, false_and, and_false, and_self, ↓reduceIte]; omega) | (simp only [mS_iff, eq_self, Int.reduceEq, true_and, and_true, false_and, and_false, and_self, ↓reduceIte] at *; omega)⟩) ?_
        rw [show (mS (mS (mS m 34 0 (1 + ((f - 9).tdiv 72))) 34 3 (p.tdiv 8)) 34 4 (p.tmod 8)) 36 0 = 38 by first | exact g360 | (simp only [mS_iff, eq_self, Int.reduceEq, true_and, and_true, false_and, and_false, and_self, ↓reduceIte]; exact g360)]
        refine And.intro (show (m 38 (-1)) = 7 by first | assumption | omega | (simp only [mS_iff, eq_self, Int.reduceEq, true_and, and_true, false_and, and_false, and_self, ↓reduceIte]; omega) | (simp only [mS_iff, eq_self, Int.reduceEq, true_and, and_true, false_and, and_false, and_self, ↓reduceIte] at *; omega)) ?_
        rw [show (mS (mS (mS m 34 0 (1 + ((f - 9).tdiv 72))) 34 3 (p.tdiv 8)) 34 4 (p.tmod 8)) 38 1 = 39 by first | exact g381 | (simp only [mS_iff, eq_self, Int.reduceEq, true_and, and_true, false_and, and_false, and_self, ↓reduceIte]; exact g381)]
        refine And.intro (show -2147483648 ≤ o - 1 ∧ o - 1 ≤ 2147483647 by first | omega | (simp only [mS_iff, eq_self, Int.reduceEq, true_and, and_true, false_and, and_false, and_self, ↓reduceIte]; omega) | (simp only [mS_iff, eq_self, Int.reduceEq, true_and, and_true, false_and, and_false, and_self, ↓reduceIte] at *; omega)) ?_
        refine And.intro (show 0 < 9 by first | omega | (simp only [mS_iff, eq_self, Int.reduceEq, true_and, and_true, false_and, and_false, and_self, ↓reduceIte]; omega) | (simp only [mS_iff, eq_self, Int.reduceEq, true_and, and_true, false_and, and_false, and_self, ↓reduceIte] at *; omega)) ?_
        refine And.intro (show 0 < 39 ∧ (m 39 (-1)) = 8 by first | omega | (simp only [mS_iff, eq_self, Int.reduceEq, true_and, and_true, false_and, and_false, and_self, ↓reduceIte]; omega) | (simp only [mS_iff, eq_self, Int.reduceEq, true_and, and_true, false_and, and_false, and_self, ↓reduceIte] at *; omega)) ?_
        refine And.intro (show (m 33 (-1)) = 4 by first | assumption | omega | (simp only [mS_iff, eq_self, Int.reduceEq, true_and, and_true, false_and, and_false, and_self, ↓reduceIte]; omega) | (simp only [mS_iff, eq_self, Int.reduceEq, true_and, and_true, false_and, and_false, and_self, ↓reduceIte] at *; omega)) ?_
        rw [show (mS (mS (mS (mS m 34 0 (1 + ((f - 9).tdiv 72))) 34 3 (p.tdiv 8)) 34 4 (p.tmod 8)) 39 0 ((o - 1).tdiv 9)) 33 1 = 36 by first | exact g331 | (simp only [mS_iff, eq_self, Int.reduceEq, true_and, and_true, false_and, and_false, and_self, ↓reduceIte]; exact g331)]
        refine And.intro (⟨by first | assumption | omega | (simp only [mS_iff, eq_self, Int.reduceEq, true_and, and_true, false_and, and_false, and_self, ↓reduceIte]; omega), by first | omega | (simp only [mS_iff, eq_self, Int.reduceEq, true_and, and_true, false_and, and_false, and_self, ↓reduceIte]; omega) | (simp only [mS_iff, eq_self, Int.reduceEq, true_and, and_true, false_and, and_false, and_self, ↓reduceIte] at *; omega)⟩) ?_
        rw [show (mS (mS (mS (mS m 34 0 (1 + ((f - 9).tdiv 72))) 34 3 (p.tdiv 8)) 34 4 (p.tmod 8)) 39 0 ((o - 1).tdiv 9)) 36 0 = 38 by first | exact g360 | (simp only [mS_iff, eq_self, Int.reduceEq, true_and, and_true, false_and, and_false, and_self, ↓reduceIte]; exact g360)]
        refine And.intro (show (m 38 (-1)) = 7 by first | assumption | omega | (simp only [mS_iff, eq_self, Int.reduceEq, true_and, and_true, false_and, and_false, and_self, ↓reduceIte]; omega) | (simp only [mS_iff, eq_self, Int.reduceEq, true_and, and_true, false_and, and_false, and_self, ↓reduceIte] at *; omega)) ?_
        rw [show (mS (mS (mS (mS m 34 0 (1 + ((f - 9).tdiv 72))) 34 3 (p.tdiv 8)) 34 4 (p.tmod 8)) 39 0 ((o - 1).tdiv 9)) 38 1 = 39 by first | exact g381 | (simp only [mS_iff, eq_self, Int.reduceEq, true_and, and_true, false_and, and_false, and_self, ↓reduceIte]; exact g381)]
        refine And.intro (show -2147483648 ≤ o - 1 ∧ o - 1 ≤ 2147483647 by first | omega | (simp only [mS_iff, eq_self, Int.reduceEq, true_and, and_true, false_and, and_false, and_self, ↓reduceIte]; omega) | (simp only [mS_iff, eq_self, Int.reduceEq, true_and, and_true, false_and, and_false, and_self, ↓reduceIte] at *; omega)) ?_
        refine And.intro (show 0 < 9 by first | omega | (simp only [mS_iff, eq_self, Int.reduceEq, true_and, and_true, false_and, and_false, and_self, ↓reduceIte]; omega) | (simp only [mS_iff, eq_self, Int.reduceEq, true_and, and_true, false_and, and_false, and_self, ↓reduceIte] at *; omega)) ?_
        refine And.intro (show 0 < 39 ∧ (m 39 (-1)) = 8 by first | omega | (simp only [mS_iff, eq_self, Int.reduceEq, true_and, and_true, false_and, and_false, and_self, ↓reduceIte]; omega) | (simp only [mS_iff, eq_self, Int.reduceEq, true_and, and_true, false_and, and_false, and_self, ↓reduceIte] at *; omega)) ?_
        have V0 : ((mS (mS (mS (mS (mS m 34 0 (1 + ((f - 9).tdiv 72))) 34 3 (p.tdiv 8)) 34 4 (p.tmod 8)) 39 0 ((o - 1).tdiv 9)) 39 2 ((o - 1).tmod 9))) 34 0 = fw i 0 := by simp only [mS_iff, eq_self, Int.reduceEq, true_and, and_true, false_and, and_false, and_self, ↓reduceIte]; rw [fw_0]; first | (rw [if_pos (by omega)]) | (rw [if_neg (by omega)]; have := dq (by omega); omega)
        have V3 : ((mS (mS (mS (mS (mS m 34 0 (1 + ((f - 9).tdiv 72))) 34 3 (p.tdiv 8)) 34 4 (p.tmod 8)) 39 0 ((o - 1).tdiv 9)) 39 2 ((o - 1).tmod 9))) 34 3 = fw i 3 := by simp only [mS_iff, eq_self, Int.reduceEq, true_and, and_true, false_and, and_false, and_self, ↓reduceIte]; rw [fw_3]; first | (rw [if_pos (by omega)]; omega) | (rw [if_neg (by omega)]; have := d8 (by omega); have := qp (by omega); rw [← show f = i / 73 by omega]; omega)
        have V4 : ((mS (mS (mS (mS (mS m 34 0 (1 + ((f - 9).tdiv 72))) 34 3 (p.tdiv 8)) 34 4 (p.tmod 8)) 39 0 ((o - 1).tdiv 9)) 39 2 ((o - 1).tmod 9))) 34 4 = fw i 4 := by simp only [mS_iff, eq_self, Int.reduceEq, true_and, and_true, false_and, and_false, and_self, ↓reduceIte]; rw [fw_4]; first | (rw [if_pos (by omega)]; done) | (rw [if_neg (by omega)]; have := d8 (by omega); have := m8 (by omega); have := qp (by omega); rw [← show f = i / 73 by omega, ← qp (by omega)]; first | (rw [if_pos (by omega)]; omega) | (rw [if_neg (by omega)]; omega))
        have FO : hFo ((mS (mS (mS (mS (mS m 34 0 (1 + ((f - 9).tdiv 72))) 34 3 (p.tdiv 8)) 34 4 (p.tmod 8)) 39 0 ((o - 1).tdiv 9)) 39 2 ((o - 1).tmod 9))) := h0.w1
        have Z0 : ((mS (mS (mS (mS (mS m 34 0 (1 + ((f - 9).tdiv 72))) 34 3 (p.tdiv 8)) 34 4 (p.tmod 8)) 39 0 ((o - 1).tdiv 9)) 39 2 ((o - 1).tmod 9))) 0 0 = m 0 0 := by simp only [mS_iff, eq_self, Int.reduceEq, true_and, and_true, false_and, and_false, and_self, ↓reduceIte]
        have O0 : ((mS (mS (mS (mS (mS m 34 0 (1 + ((f - 9).tdiv 72))) 34 3 (p.tdiv 8)) 34 4 (p.tmod 8)) 39 0 ((o - 1).tdiv 9)) 39 2 ((o - 1).tmod 9))) 39 0 = fw i 7 := by simp only [mS_iff, eq_self, Int.reduceEq, true_and, and_true, false_and, and_false, and_self, ↓reduceIte]; rw [fw_7, if_neg (by omega)]; omega
        have O2 : ((mS (mS (mS (mS (mS m 34 0 (1 + ((f - 9).tdiv 72))) 34 3 (p.tdiv 8)) 34 4 (p.tmod 8)) 39 0 ((o - 1).tdiv 9)) 39 2 ((o - 1).tmod 9))) 39 2 = fw i 9 := by simp only [mS_iff, eq_self, Int.reduceEq, true_and, and_true, false_and, and_false, and_self, ↓reduceIte]; rw [fw_9, if_neg (by omega)]; omega
        exact hQ _ 33 33 40 (Or.inr ⟨rfl, rfl, rfl⟩) FO (FO.a1 (by omega) hi (by omega) ⟨V0, V3, V4⟩ O0 O2) hFo.f1
    · skip
      refine And.intro (show 0 < 34 ∧ (m 34 (-1)) = 5 by first | omega | (simp only [mS_iff, eq_self, Int.reduceEq, true_and, and_true, false_and, and_false, and_self, ↓reduceIte]; omega) | (simp only [mS_iff, eq_self, Int.reduceEq, true_and, and_true, false_and, and_false, and_self, ↓reduceIte] at *; omega)) ?_
      refine And.intro (show (m 33 (-1)) = 4 by first | assumption | omega | (simp only [mS_iff, eq_self, Int.reduceEq, true_and, and_true, false_and, and_false, and_self, ↓reduceIte]; omega) | (simp only [mS_iff, eq_self, Int.reduceEq, true_and, and_true, false_and, and_false, and_self, ↓reduceIte] at *; omega)) ?_
      rw [show (mS m 34 0 0) 33 0 = 34 by first | exact g330 | (simp only [mS_iff, eq_self, Int.reduceEq, true_and, and_true, false_and, and_false, and_self, ↓reduceIte]; exact g330)]
      refine And.intro (fun h => absurd h (by omega)) (fun _ => ?_)
      skip
      refine And.intro (show 0 < 34 ∧ (m 34 (-1)) = 5 by first | omega | (simp only [mS_iff, eq_self, Int.reduceEq, true_and, and_true, false_and, and_false, and_self, ↓reduceIte]; omega) | (simp only [mS_iff, eq_self, Int.reduceEq, true_and, and_true, false_and, and_false, and_self, ↓reduceIte] at *; omega)) ?_
      refine And.intro (show 0 < 8 by first | omega | (simp only [mS_iff, eq_self, Int.reduceEq, true_and, and_true, false_and, and_false, and_self, ↓reduceIte]; omega) | (simp only [mS_iff, eq_self, Int.reduceEq, true_and, and_true, false_and, and_false, and_self, ↓reduceIte] at *; omega)) ?_
      refine And.intro (show (m 33 (-1)) = 4 by first | assumption | omega | (simp only [mS_iff, eq_self, Int.reduceEq, true_and, and_true, false_and, and_false, and_self, ↓reduceIte]; omega) | (simp only [mS_iff, eq_self, Int.reduceEq, true_and, and_true, false_and, and_false, and_self, ↓reduceIte] at *; omega)) ?_
      rw [show (mS (mS m 34 0 0) 34 3 f) 33 0 = 34 by first | exact g330 | (simp only [mS_iff, eq_self, Int.reduceEq, true_and, and_true, false_and, and_false, and_self, ↓reduceIte]; exact g330)]
      refine And.intro (fun h => absurd h (by omega)) (fun _ => ?_)
      refine And.intro (show 0 < 34 ∧ (m 34 (-1)) = 5 by first | omega | (simp only [mS_iff, eq_self, Int.reduceEq, true_and, and_true, false_and, and_false, and_self, ↓reduceIte]; omega) | (simp only [mS_iff, eq_self, Int.reduceEq, true_and, and_true, false_and, and_false, and_self, ↓reduceIte] at *; omega)) ?_
      refine And.intro (fun h => absurd h (by omega)) (fun _ => ?_)
      have o9 : (o - 1).tdiv 9 = (o - 1) / 9 := Int.tdiv_eq_ediv_of_nonneg (by omega)
      have o8 : (o - 1).tmod 9 = (o - 1) % 9 := Int.tmod_eq_emod_of_nonneg (by omega)
      refine And.intro (show (m 33 (-1)) = 4 by first | assumption | omega | (simp only [mS_iff, eq_self, Int.reduceEq, true_and, and_true, false_and, and_false, and_self, ↓reduceIte]; omega) | (simp only [mS_iff, eq_self, Int.reduceEq, true_and, and_true, false_and, and_false, and_self, ↓reduceIte] at *; omega)) ?_
      rw [show (mS (mS (mS m 34 0 0) 34 3 f) 34 4 (-1)) 33 1 = 36 by first | exact g331 | (simp only [mS_iff, eq_self, Int.reduceEq, true_and, and_true, false_and, and_false, and_self, ↓reduceIte]; exact g331)]
      refine And.intro (⟨by first | assumption | omega | (simp only [mS_iff, eq_self, Int.reduceEq, true_and, and_true, false_and, and_false, and_self, ↓reduceIte]; omega), by first | omega | (simp only [mS_iff, eq_self, Int.reduceEq, true_and, and_true, false_and, and_false, and_self, ↓reduceIte]; omega) | (simp only [mS_iff, eq_self, Int.reduceEq, true_and, and_true, false_and, and_false, and_self, ↓reduceIte] at *; omega)⟩) ?_
      rw [show (mS (mS (mS m 34 0 0) 34 3 f) 34 4 (-1)) 36 0 = 38 by first | exact g360 | (simp only [mS_iff, eq_self, Int.reduceEq, true_and, and_true, false_and, and_false, and_self, ↓reduceIte]; exact g360)]
      refine And.intro (show (m 38 (-1)) = 7 by first | assumption | omega | (simp only [mS_iff, eq_self, Int.reduceEq, true_and, and_true, false_and, and_false, and_self, ↓reduceIte]; omega) | (simp only [mS_iff, eq_self, Int.reduceEq, true_and, and_true, false_and, and_false, and_self, ↓reduceIte] at *; omega)) ?_
      rw [show (mS (mS (mS m 34 0 0) 34 3 f) 34 4 (-1)) 38 1 = 39 by first | exact g381 | (simp only [mS_iff, eq_self, Int.reduceEq, true_and, and_true, false_and, and_false, and_self, ↓reduceIte]; exact g381)]
      refine And.intro (show -2147483648 ≤ o - 1 ∧ o - 1 ≤ 2147483647 by first | omega | (simp only [mS_iff, eq_self, Int.reduceEq, true_and, and_true, false_and, and_false, and_self, ↓reduceIte]; omega) | (simp only [mS_iff, eq_self, Int.reduceEq, true_and, and_true, false_and, and_false, and_self, ↓reduceIte] at *; omega)) ?_
      refine And.intro (show 0 < 9 by first | omega | (simp only [mS_iff, eq_self, Int.reduceEq, true_and, and_true, false_and, and_false, and_self, ↓reduceIte]; omega) | (simp only [mS_iff, eq_self, Int.reduceEq, true_and, and_true, false_and, and_false, and_self, ↓reduceIte] at *; omega)) ?_
      refine And.intro (show 0 < 39 ∧ (m 39 (-1)) = 8 by first | omega | (simp only [mS_iff, eq_self, Int.reduceEq, true_and, and_true, false_and, and_false, and_self, ↓reduceIte]; omega) | (simp only [mS_iff, eq_self, Int.reduceEq, true_and, and_true, false_and, and_false, and_self, ↓reduceIte] at *; omega)) ?_
      refine And.intro (show (m 33 (-1)) = 4 by first | assumption | omega | (simp only [mS_iff, eq_self, Int.reduceEq, true_and, and_true, false_and, and_false, and_self, ↓reduceIte]; omega) | (simp only [mS_iff, eq_self, Int.reduceEq, true_and, and_true, false_and, and_false, and_self, ↓reduceIte] at *; omega)) ?_
      rw [show (mS (mS (mS (mS m 34 0 0) 34 3 f) 34 4 (-1)) 39 0 ((o - 1).tdiv 9)) 33 1 = 36 by first | exact g331 | (simp only [mS_iff, eq_self, Int.reduceEq, true_and, and_true, false_and, and_false, and_self, ↓reduceIte]; exact g331)]
      refine And.intro (⟨by first | assumption | omega | (simp only [mS_iff, eq_self, Int.reduceEq, true_and, and_true, false_and, and_false, and_self, ↓reduceIte]; omega), by first | omega | (simp only [mS_iff, eq_self, Int.reduceEq, true_and, and_true, false_and, and_false, and_self, ↓reduceIte]; omega) | (simp only [mS_iff, eq_self, Int.reduceEq, true_and, and_true, false_and, and_false, and_self, ↓reduceIte] at *; omega)⟩) ?_
      rw [show (mS (mS (mS (mS m 34 0 0) 34 3 f) 34 4 (-1)) 39 0 ((o - 1).tdiv 9)) 36 0 = 38 by first | exact g360 | (simp only [mS_iff, eq_self, Int.reduceEq, true_and, and_true, false_and, and_false, and_self, ↓reduceIte]; exact g360)]
      refine And.intro (show (m 38 (-1)) = 7 by first | assumption | omega | (simp only [mS_iff, eq_self, Int.reduceEq, true_and, and_true, false_and, and_false, and_self, ↓reduceIte]; omega) | (simp only [mS_iff, eq_self, Int.reduceEq, true_and, and_true, false_and, and_false, and_self, ↓reduceIte] at *; omega)) ?_
      rw [show (mS (mS (mS (mS m 34 0 0) 34 3 f) 34 4 (-1)) 39 0 ((o - 1).tdiv 9)) 38 1 = 39 by first | exact g381 | (simp only [mS_iff, eq_self, Int.reduceEq, true_and, and_true, false_and, and_false, and_self, ↓reduceIte]; exact g381)]
      refine And.intro (show -2147483648 ≤ o - 1 ∧ o - 1 ≤ 2147483647 by first | omega | (simp only [mS_iff, eq_self, Int.reduceEq, true_and, and_true, false_and, and_false, and_self, ↓reduceIte]; omega) | (simp only [mS_iff, eq_self, Int.reduceEq, true_and, and_true, false_and, and_false, and_self, ↓reduceIte] at *; omega)) ?_
      refine And.intro (show 0 < 9 by first | omega | (simp only [mS_iff, eq_self, Int.reduceEq, true_and, and_true, false_and, and_false, and_self, ↓reduceIte]; omega) | (simp only [mS_iff, eq_self, Int.reduceEq, true_and, and_true, false_and, and_false, and_self, ↓reduceIte] at *; omega)) ?_
      refine And.intro (show 0 < 39 ∧ (m 39 (-1)) = 8 by first | omega | (simp only [mS_iff, eq_self, Int.reduceEq, true_and, and_true, false_and, and_false, and_self, ↓reduceIte]; omega) | (simp only [mS_iff, eq_self, Int.reduceEq, true_and, and_true, false_and, and_false, and_self, ↓reduceIte] at *; omega)) ?_
      have V0 : ((mS (mS (mS (mS (mS m 34 0 0) 34 3 f) 34 4 (-1)) 39 0 ((o - 1).tdiv 9)) 39 2 ((o - 1).tmod 9))) 34 0 = fw i 0 := by simp only [mS_iff, eq_self, Int.reduceEq, true_and, and_true, false_and, and_false, and_self, ↓reduceIte]; rw [fw_0]; first | (rw [if_pos (by omega)]) | (rw [if_neg (by omega)]; have := dq (by omega); omega)
      have V3 : ((mS (mS (mS (mS (mS m 34 0 0) 34 3 f) 34 4 (-1)) 39 0 ((o - 1).tdiv 9)) 39 2 ((o - 1).tmod 9))) 34 3 = fw i 3 := by simp only [mS_iff, eq_self, Int.reduceEq, true_and, and_true, false_and, and_false, and_self, ↓reduceIte]; rw [fw_3]; first | (rw [if_pos (by omega)]; omega) | (rw [if_neg (by omega)]; have := d8 (by omega); have := qp (by omega); rw [← show f = i / 73 by omega]; omega)
      have V4 : ((mS (mS (mS (mS (mS m 34 0 0) 34 3 f) 34 4 (-1)) 39 0 ((o - 1).tdiv 9)) 39 2 ((o - 1).tmod 9))) 34 4 = fw i 4 := by simp only [mS_iff, eq_self, Int.reduceEq, true_and, and_true, false_and, and_false, and_self, ↓reduceIte]; rw [fw_4]; first | (rw [if_pos (by omega)]; done) | (rw [if_neg (by omega)]; have := d8 (by omega); have := m8 (by omega); have := qp (by omega); rw [← show f = i / 73 by omega, ← qp (by omega)]; first | (rw [if_pos (by omega)]; omega) | (rw [if_neg (by omega)]; omega))
      have FO : hFo ((mS (mS (mS (mS (mS m 34 0 0) 34 3 f) 34 4 (-1)) 39 0 ((o - 1).tdiv 9)) 39 2 ((o - 1).tmod 9))) := h0.w1
      have Z0 : ((mS (mS (mS (mS (mS m 34 0 0) 34 3 f) 34 4 (-1)) 39 0 ((o - 1).tdiv 9)) 39 2 ((o - 1).tmod 9))) 0 0 = m 0 0 := by simp only [mS_iff, eq_self, Int.reduceEq, true_and, and_true, false_and, and_false, and_self, ↓reduceIte]
      have O0 : ((mS (mS (mS (mS (mS m 34 0 0) 34 3 f) 34 4 (-1)) 39 0 ((o - 1).tdiv 9)) 39 2 ((o - 1).tmod 9))) 39 0 = fw i 7 := by simp only [mS_iff, eq_self, Int.reduceEq, true_and, and_true, false_and, and_false, and_self, ↓reduceIte]; rw [fw_7, if_neg (by omega)]; omega
      have O2 : ((mS (mS (mS (mS (mS m 34 0 0) 34 3 f) 34 4 (-1)) 39 0 ((o - 1).tdiv 9)) 39 2 ((o - 1).tmod 9))) 39 2 = fw i 9 := by simp only [mS_iff, eq_self, Int.reduceEq, true_and, and_true, false_and, and_false, and_self, ↓reduceIte]; rw [fw_9, if_neg (by omega)]; omega
      exact hQ _ 33 33 40 (Or.inr ⟨rfl, rfl, rfl⟩) FO (FO.a1 (by omega) hi (by omega) ⟨V0, V3, V4⟩ O0 O2) hFo.f1
  · refine And.intro (rfl) ?_
    refine And.intro (show -2147483648 ≤ f - 9 ∧ f - 9 ≤ 2147483647 by first | omega | (simp only [mS_iff, eq_self, Int.reduceEq, true_and, and_true, false_and, and_false, and_self, ↓reduceIte]; omega) | (simp only [mS_iff, eq_self, Int.reduceEq, true_and, and_true, false_and, and_false, and_self, ↓reduceIte] at *; omega)) ?_
    refine And.intro (show 0 < 72 by first | omega | (simp only [mS_iff, eq_self, Int.reduceEq, true_and, and_true, false_and, and_false, and_self, ↓reduceIte]; omega) | (simp only [mS_iff, eq_self, Int.reduceEq, true_and, and_true, false_and, and_false, and_self, ↓reduceIte] at *; omega)) ?_
    generalize e_p : ((f - 9).tmod 72) = p
    have qp : 9 ≤ f → p = (f - 9) % 72 := fun z => by rw [← e_p]; exact Int.tmod_eq_emod_of_nonneg (by omega)
    have pb : -72 < p ∧ p < 72 := by rw [← e_p]; exact ⟨Int.lt_tmod_of_pos _ (by omega), Int.tmod_lt_of_pos _ (by omega)⟩
    refine And.intro (show (m 29 (-1)) = 4 by first | assumption | omega | (simp only [mS_iff, eq_self, Int.reduceEq, true_and, and_true, false_and, and_false, and_self, ↓reduceIte]; omega) | (simp only [mS_iff, eq_self, Int.reduceEq, true_and, and_true, false_and, and_false, and_self, ↓reduceIte] at *; omega)) ?_
    rw [show m 29 0 = 30 by first | exact g290 | (simp only [mS_iff, eq_self, Int.reduceEq, true_and, and_true, false_and, and_false, and_self, ↓reduceIte]; exact g290)]
    refine And.intro (fun h4 => ?_) (fun h4 => ?_)
    · have dq : 9 ≤ f → (f - 9).tdiv 72 = (f - 9) / 72 := fun z => Int.tdiv_eq_ediv_of_nonneg (by omega)
      refine And.intro (show -2147483648 ≤ f - 9 ∧ f - 9 ≤ 2147483647 by first | omega | (simp only [mS_iff, eq_self, Int.reduceEq, true_and, and_true, false_and, and_false, and_self, ↓reduceIte]; omega) | (simp only [mS_iff, eq_self, Int.reduceEq, true_and, and_true, false_and, and_false, and_self, ↓reduceIte] at *; omega)) ?_
      refine And.intro (show 0 < 72 by first | omega | (simp only [mS_iff, eq_self, Int.reduceEq, true_and, and_true, false_and, and_false, and_self, ↓reduceIte]; omega) | (simp only [mS_iff, eq_self, Int.reduceEq, true_and, and_true, false_and, and_false, and_self, ↓reduceIte] at *; omega)) ?_
      refine And.intro (show -2147483648 ≤ 1 + ((f - 9).tdiv 72) ∧ 1 + ((f - 9).tdiv 72) ≤ 2147483647 by first | omega | (simp only [mS_iff, eq_self, Int.reduceEq, true_and, and_true, false_and, and_false, and_self, ↓reduceIte]; omega) | (simp only [mS_iff, eq_self, Int.reduceEq, true_and, and_true, false_and, and_false, and_self, ↓reduceIte] at *; omega)) ?_
      refine And.intro (show 0 < 30 ∧ (m 30 (-1)) = 5 by first | omega | (simp only [mS_iff, eq_self, Int.reduceEq, true_and, and_true, false_and, and_false, and_self, ↓reduceIte]; omega) | (simp only [mS_iff, eq_self, Int.reduceEq, true_and, and_true, false_and, and_false, and_self, ↓reduceIte] at *; omega)) ?_
      refine And.intro (show (m 29 (-1)) = 4 by first | assumption | omega | (simp only [mS_iff, eq_self, Int.reduceEq, true_and, and_true, false_and, and_false, and_self, ↓reduceIte]; omega) | (simp only [mS_iff, eq_self, Int.reduceEq, true_and, and_true, false_and, and_false, and_self, ↓reduceIte] at *; omega)) ?_
      rw [show (mS m 30 0 (1 + ((f - 9).tdiv 72))) 29 0 = 30 by first | exact g290 | (simp only [mS_iff, eq_self, Int.reduceEq, true_and, and_true, false_and, and_false, and_self, ↓reduceIte]; exact g290)]
      refine And.intro (fun _ => ?_) (fun h => absurd h (by omega))
      refine And.intro (show 0 < 8 by first | omega | (simp only [mS_iff, eq_self, Int.reduceEq, true_and, and_true, false_and, and_false, and_self, ↓reduceIte]; omega) | (simp only [mS_iff, eq_self, Int.reduceEq, true_and, and_true, false_and, and_false, and_self, ↓reduceIte] at *; omega)) ?_
      have d8 : 9 ≤ f → p.tdiv 8 = p / 8 := fun z => Int.tdiv_eq_ediv_of_nonneg (by have := qp z; omega)
      have m8 : 9 ≤ f → p.tmod 8 = p % 8 := fun z => Int.tmod_eq_emod_of_nonneg (by have := qp z; omega)
      refine And.intro (show 0 < 30 ∧ (m 30 (-1)) = 5 by first | omega | (simp only [mS_iff, eq_self, Int.reduceEq, true_and, and_true, false_and, and_false, and_self, ↓reduceIte]; omega) | (simp only [mS_iff, eq_self, Int.reduceEq, true_and, and_true, false_and, and_false, and_self, ↓reduceIte] at *; omega)) ?_
      refine And.intro (show 0 < 8 by first | omega | (simp only [mS_iff, eq_self, Int.reduceEq, true_and, and_true, false_and, and_false, and_self, ↓reduceIte]; omega) | (simp only [mS_iff, eq_self, Int.reduceEq, true_and, and_true, false_and, and_false, and_self, ↓reduceIte] at *; omega)) ?_
      refine And.intro (show (m 29 (-1)) = 4 by first | assumption | omega | (simp only [mS_iff, eq_self, Int.reduceEq, true_and, and_true, false_and, and_false, and_self, ↓reduceIte]; omega) | (simp only [mS_iff, eq_self, Int.reduceEq, true_and, and_true, false_and, and_false, and_self, ↓reduceIte] at *; omega)) ?_
      rw [show (mS (mS m 30 0 (1 + ((f - 9).tdiv 72))) 30 3 (p.tdiv 8)) 29 0 = 30 by first | exact g290 | (simp only [mS_iff, eq_self, Int.reduceEq, true_and, and_true, false_and, and_false, and_self, ↓reduceIte]; exact g290)]
      refine And.intro (fun _ => ?_) (fun h => absurd h (by omega))
      refine And.intro (show 0 < 8 by first | omega | (simp only [mS_iff, eq_self, Int.reduceEq, true_and, and_true, false_and, and_false, and_self, ↓reduceIte]; omega) | (simp only [mS_iff, eq_self, Int.reduceEq, true_and, and_true, false_and, and_false, and_self, ↓reduceIte] at *; omega)) ?_
      refine And.intro (fun h5 => ?_) (fun h5 => ?_)
      · replace h5 : (p.tmod 8) ≥ (p.tdiv 8) := h5
        refine And.intro (show -2147483648 ≤ (p.tmod 8) + 1 ∧ (p.tmod 8) + 1 ≤ 2147483647 by first | omega | (simp only [mS_iff, eq_self, Int.reduceEq, true_and, and_true, false_and, and_false, and_self, ↓reduceIte]; omega) | (simp only [mS_iff, eq_self, Int.reduceEq, true_and, and_true, false_and, and_false, and_self, ↓reduceIte] at *; omega)) ?_
        refine And.intro (show 0 < 30 ∧ (m 30 (-1)) = 5 by first | omega | (simp only [mS_iff, eq_self, Int.reduceEq, true_and, and_true, false_and, and_false, and_self, ↓reduceIte]; omega) | (simp only [mS_iff, eq_self, Int.reduceEq, true_and, and_true, false_and, and_false, and_self, ↓reduceIte] at *; omega)) ?_
        refine And.intro (fun _ => ?_) (fun h => absurd h (by omega))
        have V0 : ((mS (mS (mS m 30 0 (1 + ((f - 9).tdiv 72))) 30 3 (p.tdiv 8)) 30 4 ((p.tmod 8) + 1))) 30 0 = fw i 0 := by simp only [mS_iff, eq_self, Int.reduceEq, true_and, and_true, false_and, and_false, and_self, ↓reduceIte]; rw [fw_0]; first | (rw [if_pos (by omega)]) | (rw [if_neg (by omega)]; have := dq (by omega); omega)
        have V3 : ((mS (mS (mS m 30 0 (1 + ((f - 9).tdiv 72))) 30 3 (p.tdiv 8)) 30 4 ((p.tmod 8) + 1))) 30 3 = fw i 3 := by simp only [mS_iff, eq_self, Int.reduceEq, true_and, and_true, false_and, and_false, and_self, ↓reduceIte]; rw [fw_3]; first | (rw [if_pos (by omega)]; omega) | (rw [if_neg (by omega)]; have := d8 (by omega); have := qp (by omega); rw [← show f = i / 73 by omega]; omega)
        have V4 : ((mS (mS (mS m 30 0 (1 + ((f - 9).tdiv 72))) 30 3 (p.tdiv 8)) 30 4 ((p.tmod 8) + 1))) 30 4 = fw i 4 := by simp only [mS_iff, eq_self, Int.reduceEq, true_and, and_true, false_and, and_false, and_self, ↓reduceIte]; rw [fw_4]; first | (rw [if_pos (by omega)]; done) | (rw [if_neg (by omega)]; have := d8 (by omega); have := m8 (by omega); have := qp (by omega); rw [← show f = i / 73 by omega, ← qp (by omega)]; first | (rw [if_pos (by omega)]; omega) | (rw [if_neg (by omega)]; omega))
        have FO : hFo ((mS (mS (mS m 30 0 (1 + ((f - 9).tdiv 72))) 30 3 (p.tdiv 8)) 30 4 ((p.tmod 8) + 1))) := h0.w0
        have Z0 : ((mS (mS (mS m 30 0 (1 + ((f - 9).tdiv 72))) 30 3 (p.tdiv 8)) 30 4 ((p.tmod 8) + 1))) 0 0 = m 0 0 := by simp only [mS_iff, eq_self, Int.reduceEq, true_and, and_true, false_and, and_false, and_self, ↓reduceIte]
        exact hQ _ 29 29 32 (Or.inl ⟨rfl, rfl, rfl⟩) FO (FO.a0 (by omega) hi (by omega) ⟨V0, V3, V4⟩) hFo.f0
      · replace h5 : (p.tmod 8) < (p.tdiv 8) := h5
        refine And.intro (show 0 < 30 ∧ (m 30 (-1)) = 5 by first | omega | (simp only [mS_iff, eq_self, Int.reduceEq, true_and, and_true, false_and, and_false, and_self, ↓reduceIte]; omega) | (simp only [mS_iff, eq_self, Int.reduceEq, true_and, and_true, false_and, and_false, and_self, ↓reduceIte] at *; omega)) ?_
        refine And.intro (fun _ => ?_) (fun h => absurd h (by omega))
        have V0 : ((mS (mS (mS m 30 0 (1 + ((f - 9).tdiv 72))) 30 3 (p.tdiv 8)) 30 4 (p.tmod 8))) 30 0 = fw i 0 := by simp only [mS_iff, eq_self, Int.reduceEq, true_and, and_true, false_and, and_false, and_self, ↓reduceIte]; rw [fw_0]; first | (rw [if_pos (by omega)]) | (rw [if_neg (by omega)]; have := dq (by omega); omega)
        have V3 : ((mS (mS (mS m 30 0 (1 + ((f - 9).tdiv 72))) 30 3 (p.tdiv 8)) 30 4 (p.tmod 8))) 30 3 = fw i 3 := by simp only [mS_iff, eq_self, Int.reduceEq, true_and, and_true, false_and, and_false, and_self, ↓reduceIte]; rw [fw_3]; first | (rw [if_pos (by omega)]; omega) | (rw [if_neg (by omega)]; have := d8 (by omega); have := qp (by omega); rw [← show f = i / 73 by omega]; omega)
        have V4 : ((mS (mS (mS m 30 0 (1 + ((f - 9).tdiv 72))) 30 3 (p.tdiv 8)) 30 4 (p.tmod 8))) 30 4 = fw i 4 := by simp only [mS_iff, eq_self, Int.reduceEq, true_and, and_true, false_and, and_false, and_self, ↓reduceIte]; rw [fw_4]; first | (rw [if_pos (by omega)]; done) | (rw [if_neg (by omega)]; have := d8 (by omega); have := m8 (by omega); have := qp (by omega); rw [← show f = i / 73 by omega, ← qp (by omega)]; first | (rw [if_pos (by omega)]; omega) | (rw [if_neg (by omega)]; omega))
        have FO : hFo ((mS (mS (mS m 30 0 (1 + ((f - 9).tdiv 72))) 30 3 (p.tdiv 8)) 30 4 (p.tmod 8))) := h0.w0
        have Z0 : ((mS (mS (mS m 30 0 (1 + ((f - 9).tdiv 72))) 30 3 (p.tdiv 8)) 30 4 (p.tmod 8))) 0 0 = m 0 0 := by simp only [mS_iff, eq_self, Int.reduceEq, true_and, and_true, false_and, and_false, and_self, ↓reduceIte]
        exact hQ _ 29 29 32 (Or.inl ⟨rfl, rfl, rfl⟩) FO (FO.a0 (by omega) hi (by omega) ⟨V0, V3, V4⟩) hFo.f0
    · skip
      refine And.intro (show 0 < 30 ∧ (m 30 (-1)) = 5 by first | omega | (simp only [mS_iff, eq_self, Int.reduceEq, true_and, and_true, false_and, and_false, and_self, ↓reduceIte]; omega) | (simp only [mS_iff, eq_self, Int.reduceEq, true_and, and_true, false_and, and_false, and_self, ↓reduceIte] at *; omega)) ?_
      refine And.intro (show (m 29 (-1)) = 4 by first | assumption | omega | (simp only [mS_iff, eq_self, Int.reduceEq, true_and, and_true, false_and, and_false, and_self, ↓reduceIte]; omega) | (simp only [mS_iff, eq_self, Int.reduceEq, true_and, and_true, false_and, and_false, and_self, ↓reduceIte] at *; omega)) ?_
      rw [show (mS m 30 0 0) 29 0 = 30 by first | exact g290 | (simp only [mS_iff, eq_self, Int.reduceEq, true_and, and_true, false_and, and_false, and_self, ↓reduceIte]; exact g290)]
      refine And.intro (fun h => absurd h (by omega)) (fun _ => ?_)
      skip
      refine And.intro (show 0 < 30 ∧ (m 30 (-1)) = 5 by first | omega | (simp only [mS_iff, eq_self, Int.reduceEq, true_and, and_true, false_and, and_false, and_self, ↓reduceIte]; omega) | (simp only [mS_iff, eq_self, Int.reduceEq, true_and, and_true, false_and, and_false, and_self, ↓reduceIte] at *; omega)) ?_
      refine And.intro (show 0 < 8 by first | omega | (simp only [mS_iff, eq_self, Int.reduceEq, true_and, and_true, false_and, and_false, and_self, ↓reduceIte]; omega) | (simp only [mS_iff, eq_self, Int.reduceEq, true_and, and_true, false_and, and_false, and_self, ↓reduceIte] at *; omega)) ?_
      refine And.intro (show (m 29 (-1)) = 4 by first | assumption | omega | (simp only [mS_iff, eq_self, Int.reduceEq, true_and, and_true, false_and, and_false, and_self, ↓reduceIte]; omega) | (simp only [mS_iff, eq_self, Int.reduceEq, true_and, and_true, false_and, and_false, and_self, ↓reduceIte] at *; omega)) ?_
      rw [show (mS (mS m 30 0 0) 30 3 f) 29 0 = 30 by first | exact g290 | (simp only [mS_iff, eq_self, Int.reduceEq, true_and, and_true, false_and, and_false, and_self, ↓reduceIte]; exact g290)]
      refine And.intro (fun h => absurd h (by omega)) (fun _ => ?_)
      refine And.intro (show 0 < 30 ∧ (m 30 (-1)) = 5 by first | omega | (simp only [mS_iff, eq_self, Int.reduceEq, true_and, and_true, false_and, and_false, and_self, ↓reduceIte]; omega) | (simp only [mS_iff, eq_self, Int.reduceEq, true_and, and_true, false_and, and_false, and_self, ↓reduceIte] at *; omega)) ?_
      refine And.intro (fun _ => ?_) (fun h => absurd h (by omega))
      have V0 : ((mS (mS (mS m 30 0 0) 30 3 f) 30 4 (-1))) 30 0 = fw i 0 := by simp only [mS_iff, eq_self, Int.reduceEq, true_and, and_true, false_and, and_false, and_self, ↓reduceIte]; rw [fw_0]; first | (rw [if_pos (by omega)]) | (rw [if_neg (by omega)]; have := dq (by omega); omega)
      have V3 : ((mS (mS (mS m 30 0 0) 30 3 f) 30 4 (-1))) 30 3 = fw i 3 := by simp only [mS_iff, eq_self, Int.reduceEq, true_and, and_true, false_and, and_false, and_self, ↓reduceIte]; rw [fw_3]; first | (rw [if_pos (by omega)]; omega) | (rw [if_neg (by omega)]; have := d8 (by omega); have := qp (by omega); rw [← show f = i / 73 by omega]; omega)
      have V4 : ((mS (mS (mS m 30 0 0) 30 3 f) 30 4 (-1))) 30 4 = fw i 4 := by simp only [mS_iff, eq_self, Int.reduceEq, true_and, and_true, false_and, and_false, and_self, ↓reduceIte]; rw [fw_4]; first | (rw [if_pos (by omega)]; done) | (rw [if_neg (by omega)]; have := d8 (by omega); have := m8 (by omega); have := qp (by omega); rw [← show f = i / 73 by omega, ← qp (by omega)]; first | (rw [if_pos (by omega)]; omega) | (rw [if_neg (by omega)]; omega))
      have FO : hFo ((mS (mS (mS m 30 0 0) 30 3 f) 30 4 (-1))) := h0.w0
      have Z0 : ((mS (mS (mS m 30 0 0) 30 3 f) 30 4 (-1))) 0 0 = m 0 0 := by simp only [mS_iff, eq_self, Int.reduceEq, true_and, and_true, false_and, and_false, and_self, ↓reduceIte]
      exact hQ _ 29 29 32 (Or.inl ⟨rfl, rfl, rfl⟩) FO (FO.a0 (by omega) hi (by omega) ⟨V0, V3, V4⟩) hFo.f0
theorem ct_181 {d : Nat} {m : aM} {Q : aO → aM → Prop} {i : Int} (hd : 4 ≤ d) (hi : 0 ≤ i ∧ i < 21681) (hQ : ∀ m', fr_B 3300 3366 m m' → mRow m' 50 (fw i) → Q (.inl none) m') : am_wpc am_G am_T d 181 [aR 41, aI i] m Q := by
  have q73 : i.tdiv 73 = i / 73 := Int.tdiv_eq_ediv_of_nonneg (by omega)
  have r73 : i.tmod 73 = i % 73 := Int.tmod_eq_emod_of_nonneg (by omega)
  refine am_in rfl hd (fun d hd => ?_)
  refine am_go 400 [] (am_wpc_cm _ _ _) wf_181 ?_
  refine And.intro (rfl) ?_
  refine ct_182 (by omega) (by omega) (fun mb fb b6 bl => ?_)
  refine And.intro (show 0 < 73 by first | omega | (simp only [mS_iff, eq_self, Int.reduceEq, true_and, and_true, false_and, and_false, and_self, ↓reduceIte]; omega) | (simp only [mS_iff, eq_self, Int.reduceEq, true_and, and_true, false_and, and_false, and_self, ↓reduceIte] at *; omega)) ?_
  generalize e_f : (i.tdiv 73) = f
  refine And.intro (show 0 < 73 by first | omega | (simp only [mS_iff, eq_self, Int.reduceEq, true_and, and_true, false_and, and_false, and_self, ↓reduceIte]; omega) | (simp only [mS_iff, eq_self, Int.reduceEq, true_and, and_true, false_and, and_false, and_self, ↓reduceIte] at *; omega)) ?_
  generalize e_o : (i.tmod 73) = o
  refine And.intro (fun h1 => ?_) (fun h1 => ?_)
  · have dq : (f - 9).tdiv 72 = (f - 9) / 72 := Int.tdiv_eq_ediv_of_nonneg (by omega)
    refine And.intro (show -2147483648 ≤ f - 9 ∧ f - 9 ≤ 2147483647 by first | omega | (simp only [mS_iff, eq_self, Int.reduceEq, true_and, and_true, false_and, and_false, and_self, ↓reduceIte]; omega) | (simp only [mS_iff, eq_self, Int.reduceEq, true_and, and_true, false_and, and_false, and_self, ↓reduceIte] at *; omega)) ?_
    refine And.intro (show 0 < 72 by first | omega | (simp only [mS_iff, eq_self, Int.reduceEq, true_and, and_true, false_and, and_false, and_self, ↓reduceIte]; omega) | (simp only [mS_iff, eq_self, Int.reduceEq, true_and, and_true, false_and, and_false, and_self, ↓reduceIte] at *; omega)) ?_
    generalize e_p : ((f - 9).tmod 72) = p
    have qp : p = (f - 9) % 72 := by rw [← e_p]; exact Int.tmod_eq_emod_of_nonneg (by omega)
    have d8 : p.tdiv 8 = p / 8 := Int.tdiv_eq_ediv_of_nonneg (by omega)
    have m8 : p.tmod 8 = p % 8 := Int.tmod_eq_emod_of_nonneg (by omega)
    refine And.intro (show 0 < 8 by first | omega | (simp only [mS_iff, eq_self, Int.reduceEq, true_and, and_true, false_and, and_false, and_self, ↓reduceIte]; omega) | (simp only [mS_iff, eq_self, Int.reduceEq, true_and, and_true, false_and, and_false, and_self, ↓reduceIte] at *; omega)) ?_
    refine And.intro (show 0 < 8 by first | omega | (simp only [mS_iff, eq_self, Int.reduceEq, true_and, and_true, false_and, and_false, and_self, ↓reduceIte]; omega) | (simp only [mS_iff, eq_self, Int.reduceEq, true_and, and_true, false_and, and_false, and_self, ↓reduceIte] at *; omega)) ?_
    refine And.intro (rfl) ?_
    refine And.intro (show -2147483648 ≤ f - 9 ∧ f - 9 ≤ 2147483647 by first | omega | (simp only [mS_iff, eq_self, Int.reduceEq, true_and, and_true, false_and, and_false, and_self, ↓reduceIte]; omega) | (simp only [mS_iff, eq_self, Int.reduceEq, true_and, and_true, false_and, and_false, and_self, ↓reduceIte] at *; omega)) ?_
    refine And.intro (show 0 < 72 by first | omega | (simp only [mS_iff, eq_self, Int.reduceEq, true_and, and_true, false_and, and_false, and_self, ↓reduceIte]; omega) | (simp only [mS_iff, eq_self, Int.reduceEq, true_and, and_true, false_and, and_false, and_self, ↓reduceIte] at *; omega)) ?_
    refine And.intro (show -2147483648 ≤ 1 + ((f - 9).tdiv 72) ∧ 1 + ((f - 9).tdiv 72) ≤ 2147483647 by first | omega | (simp only [mS_iff, eq_self, Int.reduceEq, true_and, and_true, false_and, and_false, and_self, ↓reduceIte]; omega) | (simp only [mS_iff, eq_self, Int.reduceEq, true_and, and_true, false_and, and_false, and_self, ↓reduceIte] at *; omega)) ?_
    refine And.intro (⟨rfl, by first | omega | (simp only [mS_iff, eq_self, Int.reduceEq, true_and, and_true, false_and, and_false, and_self, ↓reduceIte]; omega) | (simp only [mS_iff, eq_self, Int.reduceEq, true_and, and_true, false_and, and_false, and_self, ↓reduceIte] at *; omega)⟩) ?_
    refine And.intro (rfl) ?_
    refine And.intro (⟨rfl, by first | omega | (simp only [mS_iff, eq_self, Int.reduceEq, true_and, and_true, false_and, and_false, and_self, ↓reduceIte]; omega) | (simp only [mS_iff, eq_self, Int.reduceEq, true_and, and_true, false_and, and_false, and_self, ↓reduceIte] at *; omega)⟩) ?_
    refine And.intro (rfl) ?_
    refine And.intro (fun h2 => ?_) (fun h2 => ?_)
    · replace h2 : (p.tmod 8) < (p.tdiv 8) := h2
      skip
      refine And.intro (⟨rfl, by first | omega | (simp only [mS_iff, eq_self, Int.reduceEq, true_and, and_true, false_and, and_false, and_self, ↓reduceIte]; omega) | (simp only [mS_iff, eq_self, Int.reduceEq, true_and, and_true, false_and, and_false, and_self, ↓reduceIte] at *; omega)⟩) ?_
      refine And.intro (fun h3 => ?_) (fun h3 => ?_)
      · replace h3 : o ≤ 0 := h3
        have E42 : ∀ j, (mS (mS (mS mb 42 3300 (1 + ((f - 9).tdiv 72))) 42 3303 (p.tdiv 8)) 42 3304 (p.tmod 8)) 42 j = if j = 3304 then (p.tmod 8) else if j = 3303 then p.tdiv 8 else if j = 3300 then 1 + (f - 9).tdiv 72 else mb 42 j := fun j => by
          simp only [mS_iff, true_and, eq_self, Int.reduceMul, Int.reduceAdd]
        have EX : ∀ x j, x ≠ 42 → (mS (mS (mS mb 42 3300 (1 + ((f - 9).tdiv 72))) 42 3303 (p.tdiv 8)) 42 3304 (p.tmod 8)) x j = mb x j := fun x j u => by
          simp only [mS_iff, u, false_and, ↓reduceIte]
        refine hQ _ (fun x j u => ?_) ⟨by omega, by omega, fun k a b => ?_⟩
        · by_cases c : x = 42
          · subst c
            rw [E42, if_neg (by omega), if_neg (by omega), if_neg (by omega)]
            exact fb _ _ u
          · rw [EX x j c]; exact fb _ _ u
        · rw [E42]
          by_cases c : k < 6
          · have b6k := b6 k a c
            rw [show 66 * 50 + k = 3300 + k by omega] at b6k ⊢
            have : k = 0 ∨ k = 1 ∨ k = 2 ∨ k = 3 ∨ k = 4 ∨ k = 5 := by omega
            rcases this with e | e | e | e | e | e <;> subst e
            · simp only [Int.reduceAdd, Int.reduceEq, ↓reduceIte] at b6k ⊢
              rw [fw_0]
              rw [if_neg (by omega)]; omega
            · simp only [Int.reduceAdd, Int.reduceEq, ↓reduceIte] at b6k ⊢
              exact b6k
            · simp only [Int.reduceAdd, Int.reduceEq, ↓reduceIte] at b6k ⊢
              exact b6k
            · simp only [Int.reduceAdd, Int.reduceEq, ↓reduceIte] at b6k ⊢
              rw [fw_3]
              rw [if_neg (by omega), ← show f = i / 73 by omega, ← qp]; omega
            · simp only [Int.reduceAdd, Int.reduceEq, ↓reduceIte] at b6k ⊢
              rw [fw_4]
              rw [if_neg (by omega), ← show f = i / 73 by omega, ← qp]; first | (rw [if_pos (by omega)]; omega) | (rw [if_neg (by omega)]; omega)
            · simp only [Int.reduceAdd, Int.reduceEq, ↓reduceIte] at b6k ⊢
              rw [fw_5]
              rw [if_pos (by omega)]; exact b6k
          · by_cases c7 : k = 7
            · subst c7
              simp only [Int.reduceMul, Int.reduceAdd, Int.reduceEq, ↓reduceIte]
              rw [fw_7]
              have := bl 0 (by omega) (by omega) 1 (by omega) (by omega)
              rw [if_pos (by omega)]; exact this
            · by_cases c9 : k = 9
              · subst c9
                simp only [Int.reduceMul, Int.reduceAdd, Int.reduceEq, ↓reduceIte]
                rw [fw_9]
                have := bl 0 (by omega) (by omega) 3 (by omega) (by omega)
                rw [if_pos (by omega)]; exact this
              · rw [if_neg (by omega), if_neg (by omega), if_neg (by omega)]
                rw [fw_l (by omega) c7 c9]
                have := bl ((k - 6) / 10) (by omega) (by omega) ((k - 6) % 10) (by omega) (by omega)
                rw [← this]
                congr 1
                omega
      · replace h3 : o > 0 := h3
        have o9 : (o - 1).tdiv 9 = (o - 1) / 9 := Int.tdiv_eq_ediv_of_nonneg (by omega)
        have o8 : (o - 1).tmod 9 = (o - 1) % 9 := Int.tmod_eq_emod_of_nonneg (by omega)
        refine And.intro (rfl) ?_
        refine And.intro (⟨rfl, by first | omega | (simp only [mS_iff, eq_self, Int.reduceEq, true_and, and_true, false_and, and_false, and_self, ↓reduceIte]; omega) | (simp only [mS_iff, eq_self, Int.reduceEq, true_and, and_true, false_and, and_false, and_self, ↓reduceIte] at *; omega)⟩) ?_
        refine And.intro (show -2147483648 ≤ o - 1 ∧ o - 1 ≤ 2147483647 by first | omega | (simp only [mS_iff, eq_self, Int.reduceEq, true_and, and_true, false_and, and_false, and_self, ↓reduceIte]; omega) | (simp only [mS_iff, eq_self, Int.reduceEq, true_and, and_true, false_and, and_false, and_self, ↓reduceIte] at *; omega)) ?_
        refine And.intro (show 0 < 9 by first | omega | (simp only [mS_iff, eq_self, Int.reduceEq, true_and, and_true, false_and, and_false, and_self, ↓reduceIte]; omega) | (simp only [mS_iff, eq_self, Int.reduceEq, true_and, and_true, false_and, and_false, and_self, ↓reduceIte] at *; omega)) ?_
        refine And.intro (rfl) ?_
        refine ct_184a (by omega) (by omega) (by omega) (by omega) (fun mw4 es5 => ?_)
        refine And.intro (show -2147483648 ≤ o - 1 ∧ o - 1 ≤ 2147483647 by first | omega | (simp only [mS_iff, eq_self, Int.reduceEq, true_and, and_true, false_and, and_false, and_self, ↓reduceIte]; omega) | (simp only [mS_iff, eq_self, Int.reduceEq, true_and, and_true, false_and, and_false, and_self, ↓reduceIte] at *; omega)) ?_
        refine And.intro (show 0 < 9 by first | omega | (simp only [mS_iff, eq_self, Int.reduceEq, true_and, and_true, false_and, and_false, and_self, ↓reduceIte]; omega) | (simp only [mS_iff, eq_self, Int.reduceEq, true_and, and_true, false_and, and_false, and_self, ↓reduceIte] at *; omega)) ?_
        refine And.intro (rfl) ?_
        refine ct_184a (by omega) (by omega) (by omega) (by omega) (fun mw6 es7 => ?_)
        have E42 : ∀ j, mw6 42 j = if j = 3309 then (o - 1).tmod 9 else if j = 3307 then (o - 1).tdiv 9 else if j = 3305 then 1 else if j = 3304 then (p.tmod 8) else if j = 3303 then p.tdiv 8 else if j = 3300 then 1 + (f - 9).tdiv 72 else mb 42 j := fun j => by
          rw [es7]; rw [es5]; simp only [mS_iff, true_and, eq_self, Int.reduceMul, Int.reduceAdd]
        have EX : ∀ x j, x ≠ 42 → mw6 x j = mb x j := fun x j u => by
          rw [es7]; rw [es5]; simp only [mS_iff, u, false_and, ↓reduceIte]
        refine hQ _ (fun x j u => ?_) ⟨by omega, by omega, fun k a b => ?_⟩
        · by_cases c : x = 42
          · subst c
            rw [E42, if_neg (by omega), if_neg (by omega), if_neg (by omega), if_neg (by omega), if_neg (by omega), if_neg (by omega)]
            exact fb _ _ u
          · rw [EX x j c]; exact fb _ _ u
        · rw [E42]
          by_cases c : k < 6
          · have b6k := b6 k a c
            rw [show 66 * 50 + k = 3300 + k by omega] at b6k ⊢
            have : k = 0 ∨ k = 1 ∨ k = 2 ∨ k = 3 ∨ k = 4 ∨ k = 5 := by omega
            rcases this with e | e | e | e | e | e <;> subst e
            · simp only [Int.reduceAdd, Int.reduceEq, ↓reduceIte] at b6k ⊢
              rw [fw_0]
              rw [if_neg (by omega)]; omega
            · simp only [Int.reduceAdd, Int.reduceEq, ↓reduceIte] at b6k ⊢
              exact b6k
            · simp only [Int.reduceAdd, Int.reduceEq, ↓reduceIte] at b6k ⊢
              exact b6k
            · simp only [Int.reduceAdd, Int.reduceEq, ↓reduceIte] at b6k ⊢
              rw [fw_3]
              rw [if_neg (by omega), ← show f = i / 73 by omega, ← qp]; omega
            · simp only [Int.reduceAdd, Int.reduceEq, ↓reduceIte] at b6k ⊢
              rw [fw_4]
              rw [if_neg (by omega), ← show f = i / 73 by omega, ← qp]; first | (rw [if_pos (by omega)]; omega) | (rw [if_neg (by omega)]; omega)
            · simp only [Int.reduceAdd, Int.reduceEq, ↓reduceIte] at b6k ⊢
              rw [fw_5]
              rw [if_neg (by omega)]
          · by_cases c7 : k = 7
            · subst c7
              simp only [Int.reduceMul, Int.reduceAdd, Int.reduceEq, ↓reduceIte]
              rw [fw_7]
              rw [if_neg (by omega)]; omega
            · by_cases c9 : k = 9
              · subst c9
                simp only [Int.reduceMul, Int.reduceAdd, Int.reduceEq, ↓reduceIte]
                rw [fw_9]
                rw [if_neg (by omega)]; omega
              · rw [if_neg (by omega), if_neg (by omega), if_neg (by omega), if_neg (by omega), if_neg (by omega), if_neg (by omega)]
                rw [fw_l (by omega) c7 c9]
                have := bl ((k - 6) / 10) (by omega) (by omega) ((k - 6) % 10) (by omega) (by omega)
                rw [← this]
                congr 1
                omega
    · replace h2 : (p.tmod 8) ≥ (p.tdiv 8) := h2
      refine And.intro (show -2147483648 ≤ (p.tmod 8) + 1 ∧ (p.tmod 8) + 1 ≤ 2147483647 by first | omega | (simp only [mS_iff, eq_self, Int.reduceEq, true_and, and_true, false_and, and_false, and_self, ↓reduceIte]; omega) | (simp only [mS_iff, eq_self, Int.reduceEq, true_and, and_true, false_and, and_false, and_self, ↓reduceIte] at *; omega)) ?_
      skip
      refine And.intro (⟨rfl, by first | omega | (simp only [mS_iff, eq_self, Int.reduceEq, true_and, and_true, false_and, and_false, and_self, ↓reduceIte]; omega) | (simp only [mS_iff, eq_self, Int.reduceEq, true_and, and_true, false_and, and_false, and_self, ↓reduceIte] at *; omega)⟩) ?_
      refine And.intro (fun h8 => ?_) (fun h8 => ?_)
      · replace h8 : o ≤ 0 := h8
        have E42 : ∀ j, (mS (mS (mS mb 42 3300 (1 + ((f - 9).tdiv 72))) 42 3303 (p.tdiv 8)) 42 3304 ((p.tmod 8) + 1)) 42 j = if j = 3304 then ((p.tmod 8) + 1) else if j = 3303 then p.tdiv 8 else if j = 3300 then 1 + (f - 9).tdiv 72 else mb 42 j := fun j => by
          simp only [mS_iff, true_and, eq_self, Int.reduceMul, Int.reduceAdd]
        have EX : ∀ x j, x ≠ 42 → (mS (mS (mS mb 42 3300 (1 + ((f - 9).tdiv 72))) 42 3303 (p.tdiv 8)) 42 3304 ((p.tmod 8) + 1)) x j = mb x j := fun x j u => by
          simp only [mS_iff, u, false_and, ↓reduceIte]
        refine hQ _ (fun x j u => ?_) ⟨by omega, by omega, fun k a b => ?_⟩
        · by_cases c : x = 42
          · subst c
            rw [E42, if_neg (by omega), if_neg (by omega), if_neg (by omega)]
            exact fb _ _ u
          · rw [EX x j c]; exact fb _ _ u
        · rw [E42]
          by_cases c : k < 6
          · have b6k := b6 k a c
            rw [show 66 * 50 + k = 3300 + k by omega] at b6k ⊢
            have : k = 0 ∨ k = 1 ∨ k = 2 ∨ k = 3 ∨ k = 4 ∨ k = 5 := by omega
            rcases this with e | e | e | e | e | e <;> subst e
            · simp only [Int.reduceAdd, Int.reduceEq, ↓reduceIte] at b6k ⊢
              rw [fw_0]
              rw [if_neg (by omega)]; omega
            · simp only [Int.reduceAdd, Int.reduceEq, ↓reduceIte] at b6k ⊢
              exact b6k
            · simp only [Int.reduceAdd, Int.reduceEq, ↓reduceIte] at b6k ⊢
              exact b6k
            · simp only [Int.reduceAdd, Int.reduceEq, ↓reduceIte] at b6k ⊢
              rw [fw_3]
              rw [if_neg (by omega), ← show f = i / 73 by omega, ← qp]; omega
            · simp only [Int.reduceAdd, Int.reduceEq, ↓reduceIte] at b6k ⊢
              rw [fw_4]
              rw [if_neg (by omega), ← show f = i / 73 by omega, ← qp]; first | (rw [if_pos (by omega)]; omega) | (rw [if_neg (by omega)]; omega)
            · simp only [Int.reduceAdd, Int.reduceEq, ↓reduceIte] at b6k ⊢
              rw [fw_5]
              rw [if_pos (by omega)]; exact b6k
          · by_cases c7 : k = 7
            · subst c7
              simp only [Int.reduceMul, Int.reduceAdd, Int.reduceEq, ↓reduceIte]
              rw [fw_7]
              have := bl 0 (by omega) (by omega) 1 (by omega) (by omega)
              rw [if_pos (by omega)]; exact this
            · by_cases c9 : k = 9
              · subst c9
                simp only [Int.reduceMul, Int.reduceAdd, Int.reduceEq, ↓reduceIte]
                rw [fw_9]
                have := bl 0 (by omega) (by omega) 3 (by omega) (by omega)
                rw [if_pos (by omega)]; exact this
              · rw [if_neg (by omega), if_neg (by omega), if_neg (by omega)]
                rw [fw_l (by omega) c7 c9]
                have := bl ((k - 6) / 10) (by omega) (by omega) ((k - 6) % 10) (by omega) (by omega)
                rw [← this]
                congr 1
                omega
      · replace h8 : o > 0 := h8
        have o9 : (o - 1).tdiv 9 = (o - 1) / 9 := Int.tdiv_eq_ediv_of_nonneg (by omega)
        have o8 : (o - 1).tmod 9 = (o - 1) % 9 := Int.tmod_eq_emod_of_nonneg (by omega)
        refine And.intro (rfl) ?_
        refine And.intro (⟨rfl, by first | omega | (simp only [mS_iff, eq_self, Int.reduceEq, true_and, and_true, false_and, and_false, and_self, ↓reduceIte]; omega) | (simp only [mS_iff, eq_self, Int.reduceEq, true_and, and_true, false_and, and_false, and_self, ↓reduceIte] at *; omega)⟩) ?_
        refine And.intro (show -2147483648 ≤ o - 1 ∧ o - 1 ≤ 2147483647 by first | omega | (simp only [mS_iff, eq_self, Int.reduceEq, true_and, and_true, false_and, and_false, and_self, ↓reduceIte]; omega) | (simp only [mS_iff, eq_self, Int.reduceEq, true_and, and_true, false_and, and_false, and_self, ↓reduceIte] at *; omega)) ?_
        refine And.intro (show 0 < 9 by first | omega | (simp only [mS_iff, eq_self, Int.reduceEq, true_and, and_true, false_and, and_false, and_self, ↓reduceIte]; omega) | (simp only [mS_iff, eq_self, Int.reduceEq, true_and, and_true, false_and, and_false, and_self, ↓reduceIte] at *; omega)) ?_
        refine And.intro (rfl) ?_
        refine ct_184a (by omega) (by omega) (by omega) (by omega) (fun mw9 es10 => ?_)
        refine And.intro (show -2147483648 ≤ o - 1 ∧ o - 1 ≤ 2147483647 by first | omega | (simp only [mS_iff, eq_self, Int.reduceEq, true_and, and_true, false_and, and_false, and_self, ↓reduceIte]; omega) | (simp only [mS_iff, eq_self, Int.reduceEq, true_and, and_true, false_and, and_false, and_self, ↓reduceIte] at *; omega)) ?_
        refine And.intro (show 0 < 9 by first | omega | (simp only [mS_iff, eq_self, Int.reduceEq, true_and, and_true, false_and, and_false, and_self, ↓reduceIte]; omega) | (simp only [mS_iff, eq_self, Int.reduceEq, true_and, and_true, false_and, and_false, and_self, ↓reduceIte] at *; omega)) ?_
        refine And.intro (rfl) ?_
        refine ct_184a (by omega) (by omega) (by omega) (by omega) (fun mw11 es12 => ?_)
        have E42 : ∀ j, mw11 42 j = if j = 3309 then (o - 1).tmod 9 else if j = 3307 then (o - 1).tdiv 9 else if j = 3305 then 1 else if j = 3304 then ((p.tmod 8) + 1) else if j = 3303 then p.tdiv 8 else if j = 3300 then 1 + (f - 9).tdiv 72 else mb 42 j := fun j => by
          rw [es12]; rw [es10]; simp only [mS_iff, true_and, eq_self, Int.reduceMul, Int.reduceAdd]
        have EX : ∀ x j, x ≠ 42 → mw11 x j = mb x j := fun x j u => by
          rw [es12]; rw [es10]; simp only [mS_iff, u, false_and, ↓reduceIte]
        refine hQ _ (fun x j u => ?_) ⟨by omega, by omega, fun k a b => ?_⟩
        · by_cases c : x = 42
          · subst c
            rw [E42, if_neg (by omega), if_neg (by omega), if_neg (by omega), if_neg (by omega), if_neg (by omega), if_neg (by omega)]
            exact fb _ _ u
          · rw [EX x j c]; exact fb _ _ u
        · rw [E42]
          by_cases c : k < 6
          · have b6k := b6 k a c
            rw [show 66 * 50 + k = 3300 + k by omega] at b6k ⊢
            have : k = 0 ∨ k = 1 ∨ k = 2 ∨ k = 3 ∨ k = 4 ∨ k = 5 := by omega
            rcases this with e | e | e | e | e | e <;> subst e
            · simp only [Int.reduceAdd, Int.reduceEq, ↓reduceIte] at b6k ⊢
              rw [fw_0]
              rw [if_neg (by omega)]; omega
            · simp only [Int.reduceAdd, Int.reduceEq, ↓reduceIte] at b6k ⊢
              exact b6k
            · simp only [Int.reduceAdd, Int.reduceEq, ↓reduceIte] at b6k ⊢
              exact b6k
            · simp only [Int.reduceAdd, Int.reduceEq, ↓reduceIte] at b6k ⊢
              rw [fw_3]
              rw [if_neg (by omega), ← show f = i / 73 by omega, ← qp]; omega
            · simp only [Int.reduceAdd, Int.reduceEq, ↓reduceIte] at b6k ⊢
              rw [fw_4]
              rw [if_neg (by omega), ← show f = i / 73 by omega, ← qp]; first | (rw [if_pos (by omega)]; omega) | (rw [if_neg (by omega)]; omega)
            · simp only [Int.reduceAdd, Int.reduceEq, ↓reduceIte] at b6k ⊢
              rw [fw_5]
              rw [if_neg (by omega)]
          · by_cases c7 : k = 7
            · subst c7
              simp only [Int.reduceMul, Int.reduceAdd, Int.reduceEq, ↓reduceIte]
              rw [fw_7]
              rw [if_neg (by omega)]; omega
            · by_cases c9 : k = 9
              · subst c9
                simp only [Int.reduceMul, Int.reduceAdd, Int.reduceEq, ↓reduceIte]
                rw [fw_9]
                rw [if_neg (by omega)]; omega
              · rw [if_neg (by omega), if_neg (by omega), if_neg (by omega), if_neg (by omega), if_neg (by omega), if_neg (by omega)]
                rw [fw_l (by omega) c7 c9]
                have := bl ((k - 6) / 10) (by omega) (by omega) ((k - 6) % 10) (by omega) (by omega)
                rw [← this]
                congr 1
                omega
  · skip
    refine And.intro (rfl) ?_
    refine And.intro (⟨rfl, by first | omega | (simp only [mS_iff, eq_self, Int.reduceEq, true_and, and_true, false_and, and_false, and_self, ↓reduceIte]; omega) | (simp only [mS_iff, eq_self, Int.reduceEq, true_and, and_true, false_and, and_false, and_self, ↓reduceIte] at *; omega)⟩) ?_
    refine And.intro (fun h13 => ?_) (fun h13 => ?_)
    · replace h13 : o ≤ 0 := h13
      have E42 : ∀ j, (mS mb 42 3303 f) 42 j = if j = 3303 then f else mb 42 j := fun j => by
        simp only [mS_iff, true_and, eq_self, Int.reduceMul, Int.reduceAdd]
      have EX : ∀ x j, x ≠ 42 → (mS mb 42 3303 f) x j = mb x j := fun x j u => by
        simp only [mS_iff, u, false_and, ↓reduceIte]
      refine hQ _ (fun x j u => ?_) ⟨by omega, by omega, fun k a b => ?_⟩
      · by_cases c : x = 42
        · subst c
          rw [E42, if_neg (by omega)]
          exact fb _ _ u
        · rw [EX x j c]; exact fb _ _ u
      · rw [E42]
        by_cases c : k < 6
        · have b6k := b6 k a c
          rw [show 66 * 50 + k = 3300 + k by omega] at b6k ⊢
          have : k = 0 ∨ k = 1 ∨ k = 2 ∨ k = 3 ∨ k = 4 ∨ k = 5 := by omega
          rcases this with e | e | e | e | e | e <;> subst e
          · simp only [Int.reduceAdd, Int.reduceEq, ↓reduceIte] at b6k ⊢
            rw [fw_0]
            rw [if_pos (by omega)]; exact b6k
          · simp only [Int.reduceAdd, Int.reduceEq, ↓reduceIte] at b6k ⊢
            exact b6k
          · simp only [Int.reduceAdd, Int.reduceEq, ↓reduceIte] at b6k ⊢
            exact b6k
          · simp only [Int.reduceAdd, Int.reduceEq, ↓reduceIte] at b6k ⊢
            rw [fw_3]
            rw [if_pos (by omega)]; omega
          · simp only [Int.reduceAdd, Int.reduceEq, ↓reduceIte] at b6k ⊢
            rw [fw_4]
            rw [if_pos (by omega)]; exact b6k
          · simp only [Int.reduceAdd, Int.reduceEq, ↓reduceIte] at b6k ⊢
            rw [fw_5]
            rw [if_pos (by omega)]; exact b6k
        · by_cases c7 : k = 7
          · subst c7
            simp only [Int.reduceMul, Int.reduceAdd, Int.reduceEq, ↓reduceIte]
            rw [fw_7]
            have := bl 0 (by omega) (by omega) 1 (by omega) (by omega)
            rw [if_pos (by omega)]; exact this
          · by_cases c9 : k = 9
            · subst c9
              simp only [Int.reduceMul, Int.reduceAdd, Int.reduceEq, ↓reduceIte]
              rw [fw_9]
              have := bl 0 (by omega) (by omega) 3 (by omega) (by omega)
              rw [if_pos (by omega)]; exact this
            · rw [if_neg (by omega)]
              rw [fw_l (by omega) c7 c9]
              have := bl ((k - 6) / 10) (by omega) (by omega) ((k - 6) % 10) (by omega) (by omega)
              rw [← this]
              congr 1
              omega
    · replace h13 : o > 0 := h13
      have o9 : (o - 1).tdiv 9 = (o - 1) / 9 := Int.tdiv_eq_ediv_of_nonneg (by omega)
      have o8 : (o - 1).tmod 9 = (o - 1) % 9 := Int.tmod_eq_emod_of_nonneg (by omega)
      refine And.intro (rfl) ?_
      refine And.intro (⟨rfl, by first | omega | (simp only [mS_iff, eq_self, Int.reduceEq, true_and, and_true, false_and, and_false, and_self, ↓reduceIte]; omega) | (simp only [mS_iff, eq_self, Int.reduceEq, true_and, and_true, false_and, and_false, and_self, ↓reduceIte] at *; omega)⟩) ?_
      refine And.intro (show -2147483648 ≤ o - 1 ∧ o - 1 ≤ 2147483647 by first | omega | (simp only [mS_iff, eq_self, Int.reduceEq, true_and, and_true, false_and, and_false, and_self, ↓reduceIte]; omega) | (simp only [mS_iff, eq_self, Int.reduceEq, true_and, and_true, false_and, and_false, and_self, ↓reduceIte] at *; omega)) ?_
      refine And.intro (show 0 < 9 by first | omega | (simp only [mS_iff, eq_self, Int.reduceEq, true_and, and_true, false_and, and_false, and_self, ↓reduceIte]; omega) | (simp only [mS_iff, eq_self, Int.reduceEq, true_and, and_true, false_and, and_false, and_self, ↓reduceIte] at *; omega)) ?_
      refine And.intro (rfl) ?_
      refine ct_184a (by omega) (by omega) (by omega) (by omega) (fun mw14 es15 => ?_)
      refine And.intro (show -2147483648 ≤ o - 1 ∧ o - 1 ≤ 2147483647 by first | omega | (simp only [mS_iff, eq_self, Int.reduceEq, true_and, and_true, false_and, and_false, and_self, ↓reduceIte]; omega) | (simp only [mS_iff, eq_self, Int.reduceEq, true_and, and_true, false_and, and_false, and_self, ↓reduceIte] at *; omega)) ?_
      refine And.intro (show 0 < 9 by first | omega | (simp only [mS_iff, eq_self, Int.reduceEq, true_and, and_true, false_and, and_false, and_self, ↓reduceIte]; omega) | (simp only [mS_iff, eq_self, Int.reduceEq, true_and, and_true, false_and, and_false, and_self, ↓reduceIte] at *; omega)) ?_
      refine And.intro (rfl) ?_
      refine ct_184a (by omega) (by omega) (by omega) (by omega) (fun mw16 es17 => ?_)
      have E42 : ∀ j, mw16 42 j = if j = 3309 then (o - 1).tmod 9 else if j = 3307 then (o - 1).tdiv 9 else if j = 3305 then 1 else if j = 3303 then f else mb 42 j := fun j => by
        rw [es17]; rw [es15]; simp only [mS_iff, true_and, eq_self, Int.reduceMul, Int.reduceAdd]
      have EX : ∀ x j, x ≠ 42 → mw16 x j = mb x j := fun x j u => by
        rw [es17]; rw [es15]; simp only [mS_iff, u, false_and, ↓reduceIte]
      refine hQ _ (fun x j u => ?_) ⟨by omega, by omega, fun k a b => ?_⟩
      · by_cases c : x = 42
        · subst c
          rw [E42, if_neg (by omega), if_neg (by omega), if_neg (by omega), if_neg (by omega)]
          exact fb _ _ u
        · rw [EX x j c]; exact fb _ _ u
      · rw [E42]
        by_cases c : k < 6
        · have b6k := b6 k a c
          rw [show 66 * 50 + k = 3300 + k by omega] at b6k ⊢
          have : k = 0 ∨ k = 1 ∨ k = 2 ∨ k = 3 ∨ k = 4 ∨ k = 5 := by omega
          rcases this with e | e | e | e | e | e <;> subst e
          · simp only [Int.reduceAdd, Int.reduceEq, ↓reduceIte] at b6k ⊢
            rw [fw_0]
            rw [if_pos (by omega)]; exact b6k
          · simp only [Int.reduceAdd, Int.reduceEq, ↓reduceIte] at b6k ⊢
            exact b6k
          · simp only [Int.reduceAdd, Int.reduceEq, ↓reduceIte] at b6k ⊢
            exact b6k
          · simp only [Int.reduceAdd, Int.reduceEq, ↓reduceIte] at b6k ⊢
            rw [fw_3]
            rw [if_pos (by omega)]; omega
          · simp only [Int.reduceAdd, Int.reduceEq, ↓reduceIte] at b6k ⊢
            rw [fw_4]
            rw [if_pos (by omega)]; exact b6k
          · simp only [Int.reduceAdd, Int.reduceEq, ↓reduceIte] at b6k ⊢
            rw [fw_5]
            rw [if_neg (by omega)]
        · by_cases c7 : k = 7
          · subst c7
            simp only [Int.reduceMul, Int.reduceAdd, Int.reduceEq, ↓reduceIte]
            rw [fw_7]
            rw [if_neg (by omega)]; omega
          · by_cases c9 : k = 9
            · subst c9
              simp only [Int.reduceMul, Int.reduceAdd, Int.reduceEq, ↓reduceIte]
              rw [fw_9]
              rw [if_neg (by omega)]; omega
            · rw [if_neg (by omega), if_neg (by omega), if_neg (by omega), if_neg (by omega)]
              rw [fw_l (by omega) c7 c9]
              have := bl ((k - 6) / 10) (by omega) (by omega) ((k - 6) % 10) (by omega) (by omega)
              rw [← this]
              congr 1
              omega
