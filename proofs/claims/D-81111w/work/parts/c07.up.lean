/-! needs: c05 -/
/-! THE STATE when numbers of it change -/
set_option maxRecDepth 100000
theorem hAs.cg {S S' : aM} {lo hi : Int → Int} {m : aM} (h : hAs S lo hi m) (e : S' 0 3 = S 0 3) (e2 : ∀ x, 100 ≤ x → S' x = S x) : hAs S' lo hi m := by
  obtain ⟨h1, h2, h3, h4, h5⟩ := h
  unfold hAs
  rw [e]
  exact ⟨h1, h2, fun i a b => by rw [e2 (100 + i) (by omega)]; exact h3 i a b, h4, h5⟩
theorem sPs.cg {S S' : aM} (h : sPs S) (e4 : S' 0 4 = S 0 4) (e3 : S' 0 3 = S 0 3) (e : ∀ x, 10 ≤ x → x ≤ 15 → S' x = S x) : sPs S' := by
  unfold sPs
  rw [e4, e3, e 10 (by omega) (by omega), e 11 (by omega) (by omega), e 12 (by omega) (by omega), e 13 (by omega) (by omega), e 14 (by omega) (by omega), e 15 (by omega) (by omega)]
  exact h
theorem hPs.cg {S S' m : aM} (h : hPs S m) (e4 : S' 0 4 = S 0 4) (e3 : S' 0 3 = S 0 3) (e : ∀ x, 10 ≤ x → x ≤ 15 → S' x = S x) : hPs S' m := by
  refine ⟨h.1.cg e4 e3 e, ?_⟩
  have h2 := h.2
  rw [e4, e 10 (by omega) (by omega), e 11 (by omega) (by omega), e 12 (by omega) (by omega), e 13 (by omega) (by omega), e 14 (by omega) (by omega), e 15 (by omega) (by omega)]
  exact h2
theorem mPs.cg {S S' m : aM} (h : mPs S m) (e4 : S' 0 4 = S 0 4) (e3 : S' 0 3 = S 0 3) (e : ∀ x, 10 ≤ x → x ≤ 15 → S' x = S x) : mPs S' m := by
  refine ⟨h.1.cg e4 e3 e, ?_⟩
  have h2 := h.2
  rw [e4, e 10 (by omega) (by omega), e 11 (by omega) (by omega), e 12 (by omega) (by omega), e 13 (by omega) (by omega), e 14 (by omega) (by omega), e 15 (by omega) (by omega)]
  exact h2
theorem hEs.cg {S S' m : aM} (h : hEs S m) (e5 : S' 0 5 = S 0 5) (e3 : S' 0 3 = S 0 3) (e : ∀ x, 16 ≤ x → x ≤ 18 → S' x = S x) : hEs S' m := by
  unfold hEs sEs
  rw [e5, e3, e 16 (by omega) (by omega), e 17 (by omega) (by omega), e 18 (by omega) (by omega)]
  exact h
theorem mEs.cg {S S' m : aM} (h : mEs S m) (e5 : S' 0 5 = S 0 5) (e3 : S' 0 3 = S 0 3) (e : ∀ x, 16 ≤ x → x ≤ 18 → S' x = S x) : mEs S' m := by
  unfold mEs sEs
  rw [e5, e3, e 16 (by omega) (by omega), e 17 (by omega) (by omega), e 18 (by omega) (by omega)]
  exact h
/-- numbers of the house's own objects were written -/
theorem hI.up {S S' : aM} {F : Int → aD} {lo hi cl ch : Int → Int} {m m' : aM} (h : hI S F lo hi cl ch m) (f : ∀ x j, x ≤ 0 ∨ 29 ≤ x → m' x j = m x j) (hn : hNm S' m') (he : hEs S' m') (e1 : ∀ j, j = 13 ∨ j = 14 ∨ j = 20 ∨ j = 22 ∨ j = 37 → m' 1 j = m 1 j) (e2 : ∀ x, x = 2 ∨ x = 3 ∨ x = 6 ∨ x = 9 ∨ x = 10 ∨ x = 14 ∨ x = 19 ∨ x = 20 ∨ x = 26 ∨ x = 27 ∨ x = 28 → m' x = m x) (t : m' 18 (-1) = m 18 (-1) ∧ m' 18 (-2) = m 18 (-2)) (s3 : S' 0 3 = S 0 3) (s4 : S' 0 4 = S 0 4) (s6 : S' 0 6 = S 0 6) (sr : ∀ x, (10 ≤ x ∧ x ≤ 15) ∨ x = 20 ∨ 100 ≤ x → S' x = S x) : hI S' F lo hi cl ch m' := by
  obtain ⟨i1, i2, i3, i4, i5, i6, i7, i8, i9, ia, ib, ic, id⟩ := h
  have E : ∀ x, x ≤ 0 ∨ 29 ≤ x → m' x = m x := fun x a => funext fun j => f x j a
  have K : hK m m' := ⟨by rw [E 0 (by omega)]; omega, fun r a b c => by rw [E r (by omega)]; exact ⟨rfl, fun _ => rfl⟩⟩
  have x20 := e2 20 (by omega)
  refine ⟨by rw [E 0 (by omega)]; exact i1, by rw [E 0 (by omega)]; exact i2, hn, (i4.keep K (e1 20 (by omega)) (e2 19 (by omega))).cg s3 (fun x a => sr x (by omega)), he, (i6.K K (e1 22 (by omega)) x20).cg s4 s3 (fun x a b => sr x (by omega)), ?_, ?_, ?_, ?_, ?_, by rw [s3]; exact ic, ?_⟩
  · have i7 := i7.K K (e1 37 (by omega)) (e2 27 (by omega)) (e2 28 (by omega))
    unfold hCs
    rw [s6, sr 20 (by omega)]
    exact i7
  · unfold hAp
    rw [s6, s3]
    exact i8
  · unfold hDn hDr
    rw [s3, E 0 (by omega), e1 13 (by omega), e2 19 (by omega), e2 6 (by omega), e2 10 (by omega)]
    exact ⟨i9.1, fun i a b c => by rw [sr (100 + i) (by omega)]; exact i9.2 i a b c⟩
  · unfold hTk
    rw [e2 9 (by omega), e1 14 (by omega)]
    exact ia
  · unfold hOn hWd hCst
    rw [e2 26 (by omega), e2 3 (by omega), e2 14 (by omega), t.1, t.2, e2 2 (by omega), E (-4) (by omega)]
    exact ⟨⟨fun r q => (E r (by omega)).trans (ib.1.1 r q), ib.1.2⟩, ib.2⟩
  · unfold hPr
    rw [s4, s3, s6, x20]
    exact id
theorem hRo.up {k : Int} {m m' : aM} (h : hRo (k + 1) m) (f : ∀ j, m' 0 j = m 0 j) (e : m' 1 14 = m 1 14) : hRo k m' := by
  obtain ⟨h1, h2, h3, h4, h5⟩ := h
  have a := f 0
  have b := f 1
  exact ⟨by omega, by omega, by omega, by omega, by omega⟩
theorem mI.up {S S' : aM} {F : Int → aD} {m m' : aM} (h : mI S F m) (hn : mNm S' m') (he : mEs S' m') (e1 : ∀ j, j = 1 ∨ j = 23 ∨ j = 27 ∨ j = 28 ∨ j = 46 → m' 41 j = m 41 j) (e2 : ∀ x, (45 ≤ x ∧ x ≤ 52) ∨ (55 ≤ x ∧ x ≤ 61) ∨ (69 ≤ x ∧ x ≤ 74) → m' x = m x) (e42 : ∀ j, j < 3300 → m' 42 j = m 42 j) (s3 : S' 0 3 = S 0 3) (s4 : S' 0 4 = S 0 4) (s6 : S' 0 6 = S 0 6) (sr : ∀ x, (10 ≤ x ∧ x ≤ 15) ∨ x = 20 ∨ 100 ≤ x → S' x = S x) : mI S' F m' := by
  obtain ⟨i1, i2, i3, i4, i5, i6, i7, i8⟩ := h
  refine ⟨hn, ?_, he, ?_, ?_, ?_, ?_, ?_⟩
  · obtain ⟨a1, a2, a3⟩ := i2
    unfold mAs
    rw [s3]
    refine ⟨a1, by rw [e1 1 (by omega)]; exact a2, fun i a b => ?_⟩
    rw [sr (100 + i) (by omega)]
    exact ⟨⟨(a3 i a b).1.1, (a3 i a b).1.2.1, fun k x y => by rw [e42 _ (by omega)]; exact (a3 i a b).1.2.2 k x y⟩, (a3 i a b).2⟩
  · have i4 := i4.cg s4 s3 (fun x a b => sr x (by omega))
    unfold mPs
    rw [e1 28 (by omega), e2 56 (by omega), e2 57 (by omega), e2 58 (by omega), e2 59 (by omega), e2 60 (by omega), e2 61 (by omega)]
    exact i4
  · obtain ⟨a1, a2, a3⟩ := i5
    unfold mCs
    rw [s6, sr 20 (by omega)]
    refine ⟨a1, by rw [e1 46 (by omega)]; exact a2, fun i a b => ?_⟩
    obtain ⟨⟨p, hi, c1, c2, c3⟩, c4⟩ := a3 i a b
    refine ⟨⟨p, hi, c1, c2, ?_⟩, by rw [e2 70 (by omega)]; exact c4⟩
    rw [e2 69 (by omega)]
    exact c3.keep (fun x j u v _ _ => by rw [e2 x (by omega)])
  · unfold mDn mDr
    rw [s3, e1 23 (by omega), e2 51 (by omega), e2 52 (by omega)]
    exact ⟨i6.1, fun i a b c => by rw [sr (100 + i) (by omega)]; exact i6.2 i a b c⟩
  · unfold mTk
    rw [e1 27 (by omega), e2 55 (by omega)]
    exact i7
  · unfold mOn mW5 mWr mWd
    rw [e2 45 (by omega), e2 46 (by omega), e2 47 (by omega), e2 48 (by omega), e2 49 (by omega), e2 50 (by omega)]
    exact i8
theorem mRo.up {k : Int} {m m' : aM} (h : mRo (k + 1) m) (e : m' 41 27 = m 41 27) : mRo k m' := by
  obtain ⟨h1, h2⟩ := h
  exact ⟨by omega, by omega⟩
