/-! needs: b17 -/
/-! THE STATE of both: S numbers, F clauses; what the house keeps (hI), what the reference keeps (mI), frames of calls that only look (hFr, mFr) -/
set_option maxRecDepth 100000
/-- places of the house that stay when it is only looked at -/
def hKpt (x j : Int) : Prop := x < 0 ∨ 41 ≤ x ∨ (j < 0 ∧ (x = 3 ∨ (13 ≤ x ∧ x ≤ 17))) ∨ x = 2 ∨ x = 4 ∨ x = 6 ∨ x = 9 ∨ x = 10 ∨ x = 18 ∨ x = 19 ∨ x = 20 ∨ (23 ≤ x ∧ x ≤ 28) ∨ x = 37 ∨ (x = 13 ∧ j = 9) ∨ (x = 1 ∧ (j = 3 ∨ j = 13 ∨ j = 14 ∨ j = 17 ∨ j = 18 ∨ j = 20 ∨ j = 22 ∨ j = 29 ∨ j = 37 ∨ j = 38 ∨ j = 39 ∨ j = 41 ∨ j = 45 ∨ j = 46))
def hFr (c : Int) (m m' : aM) : Prop := (m 0 0 ≤ m' 0 0 ∧ m' 0 0 ≤ m 0 0 + c) ∧ (m 0 1 ≤ m' 0 1 ∧ m' 0 1 ≤ m 0 1 + 1000 * c) ∧ (∀ j, j ≠ 0 → j ≠ 1 → m' 0 j = m 0 j) ∧ hK m m' ∧ (∀ x j, x ≠ 0 → x ≤ 76 → hKpt x j → m' x j = m x j)
theorem hFr.rfl (m : aM) : hFr 0 m m := ⟨by omega, by omega, fun _ _ _ => Eq.refl _, hK.rfl m, fun _ _ _ _ _ => Eq.refl _⟩
theorem hFr.trans {c c' : Int} {a b e : aM} (h : hFr c a b) (g : hFr c' b e) : hFr (c + c') a e := by
  obtain ⟨h1, h2, h3, h4, h5⟩ := h
  obtain ⟨g1, g2, g3, g4, g5⟩ := g
  exact ⟨by omega, by omega, fun j u v => (g3 j u v).trans (h3 j u v), h4.trans g4, fun x j u v w => (g5 x j u v w).trans (h5 x j u v w)⟩
theorem hFr.wd {c c' : Int} {a b : aM} (h : hFr c a b) (e : c ≤ c') : hFr c' a b := by
  obtain ⟨h1, h2, h3, h4, h5⟩ := h
  exact ⟨by omega, by omega, h3, h4, h5⟩
/-- from a frame that keeps all but some places of the house -/
theorem hFr.of {m m' : aM} (P : Int → Int → Prop) (h : ∀ x j, P x j → m' x j = m x j) (h0 : ∀ j, P 0 j) (h1 : ∀ x j, 29 ≤ x → (x ≤ 40 ∨ 77 ≤ x) → P x j) (h2 : ∀ x j, x ≠ 0 → x ≤ 76 → hKpt x j → P x j) : hFr 0 m m' := by
  have e0 := h 0 0 (h0 0)
  have e1 := h 0 1 (h0 1)
  exact ⟨by omega, by omega, fun j _ _ => h 0 j (h0 j), hK.of e0 (fun r a b j => h r j (h1 r j a b)), fun x j a b c => h x j (h2 x j a b c)⟩
theorem fr_J.H {m m' : aM} (h : fr_J m m') : hFr 0 m m' := hFr.of (fun r j => r ≠ 5 ∧ (r ≠ 1 ∨ j ≠ 5)) (fun x j p => h x j p.1 p.2) (fun j => by omega) (fun x j a b => by omega) (fun x j a b c => by unfold hKpt at c; omega)
theorem fr_Q.H {m m' : aM} (h : fr_Q m m') : hFr 0 m m' := hFr.of (fun r j => r ≠ 21 ∧ r ≠ 22) (fun x j p => h x j p.1 p.2) (fun j => by omega) (fun x j a b => by omega) (fun x j a b c => by unfold hKpt at c; omega)
theorem fr_C.H {m m' : aM} (h : fr_C m m') : hFr 0 m m' := hFr.of (fun r j => r ≠ 21 ∧ r ≠ 22 ∧ (r ≠ 1 ∨ j ≠ 25)) (fun x j p => h x j p.1 p.2.1 p.2.2) (fun j => by omega) (fun x j a b => by omega) (fun x j a b c => by unfold hKpt at c; omega)
theorem fr_1.H {m m' : aM} (h : fr_1 30 m m') : hFr 0 m m' := hFr.of (fun r j => r ≠ 1 ∨ j ≠ 30) (fun x j p => h x j p) (fun j => by omega) (fun x j a b => by omega) (fun x j a b c => by unfold hKpt at c; omega)
theorem hFr.X {m : aM} {t k : Int} (h0 : 77 ≤ m 0 0) (hk : 0 < k ∧ k ≤ 3) : hFr 3 m (mX m t k 1000) := by
  obtain ⟨x1, x2, x3⟩ := mX_0 (m := m) (t := t) (k := k) (n := 1000) (by omega) hk.1
  exact ⟨by omega, by omega, x3, ⟨by omega, fun r a b c => ⟨mX_b (by omega) (by omega), fun _ => funext fun j => mX_b (by omega) (by omega)⟩⟩, fun x j a b _ => mX_b (by omega) a⟩
/-- the clauses of the house, of the reference -/
def hCs (S : aM) (F : Int → aD) (cl ch : Int → Int) (m : aM) : Prop := (0 ≤ S 0 6 ∧ S 0 6 ≤ 20) ∧ m 1 37 = S 0 6 ∧ ∀ i, 0 ≤ i → i < S 0 6 → (78 ≤ cl i ∧ ch i ≤ m 0 0) ∧ (∃ p, p ≤ 24 ∧ hNd m (cl i) (ch i) (m 27 i) (F i) p) ∧ m 28 i = S 20 i
def mCs (S : aM) (F : Int → aD) (m : aM) : Prop := (0 ≤ S 0 6 ∧ S 0 6 ≤ 20) ∧ m 41 46 = S 0 6 ∧ ∀ i, 0 ≤ i → i < S 0 6 → (∃ p hi, p ≤ 24 ∧ hi ≤ 60 * i + 60 ∧ mNd m (60 * i) hi (m 69 i) (F i) p) ∧ m 70 i = S 20 i
/-- clauses lie apart from arms -/
def hAp (S : aM) (lo hi cl ch : Int → Int) : Prop := ∀ i j, 0 ≤ i → i < S 0 6 → 0 ≤ j → j < S 0 3 → ch i < lo j ∨ hi j < cl i
/-- plain facts of the state -/
def sI (S : aM) (F : Int → aD) : Prop := (0 ≤ S 0 0 ∧ S 0 0 ≤ 1200) ∧ (∀ i, 0 ≤ i → i < S 0 0 → 0 ≤ S 1 i ∧ S 1 i ≤ 255) ∧ (0 ≤ S 0 1 ∧ S 0 1 ≤ 700) ∧ (∀ i, 0 ≤ i → i < S 0 6 → okE (F i)) ∧ (0 ≤ S 0 2 ∧ S 0 2 ≤ 5) ∧ (∀ i, 0 ≤ i → i < S 0 1 → 0 ≤ S 2 i ∧ S 2 i ≤ 255)
/-- what is drawn -/
def hDn (S m : aM) : Prop := (0 ≤ m 1 13 ∧ m 1 13 ≤ m 0 0) ∧ ∀ i, 0 ≤ i → i < S 0 3 → m 1 13 = m 19 i → hDr m (S (100 + i))
def mDn (S m : aM) : Prop := m 41 23 < S 0 3 ∧ ∀ i, 0 ≤ i → i < S 0 3 → m 41 23 = i → mDr m (S (100 + i))
/-- numbers that are told as they stand -/
def hNm (S m : aM) : Prop := m 1 17 = S 0 0 ∧ (∀ i, 0 ≤ i → i < S 0 0 → m 18 i = S 1 i) ∧ m 1 3 = S 0 1 ∧ (∀ i, 0 ≤ i → i < S 0 1 → m 4 i = S 2 i) ∧ m 1 18 = S 0 2 ∧ m 1 38 = S 0 7 ∧ m 1 41 = S 0 8 ∧ m 1 46 = S 0 9 ∧ m 1 39 = 0
def mNm (S m : aM) : Prop := m 41 3 = S 0 0 ∧ (∀ i, 0 ≤ i → i < S 0 0 → m 43 i = S 1 i) ∧ m 41 5 = S 0 1 ∧ (∀ i, 0 ≤ i → i < S 0 1 → m 44 i = S 2 i) ∧ m 41 17 = S 0 2 ∧ m 41 62 = S 0 7 ∧ m 41 63 = S 0 8 ∧ m 41 67 = S 0 9
/-- what is made once: words, texts, families -/
def hOn (m : aM) : Prop := hWd m ∧ m 26 (-1) = 3 ∧ (m 3 (-1) = 45 ∧ m 3 (-2) = 6) ∧ (m 18 (-1) = 40 ∧ m 18 (-2) = 1200 ∧ m 14 (-1) = 40 ∧ m 14 (-2) = 1200) ∧ (∀ i, 0 ≤ i → i < 9 → m (-4) i = s_kd i)
def mOn (m : aM) : Prop := mWr m ∧ mW5 m
/-- the clean ones of the family: n of them, at g 0, g 1 .. -/
def hFm (n : Int) (g : Int → Int) (m : aM) : Prop := m 1 45 = n ∧ (∀ r, 0 ≤ r → r < n → m 37 r = g r) ∧ (∃ w, hArms m 29 32 29 w ∧ w 1 = 0 ∧ w 2 = 0 ∧ w 5 = 0) ∧ (∃ w, hArms m 33 40 33 w ∧ w 1 = 0 ∧ w 2 = 0 ∧ w 5 = 1 ∧ w 6 = 0 ∧ w 8 = 0 ∧ w 10 = 0 ∧ m (m 36 0) 1 = 39)
/-- persons lie apart from arms and clauses -/
def hPr (S : aM) (lo hi cl ch : Int → Int) (m : aM) : Prop := ∀ p, 0 ≤ p → p < S 0 4 → (∀ i, 0 ≤ i → i < S 0 3 → m 20 p < lo i ∨ hi i < m 20 p) ∧ (∀ i, 0 ≤ i → i < S 0 6 → m 20 p < cl i ∨ ch i < m 20 p)
theorem hPr.keep {S : aM} {lo hi cl ch : Int → Int} {m m' : aM} (h : hPr S lo hi cl ch m) (e : m' 20 = m 20) : hPr S lo hi cl ch m' := by unfold hPr; rw [e]; exact h
def hI (S : aM) (F : Int → aD) (lo hi cl ch : Int → Int) (m : aM) : Prop := 77 ≤ m 0 0 ∧ (m 0 2 = 1 ∧ m 0 3 = 1) ∧ hNm S m ∧ hAs S lo hi m ∧ hEs S m ∧ hPs S m ∧ hCs S F cl ch m ∧ hAp S lo hi cl ch ∧ hDn S m ∧ hTk m ∧ hOn m ∧ (∀ i, 0 ≤ i → i < S 0 3 → 78 ≤ lo i) ∧ hPr S lo hi cl ch m
/-- room for k calls more -/
def hRo (k : Int) (m : aM) : Prop := m 0 0 + 9000 * k ≤ amC ∧ 0 ≤ m 0 1 ∧ m 0 1 + 100000 * k ≤ amS ∧ 0 ≤ m 1 14 ∧ m 1 14 + 126 * k ≤ 800000
def mI (S : aM) (F : Int → aD) (m : aM) : Prop := mNm S m ∧ mAs S m ∧ mEs S m ∧ mPs S m ∧ mCs S F m ∧ mDn S m ∧ mTk m ∧ mOn m
def mRo (k : Int) (m : aM) : Prop := 0 ≤ m 41 27 ∧ m 41 27 + 126 * k ≤ 800000
theorem hEs.keep {S m m' : aM} (h : hEs S m) (e : m' 1 29 = m 1 29) (e2 : ∀ x, x = 19 ∨ x = 23 ∨ x = 24 ∨ x = 25 → m' x = m x) : hEs S m' := by
  unfold hEs
  rw [e, e2 19 (by omega), e2 23 (by omega), e2 24 (by omega), e2 25 (by omega)]
  exact h
theorem hPs.K {S m m' : aM} (h : hPs S m) (k : hK m m') (e : m' 1 22 = m 1 22) (e2 : m' 20 = m 20) : hPs S m' := by
  obtain ⟨h1, h2, h3, h4⟩ := h
  refine ⟨h1, by rw [e, h2], fun p a b => ?_, by rw [e2]; exact h4⟩
  obtain ⟨g1, g2, g3⟩ := h3 p a b
  have z := (k.2 (m 20 p) (by omega) (by omega) g1.2).2 (by omega)
  rw [e2, z, show hpr m' (S 11 p) = hpr m (S 11 p) by unfold hpr; rw [e2], show hpr m' (S 12 p) = hpr m (S 12 p) by unfold hpr; rw [e2]]
  exact ⟨⟨g1.1, by have := k.1; omega⟩, g2, g3⟩
theorem hCs.K {S : aM} {F : Int → aD} {cl ch : Int → Int} {m m' : aM} (h : hCs S F cl ch m) (k : hK m m') (e : m' 1 37 = m 1 37) (e2 : m' 27 = m 27) (e3 : m' 28 = m 28) : hCs S F cl ch m' := by
  obtain ⟨h1, h2, h3⟩ := h
  refine ⟨h1, by rw [e, h2], fun i a b => ?_⟩
  obtain ⟨g1, ⟨p, g2, g3⟩, g4⟩ := h3 i a b
  refine ⟨⟨g1.1, by have := k.1; omega⟩, ⟨p, g2, ?_⟩, by rw [e3]; exact g4⟩
  rw [e2]
  exact g3.keep (fun r u v => k.2 r (by omega) (by omega) (by omega))
theorem hI.fr {S : aM} {F : Int → aD} {lo hi cl ch : Int → Int} {m m' : aM} {c : Int} (h : hI S F lo hi cl ch m) (f : hFr c m m') : hI S F lo hi cl ch m' := by
  obtain ⟨i1, i2, i3, i4, i5, i6, i7, i8, i9, ia, ib, ic⟩ := h
  obtain ⟨f1, f2, f3, f4, f5⟩ := f
  have E : ∀ x, x ≠ 0 → x ≤ 76 → (∀ j, hKpt x j) → m' x = m x := fun x a b c => funext fun j => f5 x j a b (c j)
  have e1 : ∀ j, hKpt 1 j → m' 1 j = m 1 j := fun j c => f5 1 j (by omega) (by omega) c
  have x19 := E 19 (by omega) (by omega) (fun j => by unfold hKpt; omega)
  have x18 := E 18 (by omega) (by omega) (fun j => by unfold hKpt; omega)
  have x4 := E 4 (by omega) (by omega) (fun j => by unfold hKpt; omega)
  have x6 := E 6 (by omega) (by omega) (fun j => by unfold hKpt; omega)
  have x9 := E 9 (by omega) (by omega) (fun j => by unfold hKpt; omega)
  have x10 := E 10 (by omega) (by omega) (fun j => by unfold hKpt; omega)
  have x13 := e1 13 (by unfold hKpt; omega)
  have x14 := e1 14 (by unfold hKpt; omega)
  refine ⟨by omega, by rw [f3 2 (by omega) (by omega), f3 3 (by omega) (by omega)]; exact i2, ?_, i4.keep f4 (e1 20 (by unfold hKpt; omega)) x19, i5.keep (e1 29 (by unfold hKpt; omega)) (fun x q => E x (by omega) (by omega) (fun j => by unfold hKpt; omega)), i6.K f4 (e1 22 (by unfold hKpt; omega)) (E 20 (by omega) (by omega) (fun j => by unfold hKpt; omega)), i7.K f4 (e1 37 (by unfold hKpt; omega)) (E 27 (by omega) (by omega) (fun j => by unfold hKpt; omega)) (E 28 (by omega) (by omega) (fun j => by unfold hKpt; omega)), i8, ?_, ?_, ?_, ic.1, ic.2.keep (E 20 (by omega) (by omega) (fun j => by unfold hKpt; omega))⟩
  · unfold hNm
    rw [e1 17 (by unfold hKpt; omega), e1 3 (by unfold hKpt; omega), e1 18 (by unfold hKpt; omega), e1 38 (by unfold hKpt; omega), e1 41 (by unfold hKpt; omega), e1 46 (by unfold hKpt; omega), e1 39 (by unfold hKpt; omega), x18, x4]
    exact i3
  · unfold hDn hDr
    rw [x13, x19, x6, x10]
    exact ⟨by have := i9.1; omega, i9.2⟩
  · unfold hTk
    rw [x9, x14]
    exact ia
  · unfold hOn hWd hCst
    rw [f5 26 (-1) (by omega) (by omega) (by unfold hKpt; omega), f5 3 (-1) (by omega) (by omega) (by unfold hKpt; omega), f5 3 (-2) (by omega) (by omega) (by unfold hKpt; omega), f5 14 (-1) (by omega) (by omega) (by unfold hKpt; omega), f5 14 (-2) (by omega) (by omega) (by unfold hKpt; omega), x18, E 2 (by omega) (by omega) (fun j => by unfold hKpt; omega), E (-4) (by omega) (by omega) (fun j => by unfold hKpt; omega)]
    exact ⟨⟨fun r q => (E r (by omega) (by omega) (fun j => by unfold hKpt; omega)).trans (ib.1.1 r q), ib.1.2⟩, ib.2⟩
theorem hRo.fr {k c : Int} {m m' : aM} (h : hRo (k + 1) m) (f : hFr c m m') (hc : c ≤ 90) : hRo k m' := by
  obtain ⟨h1, h2, h3, h4⟩ := h
  obtain ⟨f1, f2, f3, f4, f5⟩ := f
  have x14 := f5 1 14 (by omega) (by omega) (by unfold hKpt; omega)
  exact ⟨by omega, by omega, by omega, by omega⟩
/-- places of the reference that stay when it is only looked at -/
def mKpt (x j : Int) : Prop := (43 ≤ x ∧ x ≤ 52) ∨ (55 ≤ x ∧ x ≤ 61) ∨ (65 ≤ x ∧ x ≤ 67) ∨ (69 ≤ x ∧ x ≤ 76) ∨ (x = 42 ∧ j < 3300) ∨ (x = 41 ∧ (j = 1 ∨ j = 3 ∨ j = 5 ∨ j = 17 ∨ j = 23 ∨ j = 27 ∨ j = 28 ∨ j = 40 ∨ j = 46 ∨ j = 62 ∨ j = 63 ∨ j = 66 ∨ j = 67))
def mFr (m m' : aM) : Prop := (∀ x j, x < 41 ∨ 76 < x → m' x j = m x j) ∧ (∀ x j, 41 ≤ x → x ≤ 76 → mKpt x j → m' x j = m x j)
theorem mFr.rfl (m : aM) : mFr m m := ⟨fun _ _ _ => Eq.refl _, fun _ _ _ _ _ => Eq.refl _⟩
theorem mFr.trans {a b c : aM} (h : mFr a b) (g : mFr b c) : mFr a c := ⟨fun x j u => (g.1 x j u).trans (h.1 x j u), fun x j u v w => (g.2 x j u v w).trans (h.2 x j u v w)⟩
theorem mFr.of {m m' : aM} (P : Int → Int → Prop) (h : ∀ x j, P x j → m' x j = m x j) (h1 : ∀ x j, x < 41 ∨ 76 < x → P x j) (h2 : ∀ x j, 41 ≤ x → x ≤ 76 → mKpt x j → P x j) : mFr m m' := ⟨fun x j a => h x j (h1 x j a), fun x j a b c => h x j (h2 x j a b c)⟩
theorem fr_g.R {m m' : aM} (h : fr_g m m') : mFr m m' := mFr.of (fun r j => r ≠ 62 ∧ r ≠ 63 ∧ (r ≠ 41 ∨ j ≠ 36)) (fun x j p => h x j p.1 p.2.1 p.2.2) (fun x j a => by omega) (fun x j a b c => by unfold mKpt at c; omega)
theorem fr_b.R {m m' : aM} (h : fr_b m m') : mFr m m' := mFr.of (fun r j => r ≠ 62 ∧ r ≠ 63 ∧ r ≠ 64 ∧ (r ≠ 41 ∨ (j ≠ 36 ∧ j ≠ 39))) (fun x j p => h x j p.1 p.2.1 p.2.2.1 p.2.2.2) (fun x j a => by omega) (fun x j a b c => by unfold mKpt at c; omega)
theorem fr_K.R {m m' : aM} (h : fr_K m m') : mFr m m' := mFr.of (fun r j => r ≠ 41 ∨ j < 57 ∨ 61 < j) (fun x j p => h x j p) (fun x j a => by omega) (fun x j a b c => by unfold mKpt at c; omega)
theorem mI.fr {S : aM} {F : Int → aD} {m m' : aM} (h : mI S F m) (f : mFr m m') : mI S F m' := by
  obtain ⟨i1, i2, i3, i4, i5, i6, i7, i8⟩ := h
  obtain ⟨f1, f2⟩ := f
  have E : ∀ x, 41 ≤ x → x ≤ 76 → (∀ j, mKpt x j) → m' x = m x := fun x a b c => funext fun j => f2 x j a b (c j)
  have e1 : ∀ j, mKpt 41 j → m' 41 j = m 41 j := fun j c => f2 41 j (by omega) (by omega) c
  have X : ∀ x, (43 ≤ x ∧ x ≤ 52) ∨ (55 ≤ x ∧ x ≤ 61) ∨ (65 ≤ x ∧ x ≤ 67) ∨ (69 ≤ x ∧ x ≤ 76) → m' x = m x := fun x c => E x (by omega) (by omega) (fun j => by unfold mKpt; omega)
  have r42 : ∀ j, j < 3300 → m' 42 j = m 42 j := fun j c => f2 42 j (by omega) (by omega) (by unfold mKpt; omega)
  refine ⟨?_, ?_, ?_, ?_, ?_, ?_, ?_, ?_⟩
  · unfold mNm
    rw [e1 3 (by unfold mKpt; omega), e1 5 (by unfold mKpt; omega), e1 17 (by unfold mKpt; omega), e1 62 (by unfold mKpt; omega), e1 63 (by unfold mKpt; omega), e1 67 (by unfold mKpt; omega), X 43 (by omega), X 44 (by omega)]
    exact i1
  · obtain ⟨a1, a2, a3⟩ := i2
    refine ⟨a1, by rw [e1 1 (by unfold mKpt; omega)]; exact a2, fun i a b => ⟨⟨(a3 i a b).1.1, (a3 i a b).1.2.1, fun k x y => ?_⟩, (a3 i a b).2⟩⟩
    rw [r42 _ (by omega)]
    exact (a3 i a b).1.2.2 k x y
  · unfold mEs
    rw [e1 40 (by unfold mKpt; omega), X 65 (by omega), X 66 (by omega), X 67 (by omega)]
    exact i3
  · unfold mPs
    rw [e1 28 (by unfold mKpt; omega), X 56 (by omega), X 57 (by omega), X 58 (by omega), X 59 (by omega), X 60 (by omega), X 61 (by omega)]
    exact i4
  · obtain ⟨a1, a2, a3⟩ := i5
    refine ⟨a1, by rw [e1 46 (by unfold mKpt; omega)]; exact a2, fun i a b => ?_⟩
    obtain ⟨⟨p, hi, c1, c2, c3⟩, c4⟩ := a3 i a b
    refine ⟨⟨p, hi, c1, c2, ?_⟩, by rw [X 70 (by omega)]; exact c4⟩
    rw [X 69 (by omega)]
    exact c3.keep (fun x j u v _ _ => by rw [X x (by omega)])
  · unfold mDn mDr
    rw [e1 23 (by unfold mKpt; omega), X 51 (by omega), X 52 (by omega)]
    exact i6
  · unfold mTk
    rw [e1 27 (by unfold mKpt; omega), X 55 (by omega)]
    exact i7
  · unfold mOn mW5 mWr mWd
    rw [X 45 (by omega), X 46 (by omega), X 47 (by omega), X 48 (by omega), X 49 (by omega), X 50 (by omega)]
    exact i8
/-- the reference's calls leave the house alone, and the other way round -/
theorem hI.M {S : aM} {F : Int → aD} {lo hi cl ch : Int → Int} {m m' : aM} (h : hI S F lo hi cl ch m) (f : ∀ x j, x < 41 ∨ 76 < x → m' x j = m x j) : hI S F lo hi cl ch m' := by
  obtain ⟨i1, i2, i3, i4, i5, i6, i7, i8, i9, ia, ib, ic⟩ := h
  have E : ∀ x, x < 41 ∨ 76 < x → m' x = m x := fun x a => funext fun j => f x j a
  have K : hK m m' := ⟨by rw [f 0 0 (by omega)]; omega, fun r a b c => by rw [E r (by omega)]; exact ⟨rfl, fun _ => rfl⟩⟩
  refine ⟨by rw [f 0 0 (by omega)]; exact i1, by rw [E 0 (by omega)]; exact i2, ?_, i4.keep K (f 1 20 (by omega)) (E 19 (by omega)), i5.keep (f 1 29 (by omega)) (fun x q => E x (by omega)), i6.K K (f 1 22 (by omega)) (E 20 (by omega)), i7.K K (f 1 37 (by omega)) (E 27 (by omega)) (E 28 (by omega)), i8, ?_, ?_, ?_, ic.1, ic.2.keep (E 20 (by omega))⟩
  · unfold hNm
    rw [E 1 (by omega), E 18 (by omega), E 4 (by omega)]
    exact i3
  · unfold hDn hDr
    rw [E 0 (by omega), E 1 (by omega), E 19 (by omega), E 6 (by omega), E 10 (by omega)]
    exact i9
  · unfold hTk
    rw [E 1 (by omega), E 9 (by omega)]
    exact ia
  · unfold hOn hWd hCst
    rw [E 26 (by omega), E 3 (by omega), E 14 (by omega), E 18 (by omega), E 2 (by omega), E (-4) (by omega)]
    exact ⟨⟨fun r q => (E r (by omega)).trans (ib.1.1 r q), ib.1.2⟩, ib.2⟩
theorem mI.H {S : aM} {F : Int → aD} {m m' : aM} (h : mI S F m) (f : ∀ x j, 41 ≤ x → x ≤ 76 → m' x j = m x j) : mI S F m' := by
  obtain ⟨i1, i2, i3, i4, i5, i6, i7, i8⟩ := h
  have E : ∀ x, 41 ≤ x → x ≤ 76 → m' x = m x := fun x a b => funext fun j => f x j a b
  refine ⟨?_, ?_, ?_, ?_, ?_, ?_, ?_, ?_⟩
  · unfold mNm
    rw [E 41 (by omega) (by omega), E 43 (by omega) (by omega), E 44 (by omega) (by omega)]
    exact i1
  · unfold mAs mRow
    rw [E 41 (by omega) (by omega), E 42 (by omega) (by omega)]
    exact i2
  · unfold mEs
    rw [E 41 (by omega) (by omega), E 65 (by omega) (by omega), E 66 (by omega) (by omega), E 67 (by omega) (by omega)]
    exact i3
  · unfold mPs
    rw [E 41 (by omega) (by omega), E 56 (by omega) (by omega), E 57 (by omega) (by omega), E 58 (by omega) (by omega), E 59 (by omega) (by omega), E 60 (by omega) (by omega), E 61 (by omega) (by omega)]
    exact i4
  · obtain ⟨a1, a2, a3⟩ := i5
    refine ⟨a1, by rw [E 41 (by omega) (by omega)]; exact a2, fun i a b => ?_⟩
    obtain ⟨⟨p, hi, c1, c2, c3⟩, c4⟩ := a3 i a b
    refine ⟨⟨p, hi, c1, c2, ?_⟩, by rw [E 70 (by omega) (by omega)]; exact c4⟩
    rw [E 69 (by omega) (by omega)]
    exact c3.keep (fun x j u v _ _ => by rw [E x (by omega) (by omega)])
  · unfold mDn mDr
    rw [E 41 (by omega) (by omega), E 51 (by omega) (by omega), E 52 (by omega) (by omega)]
    exact i6
  · unfold mTk
    rw [E 41 (by omega) (by omega), E 55 (by omega) (by omega)]
    exact i7
  · unfold mOn mW5 mWr mWd
    rw [E 45 (by omega) (by omega), E 46 (by omega) (by omega), E 47 (by omega) (by omega), E 48 (by omega) (by omega), E 49 (by omega) (by omega), E 50 (by omega) (by omega)]
    exact i8
theorem hFr.M {c : Int} {m m' : aM} (f : hFr c m m') : ∀ x j, 41 ≤ x → x ≤ 76 → m' x j = m x j := fun x j a b => f.2.2.2.2 x j (by omega) b (by unfold hKpt; omega)
