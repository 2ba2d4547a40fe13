/-! needs: 62 -/
/-! ARMS AS ROWS OF NUMBERS: the row, and what an object of the house says of it -/
/-- the attitude that is meant anyway; the kind of a tincture -/
def s_fa (t : Int) : Int := if t = 10 then 1 else if t = 11 then 2 else if t = 8 then 3 else 0
def s_kd (t : Int) : Int := if t < 2 then 1 else if t < 7 then 2 else 0
/-- numbers of a layer, from place b of the row w -/
def okOrd (w : Int → Int) (b : Int) : Prop := 0 ≤ w (b + 1) ∧ w (b + 1) ≤ 7 ∧ 0 ≤ w (b + 2) ∧ w (b + 2) ≤ 2 ∧ 0 ≤ w (b + 3) ∧ w (b + 3) ≤ 8
def noOrd (w : Int → Int) (b : Int) : Prop := w (b + 1) = -1 ∧ w (b + 2) = 0 ∧ w (b + 3) = -1
def okGrp (w : Int → Int) (b : Int) : Prop := 1 ≤ w (b + 4) ∧ w (b + 4) ≤ 3 ∧ 1 ≤ w (b + 5) ∧ w (b + 5) ≤ 12 ∧ 0 ≤ w (b + 6) ∧ w (b + 6) ≤ 11 ∧ 0 ≤ w (b + 7) ∧ w (b + 7) ≤ 4 ∧ 0 ≤ w (b + 8) ∧ w (b + 8) ≤ 8 ∧ 0 ≤ w (b + 9) ∧ w (b + 9) ≤ 4 ∧ (w (b + 7) = s_fa (w (b + 6)) ∨ 1 ≤ w (b + 7))
def noGrp (w : Int → Int) (b : Int) : Prop := w (b + 4) = 0 ∧ w (b + 5) = 0 ∧ w (b + 6) = -1 ∧ w (b + 7) = -1 ∧ w (b + 8) = -1 ∧ w (b + 9) = 0
def okLay (w : Int → Int) (b : Int) : Prop := (w b = 0 ∨ w b = 1) ∧ (okOrd w b ∨ noOrd w b) ∧ (okGrp w b ∨ noGrp w b) ∧ (w (b + 4) = 1 ↔ w (b + 1) = -1) ∧ (w (b + 4) ≠ 1 → w (b + 9) = 0)
def noLay (w : Int → Int) (b : Int) : Prop := w b = 0 ∧ noOrd w b ∧ noGrp w b
def okRow (w : Int → Int) : Prop := (0 ≤ w 0 ∧ w 0 ≤ 9) ∧ (0 ≤ w 1 ∧ w 1 ≤ 2) ∧ (0 ≤ w 2 ∧ w 2 ≤ 12) ∧ (0 ≤ w 3 ∧ w 3 ≤ 8) ∧ ((w 0 = 0 ∧ w 1 = 0 ∧ w 2 = 0 ∧ w 4 = -1) ∨ (1 ≤ w 0 ∧ 0 ≤ w 4 ∧ w 4 ≤ 8)) ∧ (w 0 ≤ 5 ∨ w 0 = 9 → w 2 = 0) ∧ (0 ≤ w 5 ∧ w 5 ≤ 6) ∧
  (∀ l, 0 ≤ l → l < w 5 → okLay w (6 + 10 * l)) ∧ (∀ l, w 5 ≤ l → l < 6 → noLay w (6 + 10 * l))
/-- objects of the house between lo and hi -/
def hTold (m : aM) (lo hi t : Int) : Prop := lo ≤ t ∧ t ≤ hi ∧ m t (-1) = 6
def hOrd (m : aM) (lo hi o : Int) (w : Int → Int) (b : Int) : Prop :=
  (o = 0 ∧ noOrd w b) ∨ (lo ≤ o ∧ o ≤ hi ∧ m o (-1) = 8 ∧ okOrd w b ∧ m o 0 = w (b + 1) ∧ m o 1 = w (b + 2) ∧ m o 2 = w (b + 3) ∧ hTold m lo hi (m o 3))
def hGrp (m : aM) (lo hi g : Int) (w : Int → Int) (b : Int) : Prop :=
  (g = 0 ∧ noGrp w b) ∨ (lo ≤ g ∧ g ≤ hi ∧ m g (-1) = 10 ∧ okGrp w b ∧ m g 0 = w (b + 5) ∧ m g 1 = w (b + 6) ∧ m g 2 = w (b + 7) ∧ m g 3 = w (b + 8) ∧ hTold m lo hi (m g 4))
def hLay (m : aM) (lo hi l : Int) (w : Int → Int) (b : Int) : Prop :=
  (lo ≤ l ∧ l ≤ hi) ∧ m l (-1) = 7 ∧ (w b = 0 ∨ w b = 1) ∧ m l 0 = w b ∧ hOrd m lo hi (m l 1) w b ∧ hGrp m lo hi (m l 2) w b ∧ m l 3 = w (b + 4) ∧ m l 4 = w (b + 9) ∧ (w (b + 4) = 1 ↔ w (b + 1) = -1) ∧ (w (b + 4) ≠ 1 → w (b + 9) = 0)
def hFld (m : aM) (lo hi f : Int) (w : Int → Int) : Prop :=
  (lo ≤ f ∧ f ≤ hi) ∧ m f (-1) = 5 ∧ m f 0 = w 0 ∧ m f 1 = w 1 ∧ m f 2 = w 2 ∧ m f 3 = w 3 ∧ m f 4 = w 4 ∧ hTold m lo hi (m f 5)
/-- r is Arms whose row is w; all its objects lie between lo and hi -/
def hArms (m : aM) (lo hi r : Int) (w : Int → Int) : Prop :=
  ((29 ≤ lo ∧ (hi ≤ 40 ∨ 77 ≤ lo)) ∧ hi ≤ m 0 0) ∧ (lo ≤ r ∧ r ≤ hi) ∧ m r (-1) = 4 ∧ hFld m lo hi (m r 0) w ∧ (lo ≤ m r 1 ∧ m r 1 ≤ hi) ∧ m (m r 1) (-1) = 45 ∧ m (m r 1) (-2) = w 5 ∧ okRow w ∧
  (∀ k, 0 ≤ k → k < w 5 → hLay m lo hi (m (m r 1) k) w (6 + 10 * k)) ∧
  (∀ j k, 0 ≤ j → j < w 5 → 0 ≤ k → k < w 5 → j ≠ k → m (m r 1) j ≠ m (m r 1) k ∧ (m (m (m r 1) j) 1 ≠ 0 → m (m (m r 1) j) 1 ≠ m (m (m r 1) k) 1) ∧ (m (m (m r 1) j) 2 ≠ 0 → m (m (m r 1) j) 2 ≠ m (m (m r 1) k) 2))
theorem hArms.basic {m : aM} {lo hi r : Int} {w : Int → Int} (h : hArms m lo hi r w) : 29 ≤ lo ∧ hi ≤ m 0 0 ∧ lo ≤ r ∧ r ≤ hi ∧ m r (-1) = 4 ∧ (lo ≤ m r 1 ∧ m r 1 ≤ hi) ∧ m (m r 1) (-1) = 45 ∧ m (m r 1) (-2) = w 5 ∧ 0 ≤ w 5 ∧ w 5 ≤ 6 := ⟨h.1.1.1, h.1.2, h.2.1.1, h.2.1.2, h.2.2.1, h.2.2.2.2.1, h.2.2.2.2.2.1, h.2.2.2.2.2.2.1, h.2.2.2.2.2.2.2.1.2.2.2.2.2.2.1⟩
theorem hArms.fld {m : aM} {lo hi r : Int} {w : Int → Int} (h : hArms m lo hi r w) : hFld m lo hi (m r 0) w := h.2.2.2.1
theorem hArms.row {m : aM} {lo hi r : Int} {w : Int → Int} (h : hArms m lo hi r w) : okRow w := h.2.2.2.2.2.2.2.1
theorem hArms.lay {m : aM} {lo hi r : Int} {w : Int → Int} (h : hArms m lo hi r w) {k : Int} (h0 : 0 ≤ k) (h1 : k < w 5) : hLay m lo hi (m (m r 1) k) w (6 + 10 * k) := h.2.2.2.2.2.2.2.2.1 k h0 h1
theorem hArms.inj {m : aM} {lo hi r : Int} {w : Int → Int} (h : hArms m lo hi r w) {j k : Int} (a : 0 ≤ j) (b : j < w 5) (c : 0 ≤ k) (e : k < w 5) (n : j ≠ k) : m (m r 1) j ≠ m (m r 1) k ∧ (m (m (m r 1) j) 1 ≠ 0 → m (m (m r 1) j) 1 ≠ m (m (m r 1) k) 1) ∧ (m (m (m r 1) j) 2 ≠ 0 → m (m (m r 1) j) 2 ≠ m (m (m r 1) k) 2) := h.2.2.2.2.2.2.2.2.2 j k a b c e n
/-- what keeps the objects keeps the arms -/
def hKeep (m m' : aM) (lo hi : Int) : Prop := ∀ r, lo ≤ r → r ≤ hi → m' r (-1) = m r (-1) ∧ (m r (-1) ≠ 6 → m' r = m r)
theorem hTold.keep {m m' : aM} {lo hi t : Int} (k : hKeep m m' lo hi) (h : hTold m lo hi t) : hTold m' lo hi t := ⟨h.1, h.2.1, by rw [(k t h.1 h.2.1).1]; exact h.2.2⟩
theorem hOrd.keep {m m' : aM} {lo hi o : Int} {w : Int → Int} {b : Int} (k : hKeep m m' lo hi) (h : hOrd m lo hi o w b) : hOrd m' lo hi o w b := by
  rcases h with h | ⟨h1, h2, h3, h4⟩
  · exact Or.inl h
  · have e := (k o h1 h2).2 (by omega)
    refine Or.inr ⟨h1, h2, ?_⟩
    rw [e]
    exact ⟨h3, h4.1, h4.2.1, h4.2.2.1, h4.2.2.2.1, h4.2.2.2.2.keep k⟩
theorem hGrp.keep {m m' : aM} {lo hi g : Int} {w : Int → Int} {b : Int} (k : hKeep m m' lo hi) (h : hGrp m lo hi g w b) : hGrp m' lo hi g w b := by
  rcases h with h | ⟨h1, h2, h3, h4⟩
  · exact Or.inl h
  · have e := (k g h1 h2).2 (by omega)
    refine Or.inr ⟨h1, h2, ?_⟩
    rw [e]
    exact ⟨h3, h4.1, h4.2.1, h4.2.2.1, h4.2.2.2.1, h4.2.2.2.2.1, h4.2.2.2.2.2.keep k⟩
theorem hLay.keep {m m' : aM} {lo hi l : Int} {w : Int → Int} {b : Int} (k : hKeep m m' lo hi) (h : hLay m lo hi l w b) : hLay m' lo hi l w b := by
  obtain ⟨h1, h2, h3, h4, h5, h6, h7⟩ := h
  have e := (k l h1.1 h1.2).2 (by omega)
  unfold hLay
  rw [e]
  exact ⟨h1, h2, h3, h4, h5.keep k, h6.keep k, h7⟩
theorem hFld.keep {m m' : aM} {lo hi f : Int} {w : Int → Int} (k : hKeep m m' lo hi) (h : hFld m lo hi f w) : hFld m' lo hi f w := by
  obtain ⟨h1, h2, h3, h4, h5, h6, h7, h8⟩ := h
  have e := (k f h1.1 h1.2).2 (by omega)
  unfold hFld
  rw [e]
  exact ⟨h1, h2, h3, h4, h5, h6, h7, h8.keep k⟩
theorem hArms.keep {m m' : aM} {lo hi r : Int} {w : Int → Int} (k : hKeep m m' lo hi) (h0 : hi ≤ m' 0 0) (h : hArms m lo hi r w) : hArms m' lo hi r w := by
  obtain ⟨h1, h2, h3, h4, h5, h6, h7, h8, h9, h10⟩ := h
  have e := (k r h2.1 h2.2).2 (by omega)
  have e1 := (k (m r 1) h5.1 h5.2).2 (by omega)
  have e2 : ∀ i, 0 ≤ i → i < w 5 → m' (m (m r 1) i) = m (m (m r 1) i) := fun i a b => by
    obtain ⟨q1, q2, -⟩ := h9 i a b
    exact (k _ q1.1 q1.2).2 (by omega)
  unfold hArms
  rw [e, e1]
  refine ⟨⟨h1.1, h0⟩, h2, h3, h4.keep k, h5, h6, h7, h8, fun i a b => (h9 i a b).keep k, fun i j a b c d n => ?_⟩
  rw [e2 i a b, e2 j c d]
  exact h10 i j a b c d n
