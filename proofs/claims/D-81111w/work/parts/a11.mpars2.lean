/-! needs: a10 -/
/-! CONTRACTS: reading of the reference, small ones; by tools/gena11.py -/
set_option maxRecDepth 100000
/-- rows of words of the reference -/
def mWr (m : aM) : Prop := mWd m ∧ (m 45 (-1) = 41 ∧ 9 ≤ m 45 (-2)) ∧ (m 46 (-1) = 41 ∧ 12 ≤ m 46 (-2)) ∧ (m 47 (-1) = 41 ∧ 5 ≤ m 47 (-2)) ∧ (m 48 (-1) = 41 ∧ 8 ≤ m 48 (-2)) ∧ (m 49 (-1) = 41 ∧ 5 ≤ m 49 (-2))
/-- reading of the reference: but for its places of text and numbers a .. b - 1 of its arms all stands -/
def fr_Y (a b : Int) (m m' : aM) : Prop := ∀ r j, (r ≠ 41 ∨ j < 12 ∨ 20 < j) → (r ≠ 42 ∨ j < a ∨ b ≤ j) → m' r j = m r j
theorem fr_Y.rfl (a b : Int) (m : aM) : fr_Y a b m m := fun _ _ _ _ => Eq.refl _
theorem fr_Y.trans {a b : Int} {x y z : aM} (h : fr_Y a b x y) (g : fr_Y a b y z) : fr_Y a b x z := fun r j u v => (g r j u v).trans (h r j u v)
theorem fr_Y.wd {a b a' b' : Int} {x y : aM} (h : fr_Y a b x y) (ha : a' ≤ a) (hb : b ≤ b') : fr_Y a' b' x y := fun r j u v => h r j u (by omega)
theorem fr_Y.M {a b : Int} {x y z : aM} (h : fr_Y a b x y) (g : fr_M y z) : fr_Y a b x z := fun r j u v => (g r j (by omega)).trans (h r j u v)
theorem fr_Y.p {a b i v : Int} {x y : aM} (h : fr_Y a b x y) (hi : a ≤ i ∧ i < b) : fr_Y a b x (mS y 42 i v) := fun r j u w => by rw [mS_iff, if_neg (by omega)]; exact h r j u w
theorem mWr.fr {a b : Int} {m m' : aM} (h : mWr m) (f : fr_Y a b m m') : mWr m' := by
  obtain ⟨h1, h2, h3, h4, h5, h6⟩ := h
  have e : ∀ r j, 45 ≤ r → m' r j = m r j := fun r j x => f r j (by omega) (by omega)
  exact ⟨h1.keep (fun r j x _ => e r j x), by rw [e _ _ (by omega), e _ _ (by omega)]; exact h2, by rw [e _ _ (by omega), e _ _ (by omega)]; exact h3, by rw [e _ _ (by omega), e _ _ (by omega)]; exact h4, by rw [e _ _ (by omega), e _ _ (by omega)]; exact h5, by rw [e _ _ (by omega), e _ _ (by omega)]; exact h6⟩
theorem mWr.a45 {m : aM} (h : mWr m) : mAr m 45 0 9 (fun k => k) := ⟨h.2.1, by omega, fun k a b => ⟨h.1.1 k a b, by dsimp only; omega, by dsimp only; omega⟩, fun k a b => by omega, fun i j _ _ _ _ e => e⟩
theorem mWr.a46 {m : aM} (h : mWr m) : mAr m 46 0 12 (fun k => 9 + k) := ⟨h.2.2.1, by omega, fun k a b => ⟨h.1.2.1 k a b, by dsimp only; omega, by dsimp only; omega⟩, fun k a b => by omega, fun i j _ _ _ _ e => by dsimp only at e; omega⟩
theorem mWr.a47 {m : aM} (h : mWr m) : mAr m 47 1 5 (fun k => 21 + k - 1) := ⟨h.2.2.2.1, by omega, fun k a b => ⟨h.1.2.2.1 k a b, by dsimp only; omega, by dsimp only; omega⟩, fun k a b => by rw [show k = 0 by omega]; exact h.1.2.2.2.2.2.2.1, fun i j _ _ _ _ e => by dsimp only at e; omega⟩
theorem mWr.a48 {m : aM} (h : mWr m) : mAr m 48 0 8 (fun k => 25 + k) := ⟨h.2.2.2.2.1, by omega, fun k a b => ⟨h.1.2.2.2.1 k a b, by dsimp only; omega, by dsimp only; omega⟩, fun k a b => by omega, fun i j _ _ _ _ e => by dsimp only at e; omega⟩
theorem mWr.a49 {m : aM} (h : mWr m) : mAr m 49 1 5 (fun k => if k = 1 then 31 else 48 + k - 2) := ⟨h.2.2.2.2.2, by omega, fun k a b => ⟨h.1.2.2.2.2.1 k a b, by dsimp only; split <;> omega, by dsimp only; split <;> omega⟩, fun k a b => by rw [show k = 0 by omega]; exact h.1.2.2.2.2.2.2.2, fun i j _ _ _ _ e => by dsimp only at e; split at e <;> split at e <;> omega⟩
theorem mTx.p42 {m : aM} {n : Int} {K A V E : Int → Int} {N q f p i v : Int} (h : mTx m n K A V E N q f p) : mTx (mS m 42 i v) n K A V E N q f p := h
/-- numbers a .. a + s - 1 of the arms of the reference -/
def mSg (m : aM) (a s : Int) (u : Int → Int) : Prop := ∀ j, 0 ≤ j → j < s → m 42 (a + j) = u j
def p_up (u : Int → Int) (k v : Int) : Int → Int := fun j => if j = k then v else u j
theorem mSg.M {m m' : aM} {a s : Int} {u : Int → Int} (h : mSg m a s u) (g : fr_M m m') : mSg m' a s u := fun j x y => by rw [g 42 _ (by omega)]; exact h j x y
theorem mSg.p {m : aM} {a s i j v : Int} {u : Int → Int} (h : mSg m a s u) (e : i = a + j) (hj : 0 ≤ j) : mSg (mS m 42 i v) a s (p_up u j v) := fun k x y => by
  unfold p_up
  by_cases z : k = j
  · rw [if_pos z, mS_iff, if_pos ⟨rfl, by omega⟩]
  · rw [if_neg z, mS_iff, if_neg (by omega)]; exact h k x y
/-- a chief, a bordure was told -/
def mFg (m : aM) (c b : Int) : Prop := m 41 19 = c ∧ m 41 20 = b ∧ (c = 0 ∨ c = 1) ∧ (b = 0 ∨ b = 1)
theorem mFg.M {m m' : aM} {c b : Int} (h : mFg m c b) (g : fr_M m m') : mFg m' c b := by unfold mFg; rw [g 41 19 (by omega), g 41 20 (by omega)]; exact h
theorem mFg.p {m : aM} {c b i v : Int} (h : mFg m c b) : mFg (mS m 42 i v) c b := h
theorem x_wb (k : Int) : x_wr k ≠ 0 := by unfold x_wr; omega
theorem ct_203 {d : Nat} {m : aM} {Q : aO → aM → Prop} {n : Int} {K A V E : Int → Int} {N q p : Int} (hd : 5 ≤ d) (hx : mTx m n K A V E N q 0 p) (wr0 : mWr m) {c b : Int} (fg : mFg m c b) {s l nb : Int} (c0 : m 42 3300 = s) (c1 : m 42 3301 = l) (c2 : m 42 3302 = nb) (hQe : ∀ m' q' f' p', fr_Y 3300 3305 m m' → mTx m' n K A V E N q' f' p' → mFg m' c b → f' ≠ 0 → p_two K A s l nb q = .inl (f', p') → Q (.inl none) m') (hQ : ∀ m' q' ta tb, fr_Y 3300 3305 m m' → mTx m' n K A V E N q' 0 p → mFg m' c b → p_two K A s l nb q = .inr (q', p_mk s l nb ta tb) → (0 ≤ ta ∧ ta ≤ 8 ∧ 0 ≤ tb ∧ tb ≤ 8) → m' 42 3300 = s → m' 42 3301 = l → m' 42 3302 = nb → m' 42 3303 = ta → m' 42 3304 = tb → Q (.inl none) m') : am_wpc am_G am_T d 203 [aR 41] m Q := by
  have fr := fr_Y.rfl 3300 3305 m
  have sg : mSg m 3300 3 (fun k => if k = 0 then s else if k = 1 then l else nb) := fun j x y => by
    have : j = 0 ∨ j = 1 ∨ j = 2 := by omega
    rcases this with rfl | rfl | rfl
    · exact c0
    · exact c1
    · exact c2
  have sg : mSg m 3300 5 (fun k => if k < 3 then (if k = 0 then s else if k = 1 then l else nb) else m 42 (3300 + k)) := fun j x y => by
    by_cases z : j < 3
    · simp only [z, if_true]; exact sg j x z
    · simp only [z, if_false]
  refine am_in rfl hd (fun d hd => ?_)
  refine am_go 400 [] (am_wpc_cm _ _ _) wf_203 ?_
  refine And.intro (rfl) ?_
  refine And.intro (rfl) ?_
  refine And.intro (rfl) ?_
  refine ct_204 (by omega) hx (wr0.fr fr).a45 (fun h => absurd rfl h) (fun _ k4 h5 h6 h7 mw1 hm hy => ?_) (fun _ h8 mw2 hm hy => ?_)
  · have ek4 := h7
    have bk4 := And.intro h5 h6
    have sg := sg.M hm
    have fg := fg.M hm
    have fr := fr.M hm
    have hx := hy
    refine And.intro (⟨rfl, by first | omega | (simp only [mS_iff, eq_self, Int.reduceEq, true_and, and_true, false_and, and_false, and_self, ↓reduceIte]; omega) | (simp only [mS_iff, eq_self, Int.reduceEq, true_and, and_true, false_and, and_false, and_self, ↓reduceIte] at *; omega)⟩) ?_
    have sg := sg.p (j := 3) (v := k4) (i := 3303) (by omega) (by omega)
    have fg := fg.p (i := 3303) (v := k4)
    have fr := fr.p (i := 3303) (v := k4) (by omega)
    have hx := hx.p42 (i := 3303) (v := k4)
    obtain ⟨mw9, h10⟩ : ∃ z, z = (mS mw1 42 3303 k4) := ⟨_, rfl⟩
    rw [← h10] at hx fr sg fg ⊢
    refine And.intro (rfl) ?_
    refine ct_205 (w := 34) (by omega) hx (by omega) (by decide +kernel) (fun h => absurd rfl h) (fun _ h14 mw11 h12 h13 => ?_) (fun _ h14 mw15 h12 h13 => ?_)
    · have sg := sg.M h12
      have fg := fg.M h12
      have fr := fr.M h12
      have hx := h13
      refine And.intro (rfl) ?_
      refine And.intro (rfl) ?_
      refine And.intro (rfl) ?_
      refine ct_204 (by omega) hx (wr0.fr fr).a45 (fun h => absurd rfl h) (fun _ k19 h20 h21 h22 mw16 hm hy => ?_) (fun _ h23 mw17 hm hy => ?_)
      · have ek19 := h22
        have bk19 := And.intro h20 h21
        have sg := sg.M hm
        have fg := fg.M hm
        have fr := fr.M hm
        have hx := hy
        refine And.intro (⟨rfl, by first | omega | (simp only [mS_iff, eq_self, Int.reduceEq, true_and, and_true, false_and, and_false, and_self, ↓reduceIte]; omega) | (simp only [mS_iff, eq_self, Int.reduceEq, true_and, and_true, false_and, and_false, and_self, ↓reduceIte] at *; omega)⟩) ?_
        have sg := sg.p (j := 4) (v := k19) (i := 3304) (by omega) (by omega)
        have fg := fg.p (i := 3304) (v := k19)
        have fr := fr.p (i := 3304) (v := k19) (by omega)
        have hx := hx.p42 (i := 3304) (v := k19)
        obtain ⟨mw24, h25⟩ : ∃ z, z = (mS mw16 42 3304 k19) := ⟨_, rfl⟩
        rw [← h25] at hx fr sg fg ⊢
        have g := fun j a b => sg j a b
        refine hQ _ _ k4 k19 fr hx fg ?_ (by omega) (by have := g 0 (by omega) (by omega); simpa [p_up] using this) (by have := g 1 (by omega) (by omega); simpa [p_up] using this) (by have := g 2 (by omega) (by omega); simpa [p_up] using this) (by have := g 3 (by omega) (by omega); simpa [p_up] using this) (by have := g 4 (by omega) (by omega); simpa [p_up] using this)
        unfold p_two
        rw [p_bd_r (p_want_y (by omega))]
        rw [p_bd_r (p_want_y (by omega))]
        rw [p_bd_r (p_want_y (by omega))]
        rw [show K q - 0 = k4 by omega, show K (q + 1 + 1) - 0 = k19 by omega]
      · have nk := h23
        have sg := sg.M hm
        have fg := fg.M hm
        have fr := fr.M hm
        have hx := hy
        have nz : x_wr (K ((q + 1) + 1)) ≠ 0 := by unfold x_wr; omega
        refine And.intro (⟨rfl, by first | omega | (simp only [mS_iff, eq_self, Int.reduceEq, true_and, and_true, false_and, and_false, and_self, ↓reduceIte]; omega) | (simp only [mS_iff, eq_self, Int.reduceEq, true_and, and_true, false_and, and_false, and_self, ↓reduceIte] at *; omega)⟩) ?_
        have sg := sg.p (j := 4) (v := (-1)) (i := 3304) (by omega) (by omega)
        have fg := fg.p (i := 3304) (v := (-1))
        have fr := fr.p (i := 3304) (v := (-1)) (by omega)
        have hx := hx.p42 (i := 3304) (v := (-1))
        obtain ⟨mw26, h27⟩ : ∃ z, z = (mS mw17 42 3304 (-1)) := ⟨_, rfl⟩
        rw [← h27] at hx fr sg fg ⊢
        refine hQe _ _ _ _ fr hx fg nz ?_
        unfold p_two
        rw [p_bd_r (p_want_y (by omega))]
        rw [p_bd_r (p_want_y (by omega))]
        exact p_bd_l (p_want_n (fun z => nk (K ((q + 1) + 1)) (by omega) (by omega) rfl))
    · have sg := sg.M h12
      have fg := fg.M h12
      have fr := fr.M h12
      have hx := h13
      have nz : x_wr (K (q + 1)) ≠ 0 := by unfold x_wr; omega
      refine And.intro (rfl) ?_
      refine And.intro (rfl) ?_
      refine And.intro (rfl) ?_
      refine ct_204 (by omega) hx (wr0.fr fr).a45 (fun _ k31 mw30 hm hy => ?_) (fun h => absurd h nz) (fun h => absurd h nz)
      have sg := sg.M hm
      have fg := fg.M hm
      have fr := fr.M hm
      have hx := hy
      refine And.intro (⟨rfl, by first | omega | (simp only [mS_iff, eq_self, Int.reduceEq, true_and, and_true, false_and, and_false, and_self, ↓reduceIte]; omega) | (simp only [mS_iff, eq_self, Int.reduceEq, true_and, and_true, false_and, and_false, and_self, ↓reduceIte] at *; omega)⟩) ?_
      have sg := sg.p (j := 4) (v := k31) (i := 3304) (by omega) (by omega)
      have fg := fg.p (i := 3304) (v := k31)
      have fr := fr.p (i := 3304) (v := k31) (by omega)
      have hx := hx.p42 (i := 3304) (v := k31)
      obtain ⟨mw36, h37⟩ : ∃ z, z = (mS mw30 42 3304 k31) := ⟨_, rfl⟩
      rw [← h37] at hx fr sg fg ⊢
      refine hQe _ _ _ _ fr hx fg nz ?_
      unfold p_two
      rw [p_bd_r (p_want_y (by omega))]
      exact p_bd_l (p_want_n (by omega))
  · have nk := h8
    have sg := sg.M hm
    have fg := fg.M hm
    have fr := fr.M hm
    have hx := hy
    have nz : x_wr (K q) ≠ 0 := by unfold x_wr; omega
    refine And.intro (⟨rfl, by first | omega | (simp only [mS_iff, eq_self, Int.reduceEq, true_and, and_true, false_and, and_false, and_self, ↓reduceIte]; omega) | (simp only [mS_iff, eq_self, Int.reduceEq, true_and, and_true, false_and, and_false, and_self, ↓reduceIte] at *; omega)⟩) ?_
    have sg := sg.p (j := 3) (v := (-1)) (i := 3303) (by omega) (by omega)
    have fg := fg.p (i := 3303) (v := (-1))
    have fr := fr.p (i := 3303) (v := (-1)) (by omega)
    have hx := hx.p42 (i := 3303) (v := (-1))
    obtain ⟨mw38, h39⟩ : ∃ z, z = (mS mw2 42 3303 (-1)) := ⟨_, rfl⟩
    rw [← h39] at hx fr sg fg ⊢
    refine And.intro (rfl) ?_
    refine ct_205 (w := 34) (by omega) hx (by omega) (by decide +kernel) (fun _ mw40 h41 h42 => ?_) (fun h => absurd h nz) (fun h => absurd h nz)
    have sg := sg.M h41
    have fg := fg.M h41
    have fr := fr.M h41
    have hx := h42
    refine And.intro (rfl) ?_
    refine And.intro (rfl) ?_
    refine And.intro (rfl) ?_
    refine ct_204 (by omega) hx (wr0.fr fr).a45 (fun _ k47 mw46 hm hy => ?_) (fun h => absurd h nz) (fun h => absurd h nz)
    have sg := sg.M hm
    have fg := fg.M hm
    have fr := fr.M hm
    have hx := hy
    refine And.intro (⟨rfl, by first | omega | (simp only [mS_iff, eq_self, Int.reduceEq, true_and, and_true, false_and, and_false, and_self, ↓reduceIte]; omega) | (simp only [mS_iff, eq_self, Int.reduceEq, true_and, and_true, false_and, and_false, and_self, ↓reduceIte] at *; omega)⟩) ?_
    have sg := sg.p (j := 4) (v := k47) (i := 3304) (by omega) (by omega)
    have fg := fg.p (i := 3304) (v := k47)
    have fr := fr.p (i := 3304) (v := k47) (by omega)
    have hx := hx.p42 (i := 3304) (v := k47)
    obtain ⟨mw52, h53⟩ : ∃ z, z = (mS mw46 42 3304 k47) := ⟨_, rfl⟩
    rw [← h53] at hx fr sg fg ⊢
    refine hQe _ _ _ _ fr hx fg nz ?_
    unfold p_two
    exact p_bd_l (p_want_n (fun z => nk (K q) (by omega) (by omega) rfl))
