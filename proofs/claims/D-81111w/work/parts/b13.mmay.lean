/-! needs: b12 -/
/-! CONTRACTS: what clauses are made of, reference: frames, begins, deeper, part; by tools/genb13.py -/
set_option maxRecDepth 100000
set_option maxHeartbeats 8000000
/-- parsing a clause: the text's places, nested, counted, the parts behind the told ones change -/
def fr_G (m m' : aM) : Prop := (m 41 53 ≤ m' 41 53 ∧ m' 41 53 ≤ m 41 53 + (m' 41 56 - m 41 56)) ∧ ∀ x j, (x ≠ 41 ∨ ((j < 12 ∨ 18 < j) ∧ j ≠ 53 ∧ j ≠ 55 ∧ j ≠ 56)) → (x < 71 ∨ 74 < x ∨ j < m 41 54 + m 41 53 ∨ m 41 54 + 60 ≤ j) → m' x j = m x j
theorem fr_G.rfl (m : aM) : fr_G m m := ⟨by omega, fun _ _ _ _ => Eq.refl _⟩
theorem fr_G.trans {a b c : aM} (h : fr_G a b) (g : fr_G b c) : fr_G a c := by
  obtain ⟨h1, h2⟩ := h
  obtain ⟨g1, g2⟩ := g
  have e := h2 41 54 (by omega) (by omega)
  exact ⟨by omega, fun x j u v => (g2 x j u (by omega)).trans (h2 x j u v)⟩
theorem fr_G.G {a b c : aM} (h : fr_G a b) (g : fr_G b c) : fr_G a c := h.trans g
theorem fr_M.toG {a b : aM} (h : fr_M a b) : fr_G a b := by
  have e1 := h 41 53 (by omega)
  have e2 := h 41 56 (by omega)
  exact ⟨by omega, fun x j u _ => h x j (by omega)⟩
theorem fr_G.M {a b c : aM} (h : fr_G a b) (g : fr_M b c) : fr_G a c := h.trans g.toG
theorem fr_G.n {m : aM} {v : Int} : fr_G m (mS m 41 55 v) := by
  have e1 : mS m 41 55 v 41 53 = m 41 53 := by rw [mS_iff, if_neg (by omega)]
  have e2 : mS m 41 55 v 41 56 = m 41 56 := by rw [mS_iff, if_neg (by omega)]
  exact ⟨by omega, fun x j u _ => by rw [mS_iff, if_neg (by omega)]⟩
def mW5 (m : aM) : Prop := mWd m ∧ m 50 (-1) = 41 ∧ 10 ≤ m 50 (-2)
theorem mW5.ar {m : aM} (h : mW5 m) : mAr m 50 0 10 (fun k => 55 + k) := ⟨⟨h.2.1, h.2.2⟩, by omega, fun k a b => ⟨h.1.2.2.2.2.2.1 k a b, by dsimp only; omega, by dsimp only; omega⟩, fun k a b => by omega, fun i j _ _ _ _ e => by dsimp only at e; omega⟩
theorem mW5.K {a b : aM} (h : mW5 a) (e : ∀ x, 45 ≤ x → x ≤ 50 → b x = a x) : mW5 b := by
  unfold mW5 mWd at *
  rw [e 45 (by omega) (by omega), e 46 (by omega) (by omega), e 47 (by omega) (by omega), e 48 (by omega) (by omega), e 49 (by omega) (by omega), e 50 (by omega) (by omega)]
  exact h
theorem mW5.M {a b : aM} (h : mW5 a) (g : fr_M a b) : mW5 b := h.K (fun x u v => funext fun j => g x j (by omega))
theorem mW5.G {a b : aM} (h : mW5 a) (g : fr_G a b) : mW5 b := h.K (fun x u v => funext fun j => g.2 x j (by omega) (by omega))
/-- a part was made: v its number -/
def mPt (m m' : aM) (k a o t : Int) : Prop := (∀ x j, (x ≠ 41 ∨ j ≠ 53) → (x < 71 ∨ 74 < x ∨ j ≠ m 41 54 + m 41 53) → m' x j = m x j) ∧ m' 41 53 = m 41 53 + 1 ∧ m' 71 (m 41 54 + m 41 53) = k ∧ m' 74 (m 41 54 + m 41 53) = a ∧ m' 72 (m 41 54 + m 41 53) = o ∧ m' 73 (m 41 54 + m 41 53) = t
theorem mPt.fr {m0 m m' : aM} {k a o t : Int} (h : mPt m m' k a o t) (f : fr_G m0 m) (hb : m 41 53 + 1 ≤ m0 41 53 + (m 41 56 - m0 41 56) ∧ m 41 53 < 60) : fr_G m0 m' := by
  obtain ⟨f1, f2⟩ := f
  have e := f2 41 54 (by omega) (by omega)
  have e6 := h.1 41 56 (by omega) (by omega)
  have e3 := h.2.1
  exact ⟨by omega, fun x j u v => (h.1 x j (by omega) (by omega)).trans (f2 x j u v)⟩
/-- told parts stand -/
def fr_H (m m' : aM) : Prop := (m 41 53 ≤ m' 41 53 ∧ m' 41 54 = m 41 54) ∧ ∀ x j, (71 ≤ x ∧ x ≤ 74) → j < m 41 54 + m 41 53 → m' x j = m x j
theorem fr_H.rfl (m : aM) : fr_H m m := ⟨by omega, fun _ _ _ _ => Eq.refl _⟩
theorem fr_H.G {a b c : aM} (h : fr_H a b) (g : fr_G b c) : fr_H a c := by
  obtain ⟨h1, h2⟩ := h
  obtain ⟨g1, g2⟩ := g
  have e := g2 41 54 (by omega) (by omega)
  exact ⟨by omega, fun x j u v => (g2 x j (by omega) (by omega)).trans (h2 x j u v)⟩
theorem fr_H.M {a b c : aM} (h : fr_H a b) (g : fr_M b c) : fr_H a c := h.G g.toG
theorem fr_H.P {a b c : aM} {k p o t : Int} (h : fr_H a b) (g : mPt b c k p o t) : fr_H a c := by
  obtain ⟨h1, h2⟩ := h
  have e := g.1 41 54 (by omega) (by omega)
  have e3 := g.2.1
  exact ⟨by omega, fun x j u v => (g.1 x j (by omega) (by omega)).trans (h2 x j u v)⟩
theorem mPt.tx {m m' : aM} {k a o t L N q f p : Int} {K A V E : Int → Int} (h : mPt m m' k a o t) (hx : mTx m L K A V E N q f p) : mTx m' L K A V E N q f p := by
  have e43 : m' 43 = m 43 := funext fun j => h.1 43 j (by omega) (by omega)
  have e : ∀ j, j ≠ 53 → m' 41 j = m 41 j := fun j g => h.1 41 j (by omega) (by omega)
  unfold mTx at *
  rw [e43, e 3 (by omega), e 12 (by omega), e 13 (by omega), e 14 (by omega), e 15 (by omega), e 16 (by omega), e 17 (by omega), e 18 (by omega)]
  exact hx
theorem mTx.R {m : aM} {L N q p : Int} {K A V E : Int → Int} (hx : mTx m L K A V E N q 0 p) : x_R (K q) (V q) (m 41 13) (m 41 15) := (hx.2.2.2.2.2.2.1 (Eq.refl _)).2.2.1
theorem mTx.w {m : aM} {L N q p : Int} {K A V E : Int → Int} (hx : mTx m L K A V E N q 0 p) {w v : Int} (hw : 0 ≤ w ∧ w < 67) (hv : s_cd w = v) : K q = w ↔ (m 41 13 = 1 ∧ m 41 15 = v) := hv ▸ hx.R.2.2.2.2.1 w hw.1 hw.2
theorem mTx.g {m : aM} {L N q p : Int} {K A V E : Int → Int} (hx : mTx m L K A V E N q 0 p) {c : Int} (hc : x_sg c) : K q = 100 + c ↔ (m 41 13 = 3 ∧ m 41 15 = c) := hx.R.2.2.2.2.2.1 c hc
theorem ct_285_0 {d : Nat} {m : aM} {Q : aO → aM → Prop} {L N q f p : Int} {K A V E : Int → Int} (hd : 2 ≤ d) (hx : mTx m L K A V E N q f p) (w5 : mW5 m) (hQf : f ≠ 0 → Q (.inl (some (aI 0))) m) (hQ1 : f = 0 → (c_beg (K q) ∧ ((0 : Int) = 1 → K q ≠ 51)) → Q (.inl (some (aI 1))) m) (hQ0 : f = 0 → ¬ (c_beg (K q) ∧ ((0 : Int) = 1 → K q ≠ 51)) → Q (.inl (some (aI 0))) m) : am_wpc am_G am_T d 285 [aR 41, aI 1] m Q := by
  by_cases f0 : f = 0
  · subst f0
    have r1 := hx.w (w := 52) (by omega) (show s_cd 52 = 3369766 by decide +kernel)
    have r2 := hx.w (w := 53) (by omega) (show s_cd 53 = 173214550 by decide +kernel)
    have r3 := hx.w (w := 54) (by omega) (show s_cd 54 = 27966616219 by decide +kernel)
    have r4 := hx.w (w := 65) (by omega) (show s_cd 65 = 15091 by decide +kernel)
    have r5 := hx.w (w := 51) (by omega) (show s_cd 51 = 10631 by decide +kernel)
    have r6 := hx.g (c := 40) (by unfold x_sg; omega)
    have r7 := hx.g (c := 45) (by unfold x_sg; omega)
    have r8 := hx.k2
    have r9 := hx.kw
    have ra : 0 ≤ K q → K q < 67 → m 41 13 = 1 := hx.kk
    have hw := (hx.2.2.2.2.2.2.1 rfl).1
    refine am_in rfl hd (fun d hd => ?_)
    refine am_go 400 [] (am_wpc_cm _ _ _) wf_285 ?_
    refine And.intro (rfl) ?_
    refine And.intro (fun h1 => ?_) (fun h1 => ?_)
    · refine And.intro (rfl) ?_
      refine And.intro (fun h => absurd h (by omega)) (fun _ => ?_)
      refine And.intro (rfl) ?_
      refine And.intro (fun h2 => ?_) (fun h2 => ?_)
      · refine And.intro (by first | omega | (simp only [mS_iff, eq_self, Int.reduceEq, true_and, and_true, false_and, and_false, and_self, ↓reduceIte]; omega) | (simp only [mS_iff, eq_self, Int.reduceEq, true_and, and_true, false_and, and_false, and_self, ↓reduceIte] at *; omega)) ?_
        exact hQ1 rfl (by unfold c_beg; omega)
      · refine And.intro (rfl) ?_
        refine And.intro (fun h3 => ?_) (fun h3 => ?_)
        · refine And.intro (fun _ => ?_) (fun h => absurd h (by decide))
          refine And.intro (by first | omega | (simp only [mS_iff, eq_self, Int.reduceEq, true_and, and_true, false_and, and_false, and_self, ↓reduceIte]; omega) | (simp only [mS_iff, eq_self, Int.reduceEq, true_and, and_true, false_and, and_false, and_self, ↓reduceIte] at *; omega)) ?_
          exact hQ0 rfl (by unfold c_beg; omega)
        · refine And.intro (rfl) ?_
          refine And.intro (fun h4 => ?_) (fun h4 => ?_)
          · replace h4 := am_lc_eq.mp h4
            refine And.intro (by first | omega | (simp only [mS_iff, eq_self, Int.reduceEq, true_and, and_true, false_and, and_false, and_self, ↓reduceIte]; omega) | (simp only [mS_iff, eq_self, Int.reduceEq, true_and, and_true, false_and, and_false, and_self, ↓reduceIte] at *; omega)) ?_
            exact hQ1 rfl (by unfold c_beg; omega)
          · replace h4 := am_lc_ne.mp h4
            refine And.intro (rfl) ?_
            refine And.intro (fun h5 => ?_) (fun h5 => ?_)
            · replace h5 := am_lc_eq.mp h5
              refine And.intro (by first | omega | (simp only [mS_iff, eq_self, Int.reduceEq, true_and, and_true, false_and, and_false, and_self, ↓reduceIte]; omega) | (simp only [mS_iff, eq_self, Int.reduceEq, true_and, and_true, false_and, and_false, and_self, ↓reduceIte] at *; omega)) ?_
              exact hQ1 rfl (by unfold c_beg; omega)
            · replace h5 := am_lc_ne.mp h5
              refine And.intro (fun _ => ?_) (fun h => absurd h (by decide))
              refine And.intro (by first | omega | (simp only [mS_iff, eq_self, Int.reduceEq, true_and, and_true, false_and, and_false, and_self, ↓reduceIte]; omega) | (simp only [mS_iff, eq_self, Int.reduceEq, true_and, and_true, false_and, and_false, and_self, ↓reduceIte] at *; omega)) ?_
              exact hQ0 rfl (by unfold c_beg; omega)
    · refine And.intro (rfl) ?_
      refine And.intro (fun h6 => ?_) (fun h6 => ?_)
      · replace h6 := am_lc_eq.mp h6
        refine And.intro (rfl) ?_
        refine And.intro (fun h => absurd h (by omega)) (fun _ => ?_)
        refine And.intro (rfl) ?_
        refine And.intro (fun h7 => ?_) (fun h7 => ?_)
        · refine And.intro (by first | omega | (simp only [mS_iff, eq_self, Int.reduceEq, true_and, and_true, false_and, and_false, and_self, ↓reduceIte]; omega) | (simp only [mS_iff, eq_self, Int.reduceEq, true_and, and_true, false_and, and_false, and_self, ↓reduceIte] at *; omega)) ?_
          exact hQ1 rfl (by unfold c_beg; omega)
        · refine And.intro (rfl) ?_
          refine And.intro (fun h8 => ?_) (fun h8 => ?_)
          · refine And.intro (fun h => absurd h (by decide)) (fun _ => ?_)
            refine And.intro (by first | omega | (simp only [mS_iff, eq_self, Int.reduceEq, true_and, and_true, false_and, and_false, and_self, ↓reduceIte]; omega) | (simp only [mS_iff, eq_self, Int.reduceEq, true_and, and_true, false_and, and_false, and_self, ↓reduceIte] at *; omega)) ?_
            exact hQ1 rfl (by unfold c_beg; omega)
          · refine And.intro (rfl) ?_
            refine And.intro (fun h9 => ?_) (fun h9 => ?_)
            · replace h9 := am_lc_eq.mp h9
              refine And.intro (by first | omega | (simp only [mS_iff, eq_self, Int.reduceEq, true_and, and_true, false_and, and_false, and_self, ↓reduceIte]; omega) | (simp only [mS_iff, eq_self, Int.reduceEq, true_and, and_true, false_and, and_false, and_self, ↓reduceIte] at *; omega)) ?_
              exact hQ1 rfl (by unfold c_beg; omega)
            · replace h9 := am_lc_ne.mp h9
              refine And.intro (rfl) ?_
              refine And.intro (fun h10 => ?_) (fun h10 => ?_)
              · replace h10 := am_lc_eq.mp h10
                refine And.intro (by first | omega | (simp only [mS_iff, eq_self, Int.reduceEq, true_and, and_true, false_and, and_false, and_self, ↓reduceIte]; omega) | (simp only [mS_iff, eq_self, Int.reduceEq, true_and, and_true, false_and, and_false, and_self, ↓reduceIte] at *; omega)) ?_
                exact hQ1 rfl (by unfold c_beg; omega)
              · replace h10 := am_lc_ne.mp h10
                refine And.intro (fun h => absurd h (by decide)) (fun _ => ?_)
                refine And.intro (by first | omega | (simp only [mS_iff, eq_self, Int.reduceEq, true_and, and_true, false_and, and_false, and_self, ↓reduceIte]; omega) | (simp only [mS_iff, eq_self, Int.reduceEq, true_and, and_true, false_and, and_false, and_self, ↓reduceIte] at *; omega)) ?_
                exact hQ1 rfl (by unfold c_beg; omega)
      · replace h6 := am_lc_ne.mp h6
        refine And.intro (rfl) ?_
        refine And.intro (fun h11 => ?_) (fun h11 => ?_)
        · replace h11 := am_lc_eq.mp h11
          refine And.intro (rfl) ?_
          refine And.intro (fun h => absurd h (by omega)) (fun _ => ?_)
          refine And.intro (rfl) ?_
          refine And.intro (fun h12 => ?_) (fun h12 => ?_)
          · refine And.intro (by first | omega | (simp only [mS_iff, eq_self, Int.reduceEq, true_and, and_true, false_and, and_false, and_self, ↓reduceIte]; omega) | (simp only [mS_iff, eq_self, Int.reduceEq, true_and, and_true, false_and, and_false, and_self, ↓reduceIte] at *; omega)) ?_
            exact hQ1 rfl (by unfold c_beg; omega)
          · refine And.intro (rfl) ?_
            refine And.intro (fun h13 => ?_) (fun h13 => ?_)
            · refine And.intro (fun h => absurd h (by decide)) (fun _ => ?_)
              refine And.intro (by first | omega | (simp only [mS_iff, eq_self, Int.reduceEq, true_and, and_true, false_and, and_false, and_self, ↓reduceIte]; omega) | (simp only [mS_iff, eq_self, Int.reduceEq, true_and, and_true, false_and, and_false, and_self, ↓reduceIte] at *; omega)) ?_
              exact hQ1 rfl (by unfold c_beg; omega)
            · refine And.intro (rfl) ?_
              refine And.intro (fun h14 => ?_) (fun h14 => ?_)
              · replace h14 := am_lc_eq.mp h14
                refine And.intro (by first | omega | (simp only [mS_iff, eq_self, Int.reduceEq, true_and, and_true, false_and, and_false, and_self, ↓reduceIte]; omega) | (simp only [mS_iff, eq_self, Int.reduceEq, true_and, and_true, false_and, and_false, and_self, ↓reduceIte] at *; omega)) ?_
                exact hQ1 rfl (by unfold c_beg; omega)
              · replace h14 := am_lc_ne.mp h14
                refine And.intro (rfl) ?_
                refine And.intro (fun h15 => ?_) (fun h15 => ?_)
                · replace h15 := am_lc_eq.mp h15
                  refine And.intro (by first | omega | (simp only [mS_iff, eq_self, Int.reduceEq, true_and, and_true, false_and, and_false, and_self, ↓reduceIte]; omega) | (simp only [mS_iff, eq_self, Int.reduceEq, true_and, and_true, false_and, and_false, and_self, ↓reduceIte] at *; omega)) ?_
                  exact hQ1 rfl (by unfold c_beg; omega)
                · replace h15 := am_lc_ne.mp h15
                  refine And.intro (fun h => absurd h (by decide)) (fun _ => ?_)
                  refine And.intro (by first | omega | (simp only [mS_iff, eq_self, Int.reduceEq, true_and, and_true, false_and, and_false, and_self, ↓reduceIte]; omega) | (simp only [mS_iff, eq_self, Int.reduceEq, true_and, and_true, false_and, and_false, and_self, ↓reduceIte] at *; omega)) ?_
                  exact hQ1 rfl (by unfold c_beg; omega)
        · replace h11 := am_lc_ne.mp h11
          refine And.intro (rfl) ?_
          refine And.intro (fun h16 => ?_) (fun h16 => ?_)
          · replace h16 := am_lc_eq.mp h16
            refine And.intro (rfl) ?_
            refine And.intro (fun h => absurd h (by omega)) (fun _ => ?_)
            refine And.intro (rfl) ?_
            refine And.intro (fun h17 => ?_) (fun h17 => ?_)
            · refine And.intro (by first | omega | (simp only [mS_iff, eq_self, Int.reduceEq, true_and, and_true, false_and, and_false, and_self, ↓reduceIte]; omega) | (simp only [mS_iff, eq_self, Int.reduceEq, true_and, and_true, false_and, and_false, and_self, ↓reduceIte] at *; omega)) ?_
              exact hQ1 rfl (by unfold c_beg; omega)
            · refine And.intro (rfl) ?_
              refine And.intro (fun h18 => ?_) (fun h18 => ?_)
              · refine And.intro (fun h => absurd h (by decide)) (fun _ => ?_)
                refine And.intro (by first | omega | (simp only [mS_iff, eq_self, Int.reduceEq, true_and, and_true, false_and, and_false, and_self, ↓reduceIte]; omega) | (simp only [mS_iff, eq_self, Int.reduceEq, true_and, and_true, false_and, and_false, and_self, ↓reduceIte] at *; omega)) ?_
                exact hQ1 rfl (by unfold c_beg; omega)
              · refine And.intro (rfl) ?_
                refine And.intro (fun h19 => ?_) (fun h19 => ?_)
                · replace h19 := am_lc_eq.mp h19
                  refine And.intro (by first | omega | (simp only [mS_iff, eq_self, Int.reduceEq, true_and, and_true, false_and, and_false, and_self, ↓reduceIte]; omega) | (simp only [mS_iff, eq_self, Int.reduceEq, true_and, and_true, false_and, and_false, and_self, ↓reduceIte] at *; omega)) ?_
                  exact hQ1 rfl (by unfold c_beg; omega)
                · replace h19 := am_lc_ne.mp h19
                  refine And.intro (rfl) ?_
                  refine And.intro (fun h20 => ?_) (fun h20 => ?_)
                  · replace h20 := am_lc_eq.mp h20
                    refine And.intro (by first | omega | (simp only [mS_iff, eq_self, Int.reduceEq, true_and, and_true, false_and, and_false, and_self, ↓reduceIte]; omega) | (simp only [mS_iff, eq_self, Int.reduceEq, true_and, and_true, false_and, and_false, and_self, ↓reduceIte] at *; omega)) ?_
                    exact hQ1 rfl (by unfold c_beg; omega)
                  · replace h20 := am_lc_ne.mp h20
                    refine And.intro (fun h => absurd h (by decide)) (fun _ => ?_)
                    refine And.intro (by first | omega | (simp only [mS_iff, eq_self, Int.reduceEq, true_and, and_true, false_and, and_false, and_self, ↓reduceIte]; omega) | (simp only [mS_iff, eq_self, Int.reduceEq, true_and, and_true, false_and, and_false, and_self, ↓reduceIte] at *; omega)) ?_
                    exact hQ1 rfl (by unfold c_beg; omega)
          · replace h16 := am_lc_ne.mp h16
            refine And.intro (rfl) ?_
            refine And.intro (fun h21 => ?_) (fun h21 => ?_)
            · replace h21 := am_lc_eq.mp h21
              refine And.intro (rfl) ?_
              refine And.intro (fun h => absurd h (by omega)) (fun _ => ?_)
              refine And.intro (rfl) ?_
              refine And.intro (fun h22 => ?_) (fun h22 => ?_)
              · refine And.intro (by first | omega | (simp only [mS_iff, eq_self, Int.reduceEq, true_and, and_true, false_and, and_false, and_self, ↓reduceIte]; omega) | (simp only [mS_iff, eq_self, Int.reduceEq, true_and, and_true, false_and, and_false, and_self, ↓reduceIte] at *; omega)) ?_
                exact hQ1 rfl (by unfold c_beg; omega)
              · refine And.intro (rfl) ?_
                refine And.intro (fun h23 => ?_) (fun h23 => ?_)
                · refine And.intro (fun h => absurd h (by decide)) (fun _ => ?_)
                  refine And.intro (by first | omega | (simp only [mS_iff, eq_self, Int.reduceEq, true_and, and_true, false_and, and_false, and_self, ↓reduceIte]; omega) | (simp only [mS_iff, eq_self, Int.reduceEq, true_and, and_true, false_and, and_false, and_self, ↓reduceIte] at *; omega)) ?_
                  exact hQ1 rfl (by unfold c_beg; omega)
                · refine And.intro (rfl) ?_
                  refine And.intro (fun h24 => ?_) (fun h24 => ?_)
                  · replace h24 := am_lc_eq.mp h24
                    refine And.intro (by first | omega | (simp only [mS_iff, eq_self, Int.reduceEq, true_and, and_true, false_and, and_false, and_self, ↓reduceIte]; omega) | (simp only [mS_iff, eq_self, Int.reduceEq, true_and, and_true, false_and, and_false, and_self, ↓reduceIte] at *; omega)) ?_
                    exact hQ1 rfl (by unfold c_beg; omega)
                  · replace h24 := am_lc_ne.mp h24
                    refine And.intro (rfl) ?_
                    refine And.intro (fun h25 => ?_) (fun h25 => ?_)
                    · replace h25 := am_lc_eq.mp h25
                      refine And.intro (by first | omega | (simp only [mS_iff, eq_self, Int.reduceEq, true_and, and_true, false_and, and_false, and_self, ↓reduceIte]; omega) | (simp only [mS_iff, eq_self, Int.reduceEq, true_and, and_true, false_and, and_false, and_self, ↓reduceIte] at *; omega)) ?_
                      exact hQ1 rfl (by unfold c_beg; omega)
                    · replace h25 := am_lc_ne.mp h25
                      refine And.intro (fun h => absurd h (by decide)) (fun _ => ?_)
                      refine And.intro (by first | omega | (simp only [mS_iff, eq_self, Int.reduceEq, true_and, and_true, false_and, and_false, and_self, ↓reduceIte]; omega) | (simp only [mS_iff, eq_self, Int.reduceEq, true_and, and_true, false_and, and_false, and_self, ↓reduceIte] at *; omega)) ?_
                      exact hQ1 rfl (by unfold c_beg; omega)
            · replace h21 := am_lc_ne.mp h21
              refine And.intro (rfl) ?_
              refine And.intro (rfl) ?_
              refine ct_200 (by omega) ⟨w5.2.1, w5.2.2⟩ (by omega) (fun k26 h27 h28 h29 h30 => ?_) (fun h27 => ?_)
              · have ek := hx.ky w5.ar (by first | omega | (have := hx.R; omega)) h27 h28 h29 h30
                have ek1 : K q = 55 + k26 := ek.1
                refine And.intro (fun h31 => ?_) (fun h31 => ?_)
                · refine And.intro (rfl) ?_
                  refine And.intro (fun h => absurd h (by omega)) (fun _ => ?_)
                  refine And.intro (rfl) ?_
                  refine And.intro (fun h32 => ?_) (fun h32 => ?_)
                  · refine And.intro (by first | omega | (simp only [mS_iff, eq_self, Int.reduceEq, true_and, and_true, false_and, and_false, and_self, ↓reduceIte]; omega) | (simp only [mS_iff, eq_self, Int.reduceEq, true_and, and_true, false_and, and_false, and_self, ↓reduceIte] at *; omega)) ?_
                    exact hQ1 rfl (by unfold c_beg; omega)
                  · refine And.intro (rfl) ?_
                    refine And.intro (fun h33 => ?_) (fun h33 => ?_)
                    · refine And.intro (fun h => absurd h (by decide)) (fun _ => ?_)
                      refine And.intro (by first | omega | (simp only [mS_iff, eq_self, Int.reduceEq, true_and, and_true, false_and, and_false, and_self, ↓reduceIte]; omega) | (simp only [mS_iff, eq_self, Int.reduceEq, true_and, and_true, false_and, and_false, and_self, ↓reduceIte] at *; omega)) ?_
                      exact hQ1 rfl (by unfold c_beg; omega)
                    · refine And.intro (rfl) ?_
                      refine And.intro (fun h34 => ?_) (fun h34 => ?_)
                      · replace h34 := am_lc_eq.mp h34
                        refine And.intro (by first | omega | (simp only [mS_iff, eq_self, Int.reduceEq, true_and, and_true, false_and, and_false, and_self, ↓reduceIte]; omega) | (simp only [mS_iff, eq_self, Int.reduceEq, true_and, and_true, false_and, and_false, and_self, ↓reduceIte] at *; omega)) ?_
                        exact hQ1 rfl (by unfold c_beg; omega)
                      · replace h34 := am_lc_ne.mp h34
                        refine And.intro (rfl) ?_
                        refine And.intro (fun h35 => ?_) (fun h35 => ?_)
                        · replace h35 := am_lc_eq.mp h35
                          refine And.intro (by first | omega | (simp only [mS_iff, eq_self, Int.reduceEq, true_and, and_true, false_and, and_false, and_self, ↓reduceIte]; omega) | (simp only [mS_iff, eq_self, Int.reduceEq, true_and, and_true, false_and, and_false, and_self, ↓reduceIte] at *; omega)) ?_
                          exact hQ1 rfl (by unfold c_beg; omega)
                        · replace h35 := am_lc_ne.mp h35
                          refine And.intro (fun h => absurd h (by decide)) (fun _ => ?_)
                          refine And.intro (by first | omega | (simp only [mS_iff, eq_self, Int.reduceEq, true_and, and_true, false_and, and_false, and_self, ↓reduceIte]; omega) | (simp only [mS_iff, eq_self, Int.reduceEq, true_and, and_true, false_and, and_false, and_self, ↓reduceIte] at *; omega)) ?_
                          exact hQ1 rfl (by unfold c_beg; omega)
                · refine And.intro (fun h => absurd h (by decide)) (fun _ => ?_)
                  refine And.intro (rfl) ?_
                  refine And.intro (fun h36 => ?_) (fun h36 => ?_)
                  · replace h36 := am_lc_ne.mp h36
                    refine And.intro (rfl) ?_
                    refine And.intro (fun h => absurd h (by omega)) (fun _ => ?_)
                    refine And.intro (rfl) ?_
                    refine And.intro (fun h37 => ?_) (fun h37 => ?_)
                    · refine And.intro (by first | omega | (simp only [mS_iff, eq_self, Int.reduceEq, true_and, and_true, false_and, and_false, and_self, ↓reduceIte]; omega) | (simp only [mS_iff, eq_self, Int.reduceEq, true_and, and_true, false_and, and_false, and_self, ↓reduceIte] at *; omega)) ?_
                      exact hQ1 rfl (by unfold c_beg; omega)
                    · refine And.intro (rfl) ?_
                      refine And.intro (fun h38 => ?_) (fun h38 => ?_)
                      · refine And.intro (fun _ => ?_) (fun h => absurd h (by decide))
                        refine And.intro (by first | omega | (simp only [mS_iff, eq_self, Int.reduceEq, true_and, and_true, false_and, and_false, and_self, ↓reduceIte]; omega) | (simp only [mS_iff, eq_self, Int.reduceEq, true_and, and_true, false_and, and_false, and_self, ↓reduceIte] at *; omega)) ?_
                        exact hQ0 rfl (by unfold c_beg; omega)
                      · refine And.intro (rfl) ?_
                        refine And.intro (fun h39 => ?_) (fun h39 => ?_)
                        · replace h39 := am_lc_eq.mp h39
                          refine And.intro (by first | omega | (simp only [mS_iff, eq_self, Int.reduceEq, true_and, and_true, false_and, and_false, and_self, ↓reduceIte]; omega) | (simp only [mS_iff, eq_self, Int.reduceEq, true_and, and_true, false_and, and_false, and_self, ↓reduceIte] at *; omega)) ?_
                          exact hQ1 rfl (by unfold c_beg; omega)
                        · replace h39 := am_lc_ne.mp h39
                          refine And.intro (rfl) ?_
                          refine And.intro (fun h40 => ?_) (fun h40 => ?_)
                          · replace h40 := am_lc_eq.mp h40
                            refine And.intro (by first | omega | (simp only [mS_iff, eq_self, Int.reduceEq, true_and, and_true, false_and, and_false, and_self, ↓reduceIte]; omega) | (simp only [mS_iff, eq_self, Int.reduceEq, true_and, and_true, false_and, and_false, and_self, ↓reduceIte] at *; omega)) ?_
                            exact hQ1 rfl (by unfold c_beg; omega)
                          · replace h40 := am_lc_ne.mp h40
                            refine And.intro (fun _ => ?_) (fun h => absurd h (by decide))
                            refine And.intro (by first | omega | (simp only [mS_iff, eq_self, Int.reduceEq, true_and, and_true, false_and, and_false, and_self, ↓reduceIte]; omega) | (simp only [mS_iff, eq_self, Int.reduceEq, true_and, and_true, false_and, and_false, and_self, ↓reduceIte] at *; omega)) ?_
                            exact hQ0 rfl (by unfold c_beg; omega)
                  · replace h36 := am_lc_eq.mp h36
                    refine And.intro (rfl) ?_
                    refine And.intro (fun h => absurd h (by omega)) (fun _ => ?_)
                    refine And.intro (rfl) ?_
                    refine And.intro (fun h41 => ?_) (fun h41 => ?_)
                    · refine And.intro (by first | omega | (simp only [mS_iff, eq_self, Int.reduceEq, true_and, and_true, false_and, and_false, and_self, ↓reduceIte]; omega) | (simp only [mS_iff, eq_self, Int.reduceEq, true_and, and_true, false_and, and_false, and_self, ↓reduceIte] at *; omega)) ?_
                      exact hQ1 rfl (by unfold c_beg; omega)
                    · refine And.intro (rfl) ?_
                      refine And.intro (fun h42 => ?_) (fun h42 => ?_)
                      · refine And.intro (fun h => absurd h (by decide)) (fun _ => ?_)
                        refine And.intro (by first | omega | (simp only [mS_iff, eq_self, Int.reduceEq, true_and, and_true, false_and, and_false, and_self, ↓reduceIte]; omega) | (simp only [mS_iff, eq_self, Int.reduceEq, true_and, and_true, false_and, and_false, and_self, ↓reduceIte] at *; omega)) ?_
                        exact hQ1 rfl (by unfold c_beg; omega)
                      · refine And.intro (rfl) ?_
                        refine And.intro (fun h43 => ?_) (fun h43 => ?_)
                        · replace h43 := am_lc_eq.mp h43
                          refine And.intro (by first | omega | (simp only [mS_iff, eq_self, Int.reduceEq, true_and, and_true, false_and, and_false, and_self, ↓reduceIte]; omega) | (simp only [mS_iff, eq_self, Int.reduceEq, true_and, and_true, false_and, and_false, and_self, ↓reduceIte] at *; omega)) ?_
                          exact hQ1 rfl (by unfold c_beg; omega)
                        · replace h43 := am_lc_ne.mp h43
                          refine And.intro (rfl) ?_
                          refine And.intro (fun h44 => ?_) (fun h44 => ?_)
                          · replace h44 := am_lc_eq.mp h44
                            refine And.intro (by first | omega | (simp only [mS_iff, eq_self, Int.reduceEq, true_and, and_true, false_and, and_false, and_self, ↓reduceIte]; omega) | (simp only [mS_iff, eq_self, Int.reduceEq, true_and, and_true, false_and, and_false, and_self, ↓reduceIte] at *; omega)) ?_
                            exact hQ1 rfl (by unfold c_beg; omega)
                          · replace h44 := am_lc_ne.mp h44
                            refine And.intro (fun h => absurd h (by decide)) (fun _ => ?_)
                            refine And.intro (by first | omega | (simp only [mS_iff, eq_self, Int.reduceEq, true_and, and_true, false_and, and_false, and_self, ↓reduceIte]; omega) | (simp only [mS_iff, eq_self, Int.reduceEq, true_and, and_true, false_and, and_false, and_self, ↓reduceIte] at *; omega)) ?_
                            exact hQ1 rfl (by unfold c_beg; omega)
              · have nk := hx.kn w5.ar h27 (K q - 55)
                refine And.intro (fun h => absurd h (by decide)) (fun _ => ?_)
                refine And.intro (fun h => absurd h (by decide)) (fun _ => ?_)
                refine And.intro (rfl) ?_
                refine And.intro (fun h45 => ?_) (fun h45 => ?_)
                · replace h45 := am_lc_ne.mp h45
                  refine And.intro (rfl) ?_
                  refine And.intro (fun h => absurd h (by omega)) (fun _ => ?_)
                  refine And.intro (rfl) ?_
                  refine And.intro (fun h46 => ?_) (fun h46 => ?_)
                  · refine And.intro (by first | omega | (simp only [mS_iff, eq_self, Int.reduceEq, true_and, and_true, false_and, and_false, and_self, ↓reduceIte]; omega) | (simp only [mS_iff, eq_self, Int.reduceEq, true_and, and_true, false_and, and_false, and_self, ↓reduceIte] at *; omega)) ?_
                    exact hQ1 rfl (by unfold c_beg; omega)
                  · refine And.intro (rfl) ?_
                    refine And.intro (fun h47 => ?_) (fun h47 => ?_)
                    · refine And.intro (fun _ => ?_) (fun h => absurd h (by decide))
                      refine And.intro (by first | omega | (simp only [mS_iff, eq_self, Int.reduceEq, true_and, and_true, false_and, and_false, and_self, ↓reduceIte]; omega) | (simp only [mS_iff, eq_self, Int.reduceEq, true_and, and_true, false_and, and_false, and_self, ↓reduceIte] at *; omega)) ?_
                      exact hQ0 rfl (by unfold c_beg; omega)
                    · refine And.intro (rfl) ?_
                      refine And.intro (fun h48 => ?_) (fun h48 => ?_)
                      · replace h48 := am_lc_eq.mp h48
                        refine And.intro (by first | omega | (simp only [mS_iff, eq_self, Int.reduceEq, true_and, and_true, false_and, and_false, and_self, ↓reduceIte]; omega) | (simp only [mS_iff, eq_self, Int.reduceEq, true_and, and_true, false_and, and_false, and_self, ↓reduceIte] at *; omega)) ?_
                        exact hQ1 rfl (by unfold c_beg; omega)
                      · replace h48 := am_lc_ne.mp h48
                        refine And.intro (rfl) ?_
                        refine And.intro (fun h49 => ?_) (fun h49 => ?_)
                        · replace h49 := am_lc_eq.mp h49
                          refine And.intro (by first | omega | (simp only [mS_iff, eq_self, Int.reduceEq, true_and, and_true, false_and, and_false, and_self, ↓reduceIte]; omega) | (simp only [mS_iff, eq_self, Int.reduceEq, true_and, and_true, false_and, and_false, and_self, ↓reduceIte] at *; omega)) ?_
                          exact hQ1 rfl (by unfold c_beg; omega)
                        · replace h49 := am_lc_ne.mp h49
                          refine And.intro (fun _ => ?_) (fun h => absurd h (by decide))
                          refine And.intro (by first | omega | (simp only [mS_iff, eq_self, Int.reduceEq, true_and, and_true, false_and, and_false, and_self, ↓reduceIte]; omega) | (simp only [mS_iff, eq_self, Int.reduceEq, true_and, and_true, false_and, and_false, and_self, ↓reduceIte] at *; omega)) ?_
                          exact hQ0 rfl (by unfold c_beg; omega)
                · replace h45 := am_lc_eq.mp h45
                  refine And.intro (rfl) ?_
                  refine And.intro (fun h => absurd h (by omega)) (fun _ => ?_)
                  refine And.intro (rfl) ?_
                  refine And.intro (fun h50 => ?_) (fun h50 => ?_)
                  · refine And.intro (by first | omega | (simp only [mS_iff, eq_self, Int.reduceEq, true_and, and_true, false_and, and_false, and_self, ↓reduceIte]; omega) | (simp only [mS_iff, eq_self, Int.reduceEq, true_and, and_true, false_and, and_false, and_self, ↓reduceIte] at *; omega)) ?_
                    exact hQ1 rfl (by unfold c_beg; omega)
                  · refine And.intro (rfl) ?_
                    refine And.intro (fun h51 => ?_) (fun h51 => ?_)
                    · refine And.intro (fun h => absurd h (by decide)) (fun _ => ?_)
                      refine And.intro (by first | omega | (simp only [mS_iff, eq_self, Int.reduceEq, true_and, and_true, false_and, and_false, and_self, ↓reduceIte]; omega) | (simp only [mS_iff, eq_self, Int.reduceEq, true_and, and_true, false_and, and_false, and_self, ↓reduceIte] at *; omega)) ?_
                      exact hQ1 rfl (by unfold c_beg; omega)
                    · refine And.intro (rfl) ?_
                      refine And.intro (fun h52 => ?_) (fun h52 => ?_)
                      · replace h52 := am_lc_eq.mp h52
                        refine And.intro (by first | omega | (simp only [mS_iff, eq_self, Int.reduceEq, true_and, and_true, false_and, and_false, and_self, ↓reduceIte]; omega) | (simp only [mS_iff, eq_self, Int.reduceEq, true_and, and_true, false_and, and_false, and_self, ↓reduceIte] at *; omega)) ?_
                        exact hQ1 rfl (by unfold c_beg; omega)
                      · replace h52 := am_lc_ne.mp h52
                        refine And.intro (rfl) ?_
                        refine And.intro (fun h53 => ?_) (fun h53 => ?_)
                        · replace h53 := am_lc_eq.mp h53
                          refine And.intro (by first | omega | (simp only [mS_iff, eq_self, Int.reduceEq, true_and, and_true, false_and, and_false, and_self, ↓reduceIte]; omega) | (simp only [mS_iff, eq_self, Int.reduceEq, true_and, and_true, false_and, and_false, and_self, ↓reduceIte] at *; omega)) ?_
                          exact hQ1 rfl (by unfold c_beg; omega)
                        · replace h53 := am_lc_ne.mp h53
                          refine And.intro (fun h => absurd h (by decide)) (fun _ => ?_)
                          refine And.intro (by first | omega | (simp only [mS_iff, eq_self, Int.reduceEq, true_and, and_true, false_and, and_false, and_self, ↓reduceIte]; omega) | (simp only [mS_iff, eq_self, Int.reduceEq, true_and, and_true, false_and, and_false, and_self, ↓reduceIte] at *; omega)) ?_
                          exact hQ1 rfl (by unfold c_beg; omega)
  · have hw := (hx.2.2.2.2.2.2.2 f0).1
    refine am_in rfl hd (fun d hd => ?_)
    refine am_go 400 [] (am_wpc_cm _ _ _) wf_285 ?_
    refine And.intro (rfl) ?_
    refine And.intro (fun h1 => ?_) (fun h1 => ?_)
    · refine And.intro (rfl) ?_
      refine And.intro (fun _ => ?_) (fun h => absurd h (by omega))
      refine And.intro (by first | omega | (simp only [mS_iff, eq_self, Int.reduceEq, true_and, and_true, false_and, and_false, and_self, ↓reduceIte]; omega) | (simp only [mS_iff, eq_self, Int.reduceEq, true_and, and_true, false_and, and_false, and_self, ↓reduceIte] at *; omega)) ?_
      exact hQf f0
    · refine And.intro (rfl) ?_
      refine And.intro (fun h2 => ?_) (fun h2 => ?_)
      · replace h2 := am_lc_eq.mp h2
        refine And.intro (rfl) ?_
        refine And.intro (fun _ => ?_) (fun h => absurd h (by omega))
        refine And.intro (by first | omega | (simp only [mS_iff, eq_self, Int.reduceEq, true_and, and_true, false_and, and_false, and_self, ↓reduceIte]; omega) | (simp only [mS_iff, eq_self, Int.reduceEq, true_and, and_true, false_and, and_false, and_self, ↓reduceIte] at *; omega)) ?_
        exact hQf f0
      · replace h2 := am_lc_ne.mp h2
        refine And.intro (rfl) ?_
        refine And.intro (fun h3 => ?_) (fun h3 => ?_)
        · replace h3 := am_lc_eq.mp h3
          refine And.intro (rfl) ?_
          refine And.intro (fun _ => ?_) (fun h => absurd h (by omega))
          refine And.intro (by first | omega | (simp only [mS_iff, eq_self, Int.reduceEq, true_and, and_true, false_and, and_false, and_self, ↓reduceIte]; omega) | (simp only [mS_iff, eq_self, Int.reduceEq, true_and, and_true, false_and, and_false, and_self, ↓reduceIte] at *; omega)) ?_
          exact hQf f0
        · replace h3 := am_lc_ne.mp h3
          refine And.intro (rfl) ?_
          refine And.intro (fun h4 => ?_) (fun h4 => ?_)
          · replace h4 := am_lc_eq.mp h4
            refine And.intro (rfl) ?_
            refine And.intro (fun _ => ?_) (fun h => absurd h (by omega))
            refine And.intro (by first | omega | (simp only [mS_iff, eq_self, Int.reduceEq, true_and, and_true, false_and, and_false, and_self, ↓reduceIte]; omega) | (simp only [mS_iff, eq_self, Int.reduceEq, true_and, and_true, false_and, and_false, and_self, ↓reduceIte] at *; omega)) ?_
            exact hQf f0
          · replace h4 := am_lc_ne.mp h4
            refine And.intro (rfl) ?_
            refine And.intro (fun h5 => ?_) (fun h5 => ?_)
            · replace h5 := am_lc_eq.mp h5
              refine And.intro (rfl) ?_
              refine And.intro (fun _ => ?_) (fun h => absurd h (by omega))
              refine And.intro (by first | omega | (simp only [mS_iff, eq_self, Int.reduceEq, true_and, and_true, false_and, and_false, and_self, ↓reduceIte]; omega) | (simp only [mS_iff, eq_self, Int.reduceEq, true_and, and_true, false_and, and_false, and_self, ↓reduceIte] at *; omega)) ?_
              exact hQf f0
            · replace h5 := am_lc_ne.mp h5
              refine And.intro (rfl) ?_
              refine And.intro (rfl) ?_
              refine ct_200 (by omega) ⟨w5.2.1, w5.2.2⟩ (by omega) (fun k6 h7 h8 h9 h10 => ?_) (fun h7 => ?_)
              · refine And.intro (fun h11 => ?_) (fun h11 => ?_)
                · refine And.intro (rfl) ?_
                  refine And.intro (fun _ => ?_) (fun h => absurd h (by omega))
                  refine And.intro (by first | omega | (simp only [mS_iff, eq_self, Int.reduceEq, true_and, and_true, false_and, and_false, and_self, ↓reduceIte]; omega) | (simp only [mS_iff, eq_self, Int.reduceEq, true_and, and_true, false_and, and_false, and_self, ↓reduceIte] at *; omega)) ?_
                  exact hQf f0
                · refine And.intro (fun h => absurd h (by decide)) (fun _ => ?_)
                  refine And.intro (rfl) ?_
                  refine And.intro (fun h12 => ?_) (fun h12 => ?_)
                  · replace h12 := am_lc_ne.mp h12
                    refine And.intro (rfl) ?_
                    refine And.intro (fun _ => ?_) (fun h => absurd h (by omega))
                    refine And.intro (by first | omega | (simp only [mS_iff, eq_self, Int.reduceEq, true_and, and_true, false_and, and_false, and_self, ↓reduceIte]; omega) | (simp only [mS_iff, eq_self, Int.reduceEq, true_and, and_true, false_and, and_false, and_self, ↓reduceIte] at *; omega)) ?_
                    exact hQf f0
                  · replace h12 := am_lc_eq.mp h12
                    refine And.intro (rfl) ?_
                    refine And.intro (fun _ => ?_) (fun h => absurd h (by omega))
                    refine And.intro (by first | omega | (simp only [mS_iff, eq_self, Int.reduceEq, true_and, and_true, false_and, and_false, and_self, ↓reduceIte]; omega) | (simp only [mS_iff, eq_self, Int.reduceEq, true_and, and_true, false_and, and_false, and_self, ↓reduceIte] at *; omega)) ?_
                    exact hQf f0
              · refine And.intro (fun h => absurd h (by decide)) (fun _ => ?_)
                refine And.intro (fun h => absurd h (by decide)) (fun _ => ?_)
                refine And.intro (rfl) ?_
                refine And.intro (fun h13 => ?_) (fun h13 => ?_)
                · replace h13 := am_lc_ne.mp h13
                  refine And.intro (rfl) ?_
                  refine And.intro (fun _ => ?_) (fun h => absurd h (by omega))
                  refine And.intro (by first | omega | (simp only [mS_iff, eq_self, Int.reduceEq, true_and, and_true, false_and, and_false, and_self, ↓reduceIte]; omega) | (simp only [mS_iff, eq_self, Int.reduceEq, true_and, and_true, false_and, and_false, and_self, ↓reduceIte] at *; omega)) ?_
                  exact hQf f0
                · replace h13 := am_lc_eq.mp h13
                  refine And.intro (rfl) ?_
                  refine And.intro (fun _ => ?_) (fun h => absurd h (by omega))
                  refine And.intro (by first | omega | (simp only [mS_iff, eq_self, Int.reduceEq, true_and, and_true, false_and, and_false, and_self, ↓reduceIte]; omega) | (simp only [mS_iff, eq_self, Int.reduceEq, true_and, and_true, false_and, and_false, and_self, ↓reduceIte] at *; omega)) ?_
                  exact hQf f0
theorem ct_284_0 {d : Nat} {m : aM} {Q : aO → aM → Prop} {L N q f p : Int} {K A V E : Int → Int} (hd : 4 ≤ d) (hx : mTx m L K A V E N q f p) (w5 : mW5 m) (hn : 0 ≤ m 41 55 ∧ m 41 55 ≤ 20) (hQf : f ≠ 0 → ∀ m', fr_G m m' → m' 41 55 = m 41 55 + 1 → m' 41 53 = m 41 53 → m' 41 56 = m 41 56 → mTx m' L K A V E N q f p → Q (.inl none) m') (hQw : f = 0 → ¬ (c_beg (K q) ∧ ((0 : Int) = 1 → K q ≠ 51)) → ∀ m', fr_G m m' → m' 41 55 = m 41 55 + 1 → m' 41 53 = m 41 53 → m' 41 56 = m 41 56 → mTx m' L K A V E N q (x_wr (K q)) (A q) → Q (.inl none) m') (hQd : f = 0 → (c_beg (K q) ∧ ((0 : Int) = 1 → K q ≠ 51)) → m 41 55 = 15 → ∀ m', fr_G m m' → m' 41 55 = m 41 55 + 1 → m' 41 53 = m 41 53 → m' 41 56 = m 41 56 → mTx m' L K A V E N q 5 (A q) → Q (.inl none) m') (hQy : f = 0 → (c_beg (K q) ∧ ((0 : Int) = 1 → K q ≠ 51)) → m 41 55 ≠ 15 → ∀ m', fr_G m m' → m' 41 55 = m 41 55 + 1 → m' 41 53 = m 41 53 → m' 41 56 = m 41 56 → mTx m' L K A V E N q 0 p → Q (.inl none) m') : am_wpc am_G am_T d 284 [aR 41, aI 1] m Q := by
  by_cases f0 : f = 0
  · subst f0
    refine am_in rfl hd (fun d hd => ?_)
    refine am_go 400 [] (am_wpc_cm _ _ _) wf_284 ?_
    refine And.intro (rfl) ?_
    refine ct_285_0 (by omega) hx w5 (fun h => absurd rfl h) (fun _ h1 => ?_) (fun _ h1 => ?_)
    · have bg := h1
      refine And.intro (fun _ => ?_) (fun h => absurd h (by decide))
      refine And.intro (rfl) ?_
      refine And.intro (fun h2 => ?_) (fun h2 => ?_)
      · refine And.intro (rfl) ?_
        refine And.intro (show -2147483648 ≤ (m 41 55) + 1 ∧ (m 41 55) + 1 ≤ 2147483647 by first | omega | (simp only [mS_iff, eq_self, Int.reduceEq, true_and, and_true, false_and, and_false, and_self, ↓reduceIte]; omega) | (simp only [mS_iff, eq_self, Int.reduceEq, true_and, and_true, false_and, and_false, and_self, ↓reduceIte] at *; omega)) ?_
        refine And.intro (rfl) ?_
        exact hQy rfl bg (by omega) _ fr_G.n (by rw [mS_iff, if_pos ⟨rfl, rfl⟩] <;> omega) (by rw [mS_iff, if_neg (by omega)] <;> first | rfl | omega) (by rw [mS_iff, if_neg (by omega)] <;> first | rfl | omega) (hx.s (by omega))
      · refine And.intro (rfl) ?_
        refine ct_201 (by omega) hx (by omega) (fun mf ft hy => ?_)
        have fr := ft.toG
        have hn1 := ft 41 53 (by omega)
        have hn3 := ft 41 55 (by omega)
        have hn4 := ft 41 56 (by omega)
        have b1 := bg.1
        unfold c_beg at b1
        rw [if_pos rfl, if_pos rfl, if_neg (by omega)] at hy
        have hx := hy
        refine And.intro (rfl) ?_
        refine And.intro (show -2147483648 ≤ (mf 41 55) + 1 ∧ (mf 41 55) + 1 ≤ 2147483647 by first | omega | (simp only [mS_iff, eq_self, Int.reduceEq, true_and, and_true, false_and, and_false, and_self, ↓reduceIte]; omega) | (simp only [mS_iff, eq_self, Int.reduceEq, true_and, and_true, false_and, and_false, and_self, ↓reduceIte] at *; omega)) ?_
        refine And.intro (rfl) ?_
        exact hQd rfl bg (by omega) _ (fr.trans fr_G.n) (by rw [mS_iff, if_pos ⟨rfl, rfl⟩] <;> omega) (by rw [mS_iff, if_neg (by omega)] <;> first | rfl | omega) (by rw [mS_iff, if_neg (by omega)] <;> first | rfl | omega) (hx.s (by omega))
    · have bg := h1
      refine And.intro (fun h => absurd h (by decide)) (fun _ => ?_)
      refine And.intro (rfl) ?_
      refine ct_201 (by omega) hx (by omega) (fun mf ft hy => ?_)
      have fr := ft.toG
      have hn1 := ft 41 53 (by omega)
      have hn3 := ft 41 55 (by omega)
      have hn4 := ft 41 56 (by omega)
      have hy : mTx mf L K A V E N q (x_wr (K q)) (A q) := by unfold x_wr; rw [if_pos rfl, if_pos rfl] at hy; exact hy
      have hx := hy
      refine And.intro (rfl) ?_
      refine And.intro (show -2147483648 ≤ (mf 41 55) + 1 ∧ (mf 41 55) + 1 ≤ 2147483647 by first | omega | (simp only [mS_iff, eq_self, Int.reduceEq, true_and, and_true, false_and, and_false, and_self, ↓reduceIte]; omega) | (simp only [mS_iff, eq_self, Int.reduceEq, true_and, and_true, false_and, and_false, and_self, ↓reduceIte] at *; omega)) ?_
      refine And.intro (rfl) ?_
      exact hQw rfl bg _ (fr.trans fr_G.n) (by rw [mS_iff, if_pos ⟨rfl, rfl⟩] <;> omega) (by rw [mS_iff, if_neg (by omega)] <;> first | rfl | omega) (by rw [mS_iff, if_neg (by omega)] <;> first | rfl | omega) (hx.s (by omega))
  · skip
    refine am_in rfl hd (fun d hd => ?_)
    refine am_go 400 [] (am_wpc_cm _ _ _) wf_284 ?_
    refine And.intro (rfl) ?_
    refine ct_285_0 (by omega) hx w5 (fun _ => ?_) (fun h => absurd h f0) (fun h => absurd h f0)
    refine And.intro (fun h => absurd h (by decide)) (fun _ => ?_)
    refine And.intro (rfl) ?_
    refine ct_201 (by omega) hx (by omega) (fun mf ft hy => ?_)
    have fr := ft.toG
    have hn1 := ft 41 53 (by omega)
    have hn3 := ft 41 55 (by omega)
    have hn4 := ft 41 56 (by omega)
    rw [if_neg f0, if_neg f0] at hy
    have hx := hy
    refine And.intro (rfl) ?_
    refine And.intro (show -2147483648 ≤ (mf 41 55) + 1 ∧ (mf 41 55) + 1 ≤ 2147483647 by first | omega | (simp only [mS_iff, eq_self, Int.reduceEq, true_and, and_true, false_and, and_false, and_self, ↓reduceIte]; omega) | (simp only [mS_iff, eq_self, Int.reduceEq, true_and, and_true, false_and, and_false, and_self, ↓reduceIte] at *; omega)) ?_
    refine And.intro (rfl) ?_
    exact hQf f0 _ (fr.trans fr_G.n) (by rw [mS_iff, if_pos ⟨rfl, rfl⟩] <;> omega) (by rw [mS_iff, if_neg (by omega)] <;> first | rfl | omega) (by rw [mS_iff, if_neg (by omega)] <;> first | rfl | omega) (hx.s (by omega))
theorem ct_285_1 {d : Nat} {m : aM} {Q : aO → aM → Prop} {L N q f p : Int} {K A V E : Int → Int} (hd : 2 ≤ d) (hx : mTx m L K A V E N q f p) (w5 : mW5 m) (hQf : f ≠ 0 → Q (.inl (some (aI 0))) m) (hQ1 : f = 0 → (c_beg (K q) ∧ ((1 : Int) = 1 → K q ≠ 51)) → Q (.inl (some (aI 1))) m) (hQ0 : f = 0 → ¬ (c_beg (K q) ∧ ((1 : Int) = 1 → K q ≠ 51)) → Q (.inl (some (aI 0))) m) : am_wpc am_G am_T d 285 [aR 41, aI 0] m Q := by
  by_cases f0 : f = 0
  · subst f0
    have r1 := hx.w (w := 52) (by omega) (show s_cd 52 = 3369766 by decide +kernel)
    have r2 := hx.w (w := 53) (by omega) (show s_cd 53 = 173214550 by decide +kernel)
    have r3 := hx.w (w := 54) (by omega) (show s_cd 54 = 27966616219 by decide +kernel)
    have r4 := hx.w (w := 65) (by omega) (show s_cd 65 = 15091 by decide +kernel)
    have r5 := hx.w (w := 51) (by omega) (show s_cd 51 = 10631 by decide +kernel)
    have r6 := hx.g (c := 40) (by unfold x_sg; omega)
    have r7 := hx.g (c := 45) (by unfold x_sg; omega)
    have r8 := hx.k2
    have r9 := hx.kw
    have ra : 0 ≤ K q → K q < 67 → m 41 13 = 1 := hx.kk
    have hw := (hx.2.2.2.2.2.2.1 rfl).1
    refine am_in rfl hd (fun d hd => ?_)
    refine am_go 400 [] (am_wpc_cm _ _ _) wf_285 ?_
    refine And.intro (rfl) ?_
    refine And.intro (fun h1 => ?_) (fun h1 => ?_)
    · refine And.intro (rfl) ?_
      refine And.intro (fun h => absurd h (by omega)) (fun _ => ?_)
      refine And.intro (rfl) ?_
      refine And.intro (fun h2 => ?_) (fun h2 => ?_)
      · refine And.intro (by first | omega | (simp only [mS_iff, eq_self, Int.reduceEq, true_and, and_true, false_and, and_false, and_self, ↓reduceIte]; omega) | (simp only [mS_iff, eq_self, Int.reduceEq, true_and, and_true, false_and, and_false, and_self, ↓reduceIte] at *; omega)) ?_
        exact hQ1 rfl (by unfold c_beg; omega)
      · refine And.intro (rfl) ?_
        refine And.intro (fun h3 => ?_) (fun h3 => ?_)
        · refine And.intro (fun _ => ?_) (fun h => absurd h (by decide))
          refine And.intro (by first | omega | (simp only [mS_iff, eq_self, Int.reduceEq, true_and, and_true, false_and, and_false, and_self, ↓reduceIte]; omega) | (simp only [mS_iff, eq_self, Int.reduceEq, true_and, and_true, false_and, and_false, and_self, ↓reduceIte] at *; omega)) ?_
          exact hQ0 rfl (by unfold c_beg; omega)
        · refine And.intro (rfl) ?_
          refine And.intro (fun h4 => ?_) (fun h4 => ?_)
          · replace h4 := am_lc_eq.mp h4
            refine And.intro (by first | omega | (simp only [mS_iff, eq_self, Int.reduceEq, true_and, and_true, false_and, and_false, and_self, ↓reduceIte]; omega) | (simp only [mS_iff, eq_self, Int.reduceEq, true_and, and_true, false_and, and_false, and_self, ↓reduceIte] at *; omega)) ?_
            exact hQ1 rfl (by unfold c_beg; omega)
          · replace h4 := am_lc_ne.mp h4
            refine And.intro (rfl) ?_
            refine And.intro (fun h5 => ?_) (fun h5 => ?_)
            · replace h5 := am_lc_eq.mp h5
              refine And.intro (by first | omega | (simp only [mS_iff, eq_self, Int.reduceEq, true_and, and_true, false_and, and_false, and_self, ↓reduceIte]; omega) | (simp only [mS_iff, eq_self, Int.reduceEq, true_and, and_true, false_and, and_false, and_self, ↓reduceIte] at *; omega)) ?_
              exact hQ1 rfl (by unfold c_beg; omega)
            · replace h5 := am_lc_ne.mp h5
              refine And.intro (fun _ => ?_) (fun h => absurd h (by decide))
              refine And.intro (by first | omega | (simp only [mS_iff, eq_self, Int.reduceEq, true_and, and_true, false_and, and_false, and_self, ↓reduceIte]; omega) | (simp only [mS_iff, eq_self, Int.reduceEq, true_and, and_true, false_and, and_false, and_self, ↓reduceIte] at *; omega)) ?_
              exact hQ0 rfl (by unfold c_beg; omega)
    · refine And.intro (rfl) ?_
      refine And.intro (fun h6 => ?_) (fun h6 => ?_)
      · replace h6 := am_lc_eq.mp h6
        refine And.intro (rfl) ?_
        refine And.intro (fun h => absurd h (by omega)) (fun _ => ?_)
        refine And.intro (rfl) ?_
        refine And.intro (fun h7 => ?_) (fun h7 => ?_)
        · refine And.intro (by first | omega | (simp only [mS_iff, eq_self, Int.reduceEq, true_and, and_true, false_and, and_false, and_self, ↓reduceIte]; omega) | (simp only [mS_iff, eq_self, Int.reduceEq, true_and, and_true, false_and, and_false, and_self, ↓reduceIte] at *; omega)) ?_
          exact hQ1 rfl (by unfold c_beg; omega)
        · refine And.intro (rfl) ?_
          refine And.intro (fun h8 => ?_) (fun h8 => ?_)
          · refine And.intro (fun h => absurd h (by decide)) (fun _ => ?_)
            refine And.intro (by first | omega | (simp only [mS_iff, eq_self, Int.reduceEq, true_and, and_true, false_and, and_false, and_self, ↓reduceIte]; omega) | (simp only [mS_iff, eq_self, Int.reduceEq, true_and, and_true, false_and, and_false, and_self, ↓reduceIte] at *; omega)) ?_
            exact hQ1 rfl (by unfold c_beg; omega)
          · refine And.intro (rfl) ?_
            refine And.intro (fun h9 => ?_) (fun h9 => ?_)
            · replace h9 := am_lc_eq.mp h9
              refine And.intro (by first | omega | (simp only [mS_iff, eq_self, Int.reduceEq, true_and, and_true, false_and, and_false, and_self, ↓reduceIte]; omega) | (simp only [mS_iff, eq_self, Int.reduceEq, true_and, and_true, false_and, and_false, and_self, ↓reduceIte] at *; omega)) ?_
              exact hQ1 rfl (by unfold c_beg; omega)
            · replace h9 := am_lc_ne.mp h9
              refine And.intro (rfl) ?_
              refine And.intro (fun h10 => ?_) (fun h10 => ?_)
              · replace h10 := am_lc_eq.mp h10
                refine And.intro (by first | omega | (simp only [mS_iff, eq_self, Int.reduceEq, true_and, and_true, false_and, and_false, and_self, ↓reduceIte]; omega) | (simp only [mS_iff, eq_self, Int.reduceEq, true_and, and_true, false_and, and_false, and_self, ↓reduceIte] at *; omega)) ?_
                exact hQ1 rfl (by unfold c_beg; omega)
              · replace h10 := am_lc_ne.mp h10
                refine And.intro (fun h => absurd h (by decide)) (fun _ => ?_)
                refine And.intro (by first | omega | (simp only [mS_iff, eq_self, Int.reduceEq, true_and, and_true, false_and, and_false, and_self, ↓reduceIte]; omega) | (simp only [mS_iff, eq_self, Int.reduceEq, true_and, and_true, false_and, and_false, and_self, ↓reduceIte] at *; omega)) ?_
                exact hQ1 rfl (by unfold c_beg; omega)
      · replace h6 := am_lc_ne.mp h6
        refine And.intro (rfl) ?_
        refine And.intro (fun h11 => ?_) (fun h11 => ?_)
        · replace h11 := am_lc_eq.mp h11
          refine And.intro (rfl) ?_
          refine And.intro (fun h => absurd h (by omega)) (fun _ => ?_)
          refine And.intro (rfl) ?_
          refine And.intro (fun h12 => ?_) (fun h12 => ?_)
          · refine And.intro (by first | omega | (simp only [mS_iff, eq_self, Int.reduceEq, true_and, and_true, false_and, and_false, and_self, ↓reduceIte]; omega) | (simp only [mS_iff, eq_self, Int.reduceEq, true_and, and_true, false_and, and_false, and_self, ↓reduceIte] at *; omega)) ?_
            exact hQ1 rfl (by unfold c_beg; omega)
          · refine And.intro (rfl) ?_
            refine And.intro (fun h13 => ?_) (fun h13 => ?_)
            · refine And.intro (fun h => absurd h (by decide)) (fun _ => ?_)
              refine And.intro (by first | omega | (simp only [mS_iff, eq_self, Int.reduceEq, true_and, and_true, false_and, and_false, and_self, ↓reduceIte]; omega) | (simp only [mS_iff, eq_self, Int.reduceEq, true_and, and_true, false_and, and_false, and_self, ↓reduceIte] at *; omega)) ?_
              exact hQ1 rfl (by unfold c_beg; omega)
            · refine And.intro (rfl) ?_
              refine And.intro (fun h14 => ?_) (fun h14 => ?_)
              · replace h14 := am_lc_eq.mp h14
                refine And.intro (by first | omega | (simp only [mS_iff, eq_self, Int.reduceEq, true_and, and_true, false_and, and_false, and_self, ↓reduceIte]; omega) | (simp only [mS_iff, eq_self, Int.reduceEq, true_and, and_true, false_and, and_false, and_self, ↓reduceIte] at *; omega)) ?_
                exact hQ1 rfl (by unfold c_beg; omega)
              · replace h14 := am_lc_ne.mp h14
                refine And.intro (rfl) ?_
                refine And.intro (fun h15 => ?_) (fun h15 => ?_)
                · replace h15 := am_lc_eq.mp h15
                  refine And.intro (by first | omega | (simp only [mS_iff, eq_self, Int.reduceEq, true_and, and_true, false_and, and_false, and_self, ↓reduceIte]; omega) | (simp only [mS_iff, eq_self, Int.reduceEq, true_and, and_true, false_and, and_false, and_self, ↓reduceIte] at *; omega)) ?_
                  exact hQ1 rfl (by unfold c_beg; omega)
                · replace h15 := am_lc_ne.mp h15
                  refine And.intro (fun h => absurd h (by decide)) (fun _ => ?_)
                  refine And.intro (by first | omega | (simp only [mS_iff, eq_self, Int.reduceEq, true_and, and_true, false_and, and_false, and_self, ↓reduceIte]; omega) | (simp only [mS_iff, eq_self, Int.reduceEq, true_and, and_true, false_and, and_false, and_self, ↓reduceIte] at *; omega)) ?_
                  exact hQ1 rfl (by unfold c_beg; omega)
        · replace h11 := am_lc_ne.mp h11
          refine And.intro (rfl) ?_
          refine And.intro (fun h16 => ?_) (fun h16 => ?_)
          · replace h16 := am_lc_eq.mp h16
            refine And.intro (rfl) ?_
            refine And.intro (fun h => absurd h (by omega)) (fun _ => ?_)
            refine And.intro (rfl) ?_
            refine And.intro (fun h17 => ?_) (fun h17 => ?_)
            · refine And.intro (by first | omega | (simp only [mS_iff, eq_self, Int.reduceEq, true_and, and_true, false_and, and_false, and_self, ↓reduceIte]; omega) | (simp only [mS_iff, eq_self, Int.reduceEq, true_and, and_true, false_and, and_false, and_self, ↓reduceIte] at *; omega)) ?_
              exact hQ1 rfl (by unfold c_beg; omega)
            · refine And.intro (rfl) ?_
              refine And.intro (fun h18 => ?_) (fun h18 => ?_)
              · refine And.intro (fun h => absurd h (by decide)) (fun _ => ?_)
                refine And.intro (by first | omega | (simp only [mS_iff, eq_self, Int.reduceEq, true_and, and_true, false_and, and_false, and_self, ↓reduceIte]; omega) | (simp only [mS_iff, eq_self, Int.reduceEq, true_and, and_true, false_and, and_false, and_self, ↓reduceIte] at *; omega)) ?_
                exact hQ1 rfl (by unfold c_beg; omega)
              · refine And.intro (rfl) ?_
                refine And.intro (fun h19 => ?_) (fun h19 => ?_)
                · replace h19 := am_lc_eq.mp h19
                  refine And.intro (by first | omega | (simp only [mS_iff, eq_self, Int.reduceEq, true_and, and_true, false_and, and_false, and_self, ↓reduceIte]; omega) | (simp only [mS_iff, eq_self, Int.reduceEq, true_and, and_true, false_and, and_false, and_self, ↓reduceIte] at *; omega)) ?_
                  exact hQ1 rfl (by unfold c_beg; omega)
                · replace h19 := am_lc_ne.mp h19
                  refine And.intro (rfl) ?_
                  refine And.intro (fun h20 => ?_) (fun h20 => ?_)
                  · replace h20 := am_lc_eq.mp h20
                    refine And.intro (by first | omega | (simp only [mS_iff, eq_self, Int.reduceEq, true_and, and_true, false_and, and_false, and_self, ↓reduceIte]; omega) | (simp only [mS_iff, eq_self, Int.reduceEq, true_and, and_true, false_and, and_false, and_self, ↓reduceIte] at *; omega)) ?_
                    exact hQ1 rfl (by unfold c_beg; omega)
                  · replace h20 := am_lc_ne.mp h20
                    refine And.intro (fun h => absurd h (by decide)) (fun _ => ?_)
                    refine And.intro (by first | omega | (simp only [mS_iff, eq_self, Int.reduceEq, true_and, and_true, false_and, and_false, and_self, ↓reduceIte]; omega) | (simp only [mS_iff, eq_self, Int.reduceEq, true_and, and_true, false_and, and_false, and_self, ↓reduceIte] at *; omega)) ?_
                    exact hQ1 rfl (by unfold c_beg; omega)
          · replace h16 := am_lc_ne.mp h16
            refine And.intro (rfl) ?_
            refine And.intro (fun h21 => ?_) (fun h21 => ?_)
            · replace h21 := am_lc_eq.mp h21
              refine And.intro (rfl) ?_
              refine And.intro (fun h => absurd h (by omega)) (fun _ => ?_)
              refine And.intro (rfl) ?_
              refine And.intro (fun h22 => ?_) (fun h22 => ?_)
              · refine And.intro (by first | omega | (simp only [mS_iff, eq_self, Int.reduceEq, true_and, and_true, false_and, and_false, and_self, ↓reduceIte]; omega) | (simp only [mS_iff, eq_self, Int.reduceEq, true_and, and_true, false_and, and_false, and_self, ↓reduceIte] at *; omega)) ?_
                exact hQ1 rfl (by unfold c_beg; omega)
              · refine And.intro (rfl) ?_
                refine And.intro (fun h23 => ?_) (fun h23 => ?_)
                · refine And.intro (fun h => absurd h (by decide)) (fun _ => ?_)
                  refine And.intro (by first | omega | (simp only [mS_iff, eq_self, Int.reduceEq, true_and, and_true, false_and, and_false, and_self, ↓reduceIte]; omega) | (simp only [mS_iff, eq_self, Int.reduceEq, true_and, and_true, false_and, and_false, and_self, ↓reduceIte] at *; omega)) ?_
                  exact hQ1 rfl (by unfold c_beg; omega)
                · refine And.intro (rfl) ?_
                  refine And.intro (fun h24 => ?_) (fun h24 => ?_)
                  · replace h24 := am_lc_eq.mp h24
                    refine And.intro (by first | omega | (simp only [mS_iff, eq_self, Int.reduceEq, true_and, and_true, false_and, and_false, and_self, ↓reduceIte]; omega) | (simp only [mS_iff, eq_self, Int.reduceEq, true_and, and_true, false_and, and_false, and_self, ↓reduceIte] at *; omega)) ?_
                    exact hQ1 rfl (by unfold c_beg; omega)
                  · replace h24 := am_lc_ne.mp h24
                    refine And.intro (rfl) ?_
                    refine And.intro (fun h25 => ?_) (fun h25 => ?_)
                    · replace h25 := am_lc_eq.mp h25
                      refine And.intro (by first | omega | (simp only [mS_iff, eq_self, Int.reduceEq, true_and, and_true, false_and, and_false, and_self, ↓reduceIte]; omega) | (simp only [mS_iff, eq_self, Int.reduceEq, true_and, and_true, false_and, and_false, and_self, ↓reduceIte] at *; omega)) ?_
                      exact hQ1 rfl (by unfold c_beg; omega)
                    · replace h25 := am_lc_ne.mp h25
                      refine And.intro (fun h => absurd h (by decide)) (fun _ => ?_)
                      refine And.intro (by first | omega | (simp only [mS_iff, eq_self, Int.reduceEq, true_and, and_true, false_and, and_false, and_self, ↓reduceIte]; omega) | (simp only [mS_iff, eq_self, Int.reduceEq, true_and, and_true, false_and, and_false, and_self, ↓reduceIte] at *; omega)) ?_
                      exact hQ1 rfl (by unfold c_beg; omega)
            · replace h21 := am_lc_ne.mp h21
              refine And.intro (rfl) ?_
              refine And.intro (rfl) ?_
              refine ct_200 (by omega) ⟨w5.2.1, w5.2.2⟩ (by omega) (fun k26 h27 h28 h29 h30 => ?_) (fun h27 => ?_)
              · have ek := hx.ky w5.ar (by first | omega | (have := hx.R; omega)) h27 h28 h29 h30
                have ek1 : K q = 55 + k26 := ek.1
                refine And.intro (fun h31 => ?_) (fun h31 => ?_)
                · refine And.intro (rfl) ?_
                  refine And.intro (fun h => absurd h (by omega)) (fun _ => ?_)
                  refine And.intro (rfl) ?_
                  refine And.intro (fun h32 => ?_) (fun h32 => ?_)
                  · refine And.intro (by first | omega | (simp only [mS_iff, eq_self, Int.reduceEq, true_and, and_true, false_and, and_false, and_self, ↓reduceIte]; omega) | (simp only [mS_iff, eq_self, Int.reduceEq, true_and, and_true, false_and, and_false, and_self, ↓reduceIte] at *; omega)) ?_
                    exact hQ1 rfl (by unfold c_beg; omega)
                  · refine And.intro (rfl) ?_
                    refine And.intro (fun h33 => ?_) (fun h33 => ?_)
                    · refine And.intro (fun h => absurd h (by decide)) (fun _ => ?_)
                      refine And.intro (by first | omega | (simp only [mS_iff, eq_self, Int.reduceEq, true_and, and_true, false_and, and_false, and_self, ↓reduceIte]; omega) | (simp only [mS_iff, eq_self, Int.reduceEq, true_and, and_true, false_and, and_false, and_self, ↓reduceIte] at *; omega)) ?_
                      exact hQ1 rfl (by unfold c_beg; omega)
                    · refine And.intro (rfl) ?_
                      refine And.intro (fun h34 => ?_) (fun h34 => ?_)
                      · replace h34 := am_lc_eq.mp h34
                        refine And.intro (by first | omega | (simp only [mS_iff, eq_self, Int.reduceEq, true_and, and_true, false_and, and_false, and_self, ↓reduceIte]; omega) | (simp only [mS_iff, eq_self, Int.reduceEq, true_and, and_true, false_and, and_false, and_self, ↓reduceIte] at *; omega)) ?_
                        exact hQ1 rfl (by unfold c_beg; omega)
                      · replace h34 := am_lc_ne.mp h34
                        refine And.intro (rfl) ?_
                        refine And.intro (fun h35 => ?_) (fun h35 => ?_)
                        · replace h35 := am_lc_eq.mp h35
                          refine And.intro (by first | omega | (simp only [mS_iff, eq_self, Int.reduceEq, true_and, and_true, false_and, and_false, and_self, ↓reduceIte]; omega) | (simp only [mS_iff, eq_self, Int.reduceEq, true_and, and_true, false_and, and_false, and_self, ↓reduceIte] at *; omega)) ?_
                          exact hQ1 rfl (by unfold c_beg; omega)
                        · replace h35 := am_lc_ne.mp h35
                          refine And.intro (fun h => absurd h (by decide)) (fun _ => ?_)
                          refine And.intro (by first | omega | (simp only [mS_iff, eq_self, Int.reduceEq, true_and, and_true, false_and, and_false, and_self, ↓reduceIte]; omega) | (simp only [mS_iff, eq_self, Int.reduceEq, true_and, and_true, false_and, and_false, and_self, ↓reduceIte] at *; omega)) ?_
                          exact hQ1 rfl (by unfold c_beg; omega)
                · refine And.intro (fun _ => ?_) (fun h => absurd h (by decide))
                  refine And.intro (rfl) ?_
                  refine And.intro (fun h => absurd h (by omega)) (fun _ => ?_)
                  refine And.intro (rfl) ?_
                  refine And.intro (fun h36 => ?_) (fun h36 => ?_)
                  · refine And.intro (by first | omega | (simp only [mS_iff, eq_self, Int.reduceEq, true_and, and_true, false_and, and_false, and_self, ↓reduceIte]; omega) | (simp only [mS_iff, eq_self, Int.reduceEq, true_and, and_true, false_and, and_false, and_self, ↓reduceIte] at *; omega)) ?_
                    exact hQ1 rfl (by unfold c_beg; omega)
                  · refine And.intro (rfl) ?_
                    refine And.intro (fun h37 => ?_) (fun h37 => ?_)
                    · refine And.intro (fun _ => ?_) (fun h => absurd h (by decide))
                      refine And.intro (by first | omega | (simp only [mS_iff, eq_self, Int.reduceEq, true_and, and_true, false_and, and_false, and_self, ↓reduceIte]; omega) | (simp only [mS_iff, eq_self, Int.reduceEq, true_and, and_true, false_and, and_false, and_self, ↓reduceIte] at *; omega)) ?_
                      exact hQ0 rfl (by unfold c_beg; omega)
                    · refine And.intro (rfl) ?_
                      refine And.intro (fun h38 => ?_) (fun h38 => ?_)
                      · replace h38 := am_lc_eq.mp h38
                        refine And.intro (by first | omega | (simp only [mS_iff, eq_self, Int.reduceEq, true_and, and_true, false_and, and_false, and_self, ↓reduceIte]; omega) | (simp only [mS_iff, eq_self, Int.reduceEq, true_and, and_true, false_and, and_false, and_self, ↓reduceIte] at *; omega)) ?_
                        exact hQ1 rfl (by unfold c_beg; omega)
                      · replace h38 := am_lc_ne.mp h38
                        refine And.intro (rfl) ?_
                        refine And.intro (fun h39 => ?_) (fun h39 => ?_)
                        · replace h39 := am_lc_eq.mp h39
                          refine And.intro (by first | omega | (simp only [mS_iff, eq_self, Int.reduceEq, true_and, and_true, false_and, and_false, and_self, ↓reduceIte]; omega) | (simp only [mS_iff, eq_self, Int.reduceEq, true_and, and_true, false_and, and_false, and_self, ↓reduceIte] at *; omega)) ?_
                          exact hQ1 rfl (by unfold c_beg; omega)
                        · replace h39 := am_lc_ne.mp h39
                          refine And.intro (fun _ => ?_) (fun h => absurd h (by decide))
                          refine And.intro (by first | omega | (simp only [mS_iff, eq_self, Int.reduceEq, true_and, and_true, false_and, and_false, and_self, ↓reduceIte]; omega) | (simp only [mS_iff, eq_self, Int.reduceEq, true_and, and_true, false_and, and_false, and_self, ↓reduceIte] at *; omega)) ?_
                          exact hQ0 rfl (by unfold c_beg; omega)
              · have nk := hx.kn w5.ar h27 (K q - 55)
                refine And.intro (fun h => absurd h (by decide)) (fun _ => ?_)
                refine And.intro (fun _ => ?_) (fun h => absurd h (by decide))
                refine And.intro (rfl) ?_
                refine And.intro (fun h => absurd h (by omega)) (fun _ => ?_)
                refine And.intro (rfl) ?_
                refine And.intro (fun h40 => ?_) (fun h40 => ?_)
                · refine And.intro (by first | omega | (simp only [mS_iff, eq_self, Int.reduceEq, true_and, and_true, false_and, and_false, and_self, ↓reduceIte]; omega) | (simp only [mS_iff, eq_self, Int.reduceEq, true_and, and_true, false_and, and_false, and_self, ↓reduceIte] at *; omega)) ?_
                  exact hQ1 rfl (by unfold c_beg; omega)
                · refine And.intro (rfl) ?_
                  refine And.intro (fun h41 => ?_) (fun h41 => ?_)
                  · refine And.intro (fun _ => ?_) (fun h => absurd h (by decide))
                    refine And.intro (by first | omega | (simp only [mS_iff, eq_self, Int.reduceEq, true_and, and_true, false_and, and_false, and_self, ↓reduceIte]; omega) | (simp only [mS_iff, eq_self, Int.reduceEq, true_and, and_true, false_and, and_false, and_self, ↓reduceIte] at *; omega)) ?_
                    exact hQ0 rfl (by unfold c_beg; omega)
                  · refine And.intro (rfl) ?_
                    refine And.intro (fun h42 => ?_) (fun h42 => ?_)
                    · replace h42 := am_lc_eq.mp h42
                      refine And.intro (by first | omega | (simp only [mS_iff, eq_self, Int.reduceEq, true_and, and_true, false_and, and_false, and_self, ↓reduceIte]; omega) | (simp only [mS_iff, eq_self, Int.reduceEq, true_and, and_true, false_and, and_false, and_self, ↓reduceIte] at *; omega)) ?_
                      exact hQ1 rfl (by unfold c_beg; omega)
                    · replace h42 := am_lc_ne.mp h42
                      refine And.intro (rfl) ?_
                      refine And.intro (fun h43 => ?_) (fun h43 => ?_)
                      · replace h43 := am_lc_eq.mp h43
                        refine And.intro (by first | omega | (simp only [mS_iff, eq_self, Int.reduceEq, true_and, and_true, false_and, and_false, and_self, ↓reduceIte]; omega) | (simp only [mS_iff, eq_self, Int.reduceEq, true_and, and_true, false_and, and_false, and_self, ↓reduceIte] at *; omega)) ?_
                        exact hQ1 rfl (by unfold c_beg; omega)
                      · replace h43 := am_lc_ne.mp h43
                        refine And.intro (fun _ => ?_) (fun h => absurd h (by decide))
                        refine And.intro (by first | omega | (simp only [mS_iff, eq_self, Int.reduceEq, true_and, and_true, false_and, and_false, and_self, ↓reduceIte]; omega) | (simp only [mS_iff, eq_self, Int.reduceEq, true_and, and_true, false_and, and_false, and_self, ↓reduceIte] at *; omega)) ?_
                        exact hQ0 rfl (by unfold c_beg; omega)
  · have hw := (hx.2.2.2.2.2.2.2 f0).1
    refine am_in rfl hd (fun d hd => ?_)
    refine am_go 400 [] (am_wpc_cm _ _ _) wf_285 ?_
    refine And.intro (rfl) ?_
    refine And.intro (fun h1 => ?_) (fun h1 => ?_)
    · refine And.intro (rfl) ?_
      refine And.intro (fun _ => ?_) (fun h => absurd h (by omega))
      refine And.intro (by first | omega | (simp only [mS_iff, eq_self, Int.reduceEq, true_and, and_true, false_and, and_false, and_self, ↓reduceIte]; omega) | (simp only [mS_iff, eq_self, Int.reduceEq, true_and, and_true, false_and, and_false, and_self, ↓reduceIte] at *; omega)) ?_
      exact hQf f0
    · refine And.intro (rfl) ?_
      refine And.intro (fun h2 => ?_) (fun h2 => ?_)
      · replace h2 := am_lc_eq.mp h2
        refine And.intro (rfl) ?_
        refine And.intro (fun _ => ?_) (fun h => absurd h (by omega))
        refine And.intro (by first | omega | (simp only [mS_iff, eq_self, Int.reduceEq, true_and, and_true, false_and, and_false, and_self, ↓reduceIte]; omega) | (simp only [mS_iff, eq_self, Int.reduceEq, true_and, and_true, false_and, and_false, and_self, ↓reduceIte] at *; omega)) ?_
        exact hQf f0
      · replace h2 := am_lc_ne.mp h2
        refine And.intro (rfl) ?_
        refine And.intro (fun h3 => ?_) (fun h3 => ?_)
        · replace h3 := am_lc_eq.mp h3
          refine And.intro (rfl) ?_
          refine And.intro (fun _ => ?_) (fun h => absurd h (by omega))
          refine And.intro (by first | omega | (simp only [mS_iff, eq_self, Int.reduceEq, true_and, and_true, false_and, and_false, and_self, ↓reduceIte]; omega) | (simp only [mS_iff, eq_self, Int.reduceEq, true_and, and_true, false_and, and_false, and_self, ↓reduceIte] at *; omega)) ?_
          exact hQf f0
        · replace h3 := am_lc_ne.mp h3
          refine And.intro (rfl) ?_
          refine And.intro (fun h4 => ?_) (fun h4 => ?_)
          · replace h4 := am_lc_eq.mp h4
            refine And.intro (rfl) ?_
            refine And.intro (fun _ => ?_) (fun h => absurd h (by omega))
            refine And.intro (by first | omega | (simp only [mS_iff, eq_self, Int.reduceEq, true_and, and_true, false_and, and_false, and_self, ↓reduceIte]; omega) | (simp only [mS_iff, eq_self, Int.reduceEq, true_and, and_true, false_and, and_false, and_self, ↓reduceIte] at *; omega)) ?_
            exact hQf f0
          · replace h4 := am_lc_ne.mp h4
            refine And.intro (rfl) ?_
            refine And.intro (fun h5 => ?_) (fun h5 => ?_)
            · replace h5 := am_lc_eq.mp h5
              refine And.intro (rfl) ?_
              refine And.intro (fun _ => ?_) (fun h => absurd h (by omega))
              refine And.intro (by first | omega | (simp only [mS_iff, eq_self, Int.reduceEq, true_and, and_true, false_and, and_false, and_self, ↓reduceIte]; omega) | (simp only [mS_iff, eq_self, Int.reduceEq, true_and, and_true, false_and, and_false, and_self, ↓reduceIte] at *; omega)) ?_
              exact hQf f0
            · replace h5 := am_lc_ne.mp h5
              refine And.intro (rfl) ?_
              refine And.intro (rfl) ?_
              refine ct_200 (by omega) ⟨w5.2.1, w5.2.2⟩ (by omega) (fun k6 h7 h8 h9 h10 => ?_) (fun h7 => ?_)
              · refine And.intro (fun h11 => ?_) (fun h11 => ?_)
                · refine And.intro (rfl) ?_
                  refine And.intro (fun _ => ?_) (fun h => absurd h (by omega))
                  refine And.intro (by first | omega | (simp only [mS_iff, eq_self, Int.reduceEq, true_and, and_true, false_and, and_false, and_self, ↓reduceIte]; omega) | (simp only [mS_iff, eq_self, Int.reduceEq, true_and, and_true, false_and, and_false, and_self, ↓reduceIte] at *; omega)) ?_
                  exact hQf f0
                · refine And.intro (fun _ => ?_) (fun h => absurd h (by decide))
                  refine And.intro (rfl) ?_
                  refine And.intro (fun _ => ?_) (fun h => absurd h (by omega))
                  refine And.intro (by first | omega | (simp only [mS_iff, eq_self, Int.reduceEq, true_and, and_true, false_and, and_false, and_self, ↓reduceIte]; omega) | (simp only [mS_iff, eq_self, Int.reduceEq, true_and, and_true, false_and, and_false, and_self, ↓reduceIte] at *; omega)) ?_
                  exact hQf f0
              · refine And.intro (fun h => absurd h (by decide)) (fun _ => ?_)
                refine And.intro (fun _ => ?_) (fun h => absurd h (by decide))
                refine And.intro (rfl) ?_
                refine And.intro (fun _ => ?_) (fun h => absurd h (by omega))
                refine And.intro (by first | omega | (simp only [mS_iff, eq_self, Int.reduceEq, true_and, and_true, false_and, and_false, and_self, ↓reduceIte]; omega) | (simp only [mS_iff, eq_self, Int.reduceEq, true_and, and_true, false_and, and_false, and_self, ↓reduceIte] at *; omega)) ?_
                exact hQf f0
theorem ct_284_1 {d : Nat} {m : aM} {Q : aO → aM → Prop} {L N q f p : Int} {K A V E : Int → Int} (hd : 4 ≤ d) (hx : mTx m L K A V E N q f p) (w5 : mW5 m) (hn : 0 ≤ m 41 55 ∧ m 41 55 ≤ 20) (hQf : f ≠ 0 → ∀ m', fr_G m m' → m' 41 55 = m 41 55 + 1 → m' 41 53 = m 41 53 → m' 41 56 = m 41 56 → mTx m' L K A V E N q f p → Q (.inl none) m') (hQw : f = 0 → ¬ (c_beg (K q) ∧ ((1 : Int) = 1 → K q ≠ 51)) → ∀ m', fr_G m m' → m' 41 55 = m 41 55 + 1 → m' 41 53 = m 41 53 → m' 41 56 = m 41 56 → mTx m' L K A V E N q (x_wr (K q)) (A q) → Q (.inl none) m') (hQd : f = 0 → (c_beg (K q) ∧ ((1 : Int) = 1 → K q ≠ 51)) → m 41 55 = 15 → ∀ m', fr_G m m' → m' 41 55 = m 41 55 + 1 → m' 41 53 = m 41 53 → m' 41 56 = m 41 56 → mTx m' L K A V E N q 5 (A q) → Q (.inl none) m') (hQy : f = 0 → (c_beg (K q) ∧ ((1 : Int) = 1 → K q ≠ 51)) → m 41 55 ≠ 15 → ∀ m', fr_G m m' → m' 41 55 = m 41 55 + 1 → m' 41 53 = m 41 53 → m' 41 56 = m 41 56 → mTx m' L K A V E N q 0 p → Q (.inl none) m') : am_wpc am_G am_T d 284 [aR 41, aI 0] m Q := by
  by_cases f0 : f = 0
  · subst f0
    refine am_in rfl hd (fun d hd => ?_)
    refine am_go 400 [] (am_wpc_cm _ _ _) wf_284 ?_
    refine And.intro (rfl) ?_
    refine ct_285_1 (by omega) hx w5 (fun h => absurd rfl h) (fun _ h1 => ?_) (fun _ h1 => ?_)
    · have bg := h1
      refine And.intro (fun _ => ?_) (fun h => absurd h (by decide))
      refine And.intro (rfl) ?_
      refine And.intro (fun h2 => ?_) (fun h2 => ?_)
      · refine And.intro (rfl) ?_
        refine And.intro (show -2147483648 ≤ (m 41 55) + 1 ∧ (m 41 55) + 1 ≤ 2147483647 by first | omega | (simp only [mS_iff, eq_self, Int.reduceEq, true_and, and_true, false_and, and_false, and_self, ↓reduceIte]; omega) | (simp only [mS_iff, eq_self, Int.reduceEq, true_and, and_true, false_and, and_false, and_self, ↓reduceIte] at *; omega)) ?_
        refine And.intro (rfl) ?_
        exact hQy rfl bg (by omega) _ fr_G.n (by rw [mS_iff, if_pos ⟨rfl, rfl⟩] <;> omega) (by rw [mS_iff, if_neg (by omega)] <;> first | rfl | omega) (by rw [mS_iff, if_neg (by omega)] <;> first | rfl | omega) (hx.s (by omega))
      · refine And.intro (rfl) ?_
        refine ct_201 (by omega) hx (by omega) (fun mf ft hy => ?_)
        have fr := ft.toG
        have hn1 := ft 41 53 (by omega)
        have hn3 := ft 41 55 (by omega)
        have hn4 := ft 41 56 (by omega)
        have b1 := bg.1
        unfold c_beg at b1
        rw [if_pos rfl, if_pos rfl, if_neg (by omega)] at hy
        have hx := hy
        refine And.intro (rfl) ?_
        refine And.intro (show -2147483648 ≤ (mf 41 55) + 1 ∧ (mf 41 55) + 1 ≤ 2147483647 by first | omega | (simp only [mS_iff, eq_self, Int.reduceEq, true_and, and_true, false_and, and_false, and_self, ↓reduceIte]; omega) | (simp only [mS_iff, eq_self, Int.reduceEq, true_and, and_true, false_and, and_false, and_self, ↓reduceIte] at *; omega)) ?_
        refine And.intro (rfl) ?_
        exact hQd rfl bg (by omega) _ (fr.trans fr_G.n) (by rw [mS_iff, if_pos ⟨rfl, rfl⟩] <;> omega) (by rw [mS_iff, if_neg (by omega)] <;> first | rfl | omega) (by rw [mS_iff, if_neg (by omega)] <;> first | rfl | omega) (hx.s (by omega))
    · have bg := h1
      refine And.intro (fun h => absurd h (by decide)) (fun _ => ?_)
      refine And.intro (rfl) ?_
      refine ct_201 (by omega) hx (by omega) (fun mf ft hy => ?_)
      have fr := ft.toG
      have hn1 := ft 41 53 (by omega)
      have hn3 := ft 41 55 (by omega)
      have hn4 := ft 41 56 (by omega)
      have hy : mTx mf L K A V E N q (x_wr (K q)) (A q) := by unfold x_wr; rw [if_pos rfl, if_pos rfl] at hy; exact hy
      have hx := hy
      refine And.intro (rfl) ?_
      refine And.intro (show -2147483648 ≤ (mf 41 55) + 1 ∧ (mf 41 55) + 1 ≤ 2147483647 by first | omega | (simp only [mS_iff, eq_self, Int.reduceEq, true_and, and_true, false_and, and_false, and_self, ↓reduceIte]; omega) | (simp only [mS_iff, eq_self, Int.reduceEq, true_and, and_true, false_and, and_false, and_self, ↓reduceIte] at *; omega)) ?_
      refine And.intro (rfl) ?_
      exact hQw rfl bg _ (fr.trans fr_G.n) (by rw [mS_iff, if_pos ⟨rfl, rfl⟩] <;> omega) (by rw [mS_iff, if_neg (by omega)] <;> first | rfl | omega) (by rw [mS_iff, if_neg (by omega)] <;> first | rfl | omega) (hx.s (by omega))
  · skip
    refine am_in rfl hd (fun d hd => ?_)
    refine am_go 400 [] (am_wpc_cm _ _ _) wf_284 ?_
    refine And.intro (rfl) ?_
    refine ct_285_1 (by omega) hx w5 (fun _ => ?_) (fun h => absurd h f0) (fun h => absurd h f0)
    refine And.intro (fun h => absurd h (by decide)) (fun _ => ?_)
    refine And.intro (rfl) ?_
    refine ct_201 (by omega) hx (by omega) (fun mf ft hy => ?_)
    have fr := ft.toG
    have hn1 := ft 41 53 (by omega)
    have hn3 := ft 41 55 (by omega)
    have hn4 := ft 41 56 (by omega)
    rw [if_neg f0, if_neg f0] at hy
    have hx := hy
    refine And.intro (rfl) ?_
    refine And.intro (show -2147483648 ≤ (mf 41 55) + 1 ∧ (mf 41 55) + 1 ≤ 2147483647 by first | omega | (simp only [mS_iff, eq_self, Int.reduceEq, true_and, and_true, false_and, and_false, and_self, ↓reduceIte]; omega) | (simp only [mS_iff, eq_self, Int.reduceEq, true_and, and_true, false_and, and_false, and_self, ↓reduceIte] at *; omega)) ?_
    refine And.intro (rfl) ?_
    exact hQf f0 _ (fr.trans fr_G.n) (by rw [mS_iff, if_pos ⟨rfl, rfl⟩] <;> omega) (by rw [mS_iff, if_neg (by omega)] <;> first | rfl | omega) (by rw [mS_iff, if_neg (by omega)] <;> first | rfl | omega) (hx.s (by omega))
theorem fr_G.c {m : aM} : fr_G m (mS m 41 56 (m 41 56 + 1)) := by
  have e1 : mS m 41 56 (m 41 56 + 1) 41 53 = m 41 53 := by rw [mS_iff, if_neg (by omega)]
  have e2 : mS m 41 56 (m 41 56 + 1) 41 56 = m 41 56 + 1 := by rw [mS_iff, if_pos ⟨Eq.refl _, Eq.refl _⟩]
  exact ⟨by omega, fun x j u _ => by rw [mS_iff, if_neg (by omega)]⟩
theorem ct_288 {d : Nat} {m : aM} {Q : aO → aM → Prop} {L N q p : Int} {K A V E : Int → Int} (hd : 2 ≤ d) (hx : mTx m L K A V E N q 0 p) (k72 : K q ≠ 72) (hk : 0 ≤ m 41 56 ∧ m 41 56 ≤ 24) (hQ1 : ¬ 24 ≤ m 41 56 → ∀ m', fr_G m m' → m' 41 56 = m 41 56 + 1 → m' 41 53 = m 41 53 → m' 41 55 = m 41 55 → mTx m' L K A V E N q 0 p → Q (.inl none) m') (hQ0 : 24 ≤ m 41 56 → ∀ m', fr_G m m' → m' 41 56 = m 41 56 + 1 → m' 41 53 = m 41 53 → m' 41 55 = m 41 55 → mTx m' L K A V E N q 5 (A q) → Q (.inl none) m') : am_wpc am_G am_T d 288 [aR 41] m Q := by
  refine am_in rfl hd (fun d hd => ?_)
  refine am_go 400 [] (am_wpc_cm _ _ _) wf_288 ?_
  refine And.intro (rfl) ?_
  refine And.intro (fun h1 => ?_) (fun h1 => ?_)
  · refine And.intro (rfl) ?_
    refine And.intro (show -2147483648 ≤ (m 41 56) + 1 ∧ (m 41 56) + 1 ≤ 2147483647 by first | omega | (simp only [mS_iff, eq_self, Int.reduceEq, true_and, and_true, false_and, and_false, and_self, ↓reduceIte]; omega) | (simp only [mS_iff, eq_self, Int.reduceEq, true_and, and_true, false_and, and_false, and_self, ↓reduceIte] at *; omega)) ?_
    refine And.intro (rfl) ?_
    exact hQ1 (by omega) _ fr_G.c (by rw [mS_iff, if_pos ⟨rfl, rfl⟩] <;> omega) (by rw [mS_iff, if_neg (by omega)] <;> first | rfl | omega) (by rw [mS_iff, if_neg (by omega)] <;> first | rfl | omega) (hx.s (by omega))
  · refine And.intro (rfl) ?_
    refine ct_201 (by omega) hx (by omega) (fun mf ft hy => ?_)
    have fr := ft.toG
    have hn1 := ft 41 53 (by omega)
    have hn3 := ft 41 55 (by omega)
    have hn4 := ft 41 56 (by omega)
    rw [if_pos rfl, if_pos rfl, if_neg k72] at hy
    have hx := hy
    refine And.intro (rfl) ?_
    refine And.intro (show -2147483648 ≤ (mf 41 56) + 1 ∧ (mf 41 56) + 1 ≤ 2147483647 by first | omega | (simp only [mS_iff, eq_self, Int.reduceEq, true_and, and_true, false_and, and_false, and_self, ↓reduceIte]; omega) | (simp only [mS_iff, eq_self, Int.reduceEq, true_and, and_true, false_and, and_false, and_self, ↓reduceIte] at *; omega)) ?_
    refine And.intro (rfl) ?_
    exact hQ0 (by omega) _ (fr.trans fr_G.c) (by rw [mS_iff, if_pos ⟨rfl, rfl⟩] <;> omega) (by rw [mS_iff, if_neg (by omega)] <;> first | rfl | omega) (by rw [mS_iff, if_neg (by omega)] <;> first | rfl | omega) (hx.s (by omega))
theorem ct_289 {d : Nat} {m : aM} {Q : aO → aM → Prop} {k a o t : Int} (hd : 1 ≤ d) (hb : 0 ≤ m 41 54 ∧ m 41 54 ≤ 1140) (hp : 0 ≤ m 41 53 ∧ m 41 53 < 60) (hQ : ∀ m', mPt m m' k a o t → Q (.inl (some (aI (m 41 54 + m 41 53)))) m') : am_wpc am_G am_T d 289 [aR 41, aI k, aI a, aI o, aI t] m Q := by
  refine am_in rfl hd (fun d hd => ?_)
  refine am_go 400 [] (am_wpc_cm _ _ _) wf_289 ?_
  refine And.intro (rfl) ?_
  refine And.intro (rfl) ?_
  refine And.intro (show -2147483648 ≤ (m 41 54) + (m 41 53) ∧ (m 41 54) + (m 41 53) ≤ 2147483647 by first | omega | (simp only [mS_iff, eq_self, Int.reduceEq, true_and, and_true, false_and, and_false, and_self, ↓reduceIte]; omega) | (simp only [mS_iff, eq_self, Int.reduceEq, true_and, and_true, false_and, and_false, and_self, ↓reduceIte] at *; omega)) ?_
  refine And.intro (rfl) ?_
  refine And.intro (fun h => absurd h (by first | omega | (simp only [mS_iff, eq_self, Int.reduceEq, true_and, and_true, false_and, and_false, and_self, ↓reduceIte]; omega) | (simp only [mS_iff, eq_self, Int.reduceEq, true_and, and_true, false_and, and_false, and_self, ↓reduceIte] at *; omega))) (fun _ => ?_)
  refine And.intro (rfl) ?_
  refine And.intro (⟨rfl, by first | omega | (simp only [mS_iff, eq_self, Int.reduceEq, true_and, and_true, false_and, and_false, and_self, ↓reduceIte]; omega) | (simp only [mS_iff, eq_self, Int.reduceEq, true_and, and_true, false_and, and_false, and_self, ↓reduceIte] at *; omega)⟩) ?_
  refine And.intro (rfl) ?_
  refine And.intro (⟨rfl, by first | omega | (simp only [mS_iff, eq_self, Int.reduceEq, true_and, and_true, false_and, and_false, and_self, ↓reduceIte]; omega) | (simp only [mS_iff, eq_self, Int.reduceEq, true_and, and_true, false_and, and_false, and_self, ↓reduceIte] at *; omega)⟩) ?_
  refine And.intro (rfl) ?_
  refine And.intro (⟨rfl, by first | omega | (simp only [mS_iff, eq_self, Int.reduceEq, true_and, and_true, false_and, and_false, and_self, ↓reduceIte]; omega) | (simp only [mS_iff, eq_self, Int.reduceEq, true_and, and_true, false_and, and_false, and_self, ↓reduceIte] at *; omega)⟩) ?_
  refine And.intro (rfl) ?_
  refine And.intro (⟨rfl, by first | omega | (simp only [mS_iff, eq_self, Int.reduceEq, true_and, and_true, false_and, and_false, and_self, ↓reduceIte]; omega) | (simp only [mS_iff, eq_self, Int.reduceEq, true_and, and_true, false_and, and_false, and_self, ↓reduceIte] at *; omega)⟩) ?_
  refine And.intro (rfl) ?_
  refine And.intro (show -2147483648 ≤ (m 41 53) + 1 ∧ (m 41 53) + 1 ≤ 2147483647 by first | omega | (simp only [mS_iff, eq_self, Int.reduceEq, true_and, and_true, false_and, and_false, and_self, ↓reduceIte]; omega) | (simp only [mS_iff, eq_self, Int.reduceEq, true_and, and_true, false_and, and_false, and_self, ↓reduceIte] at *; omega)) ?_
  refine And.intro (rfl) ?_
  exact hQ _ ⟨fun x j u v => by rw [mS_iff, if_neg (by omega), mS_iff, if_neg (by omega), mS_iff, if_neg (by omega), mS_iff, if_neg (by omega), mS_iff, if_neg (by omega)], by simp only [mS_iff, eq_self, Int.reduceEq, true_and, and_true, false_and, and_false, and_self, ↓reduceIte], by simp only [mS_iff, eq_self, Int.reduceEq, true_and, and_true, false_and, and_false, and_self, ↓reduceIte], by simp only [mS_iff, eq_self, Int.reduceEq, true_and, and_true, false_and, and_false, and_self, ↓reduceIte], by simp only [mS_iff, eq_self, Int.reduceEq, true_and, and_true, false_and, and_false, and_self, ↓reduceIte], by simp only [mS_iff, eq_self, Int.reduceEq, true_and, and_true, false_and, and_false, and_self, ↓reduceIte]⟩
theorem ct_296 {d : Nat} {m : aM} {Q : aO → aM → Prop} {k a o t : Int} (hd : 2 ≤ d) (hk : 0 ≤ k ∧ k ≤ 200) (hb : (0 ≤ m 41 54 ∧ m 41 54 ≤ 1140) ∧ 0 ≤ m 41 53 ∧ m 41 53 < 60) (hQ : ∀ m', mPt m m' (100 + k) a o t → Q (.inl (some (aI (m 41 54 + m 41 53)))) m') : am_wpc am_G am_T d 296 [aR 41, aI k, aI a, aI o, aI t] m Q := by
  refine am_in rfl hd (fun d hd => ?_)
  refine am_go 400 [] (am_wpc_cm _ _ _) wf_296 ?_
  refine And.intro (rfl) ?_
  refine ct_289 (by omega) (by omega) (by omega) (fun mp hp => ?_)
  refine And.intro (rfl) ?_
  refine And.intro (show -2147483648 ≤ 100 + k ∧ 100 + k ≤ 2147483647 by first | omega | (simp only [mS_iff, eq_self, Int.reduceEq, true_and, and_true, false_and, and_false, and_self, ↓reduceIte]; omega) | (simp only [mS_iff, eq_self, Int.reduceEq, true_and, and_true, false_and, and_false, and_self, ↓reduceIte] at *; omega)) ?_
  refine And.intro (⟨rfl, by first | omega | (simp only [mS_iff, eq_self, Int.reduceEq, true_and, and_true, false_and, and_false, and_self, ↓reduceIte]; omega) | (simp only [mS_iff, eq_self, Int.reduceEq, true_and, and_true, false_and, and_false, and_self, ↓reduceIte] at *; omega)⟩) ?_
  exact hQ _ ⟨fun x j u v => by rw [mS_iff, if_neg (by omega)]; exact hp.1 x j u v, by rw [mS_iff, if_neg (by omega)]; exact hp.2.1, by rw [mS_iff, if_pos ⟨rfl, rfl⟩], by rw [mS_iff, if_neg (by omega)]; exact hp.2.2.2.1, by rw [mS_iff, if_neg (by omega)]; exact hp.2.2.2.2.1, by rw [mS_iff, if_neg (by omega)]; exact hp.2.2.2.2.2⟩
/-- the parser y of the reference tells what the spec's mode j says, at fuel n -/
def mCa (L : Int) (K A V E : Int → Int) (N : Int) (y : Nat) (j rk off : Int) (n : Nat) : Prop := ∀ (d : Nat) (m : aM) (Q : aO → aM → Prop) (dep q f p : Int) (g0 : aD), 5 * (16 - dep) + rk + 10 ≤ (d : Int) → mTx m L K A V E N q f p → mW5 m → m 41 55 = dep + off → (0 ≤ dep ∧ dep ≤ 16 ∧ (j = 0 ∨ j = 2 ∨ j = 9 → dep ≤ 15) ∧ (j = 5 ∨ j = 7 → dep ≤ 14) ∧ (f = 0 → dep ≤ 15 ∧ (j = 2 ∨ j = 5 ∨ j = 7 → dep ≤ 14))) → ((0 ≤ m 41 54 ∧ m 41 54 ≤ 1140) ∧ 0 ≤ m 41 53 ∧ m 41 53 ≤ m 41 56 ∧ m 41 56 ≤ 25) → (f = 0 → m 41 56 ≤ 24) → 20 * (N - q) + (10 - j) ≤ (n : Int) →
  (f ≠ 0 → ∀ m' v, fr_G m m' → (m' 41 53 = m 41 53 ∧ m' 41 55 = m 41 55 ∧ m' 41 56 = m 41 56) → mTx m' L K A V E N q f p → Q (.inl (some (aI v))) m') →
  (f = 0 → ∀ c pl, c_x K A V n j dep q (m 41 56) g0 = .inl (c, pl) → ∀ m' v q', fr_G m m' → mTx m' L K A V E N q' c pl → c ≠ 0 → q ≤ q' → (m' 41 55 = m 41 55 ∧ m' 41 56 ≤ 25) → Q (.inl (some (aI v))) m') →
  (f = 0 → ∀ q' k' g, c_x K A V n j dep q (m 41 56) g0 = .inr (q', k', g) → ∀ m' v, fr_G m m' → mTx m' L K A V E N q' 0 p → m' 41 55 = m 41 55 → m' 41 56 = k' → (m 41 56 < k' ∧ k' ≤ 24) → m' 41 53 = m 41 53 + (k' - m 41 56) → q < q' → mNd m' (m 41 54) (m 41 54 + m' 41 53) v g (k' - m 41 56) → Q (.inl (some (aI v))) m') → am_wpc am_G am_T d y [aR 41] m Q
def mCP (L : Int) (K A V E : Int → Int) (N : Int) (n : Nat) : Prop := mCa L K A V E N 283 0 3 0 n ∧ mCa L K A V E N 286 2 2 1 n ∧ mCa L K A V E N 287 4 4 0 n ∧ mCa L K A V E N 291 5 2 1 n ∧ mCa L K A V E N 292 7 1 1 n ∧ mCa L K A V E N 293 9 2 0 n
theorem mNd.cv {m : aM} {lo hi lo' hi' t p p' : Int} {f : aD} (h : mNd m lo hi t f p) (a : lo = lo') (b : hi = hi') (c : p = p') : mNd m lo' hi' t f p' := by subst a b c; exact h
