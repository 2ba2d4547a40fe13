/-! needs: a15 -/
/-! CONTRACTS: a field of the reference; by tools/gena16.py -/
set_option maxRecDepth 100000
set_option maxHeartbeats 8000000
theorem ct_203f {d : Nat} {m : aM} {Q : aO → aM → Prop} {n : Int} {K A V E : Int → Int} {N q f p : Int} (hd : 5 ≤ d) (hx : mTx m n K A V E N q f p) (nz : f ≠ 0) (wr0 : mWr m) {c b : Int} (fg : mFg m c b) (hQ : ∀ m', fr_Y 3300 3305 m m' → mTx m' n K A V E N q f p → mFg m' c b → Q (.inl none) m') : am_wpc am_G am_T d 203 [aR 41] m Q := by
  have fr := fr_Y.rfl 3300 3305 m
  refine am_in rfl hd (fun d hd => ?_)
  refine am_go 400 [] (am_wpc_cm _ _ _) wf_203 ?_
  refine And.intro (rfl) ?_
  refine And.intro (rfl) ?_
  refine And.intro (rfl) ?_
  refine ct_204 (by omega) hx (wr0.fr fr).a45 (fun _ k4 mw3 hm hy => ?_) (fun h => absurd h nz) (fun h => absurd h nz)
  have fg := fg.M hm
  have fr := fr.M hm
  have hx := hy
  refine And.intro (⟨rfl, by first | omega | (simp only [mS_iff, eq_self, Int.reduceEq, true_and, and_true, false_and, and_false, and_self, ↓reduceIte]; omega) | (simp only [mS_iff, eq_self, Int.reduceEq, true_and, and_true, false_and, and_false, and_self, ↓reduceIte] at *; omega)⟩) ?_
  have fg := fg.p (i := 3303) (v := k4)
  have fr := fr.p (i := 3303) (v := k4) (by omega)
  have hx := hx.p42 (i := 3303) (v := k4)
  obtain ⟨mw9, h10⟩ : ∃ z, z = (mS mw3 42 3303 k4) := ⟨_, rfl⟩
  rw [← h10] at hx fr fg ⊢
  refine And.intro (rfl) ?_
  refine ct_205 (w := 34) (by omega) hx (by omega) (by decide +kernel) (fun _ mw11 h12 h13 => ?_) (fun h => absurd h nz) (fun h => absurd h nz)
  have fg := fg.M h12
  have fr := fr.M h12
  have hx := h13
  refine And.intro (rfl) ?_
  refine And.intro (rfl) ?_
  refine And.intro (rfl) ?_
  refine ct_204 (by omega) hx (wr0.fr fr).a45 (fun _ k18 mw17 hm hy => ?_) (fun h => absurd h nz) (fun h => absurd h nz)
  have fg := fg.M hm
  have fr := fr.M hm
  have hx := hy
  refine And.intro (⟨rfl, by first | omega | (simp only [mS_iff, eq_self, Int.reduceEq, true_and, and_true, false_and, and_false, and_self, ↓reduceIte]; omega) | (simp only [mS_iff, eq_self, Int.reduceEq, true_and, and_true, false_and, and_false, and_self, ↓reduceIte] at *; omega)⟩) ?_
  have fg := fg.p (i := 3304) (v := k18)
  have fr := fr.p (i := 3304) (v := k18) (by omega)
  have hx := hx.p42 (i := 3304) (v := k18)
  obtain ⟨mw23, h24⟩ : ∃ z, z = (mS mw17 42 3304 k18) := ⟨_, rfl⟩
  rw [← h24] at hx fr fg ⊢
  exact hQ _ fr hx fg
/-- what is told of a field, as it is read and as it is meant -/
def p_raw (x w : Int → Int) : Prop := ∀ k, 0 ≤ k → k < 5 → w k = if 0 < x 0 ∧ x 3 = x 4 then (if k = 3 then x 3 else if k = 4 then -1 else 0) else x k
def p_bl (k : Int) : Int := if k = 4 then -1 else 0
theorem p_raw_two {s l n a b : Int} (hs : 0 < s) {x : Int → Int} (x0 : x 0 = s) (x1 : x 1 = l) (x2 : x 2 = n) (x3 : x 3 = a) (x4 : x 4 = b) : p_raw x (p_mk s l n a b) := fun k k0 k1 => by
  have hk : k = 0 ∨ k = 1 ∨ k = 2 ∨ k = 3 ∨ k = 4 := by omega
  by_cases e : a = b
  · rcases hk with rfl | rfl | rfl | rfl | rfl <;> simp [p_mk, x0, x1, x2, x3, x4, e, hs]
  · rcases hk with rfl | rfl | rfl | rfl | rfl <;> simp [p_mk, x0, x1, x2, x3, x4, e, hs]
theorem mTx.vb {m : aM} {n : Int} {K A V E : Int → Int} {N q f p : Int} (hx : mTx m n K A V E N q f p) : 0 ≤ V q ∧ V q ≤ 9999 := by
  have h := hx.2.2.1.2.2.1 q hx.2.2.2.1.1 hx.2.2.2.1.2
  have := x_tk_k h
  omega
theorem ct_197 {d : Nat} {m : aM} {Q : aO → aM → Prop} {n : Int} {K A V E : Int → Int} {N q p : Int} (hd : 6 ≤ d) (hx : mTx m n K A V E N q 0 p) (wr0 : mWr m) {c b : Int} (fg : mFg m c b) (sg : mSg m 3300 5 p_bl) (hQe : ∀ m' q' f' p', fr_Y 3300 3305 m m' → mTx m' n K A V E N q' f' p' → mFg m' c b → f' ≠ 0 → p_field K A V q = .inl (f', p') → Q (.inl none) m') (hQ : ∀ m' q' x w, fr_Y 3300 3305 m m' → mTx m' n K A V E N q' 0 p → mFg m' c b → p_field K A V q = .inr (q', w) → mSg m' 3300 5 x → p_raw x w → Q (.inl none) m') : am_wpc am_G am_T d 197 [aR 41] m Q := by
  have fr := fr_Y.rfl 3300 3305 m
  refine am_in rfl hd (fun d hd => ?_)
  refine am_go 400 [] (am_wpc_cm _ _ _) wf_197 ?_
  refine And.intro (rfl) ?_
  refine ct_198 (w := 33) (by omega) hx (by omega) (by decide +kernel) (fun _ h1 => ?_) (fun h1 => ?_)
  · refine And.intro (fun h => absurd h (by decide)) (fun _ => ?_)
    refine And.intro (rfl) ?_
    refine ct_199 (by omega) hx (fun _ => by first | omega | (have := hx.2.2.2.2.2.2.1 rfl; have := this.2.2.1; have := this.1; have := this.2.1; omega)) (fun h => absurd rfl h) (fun _ mw2 h3 h4 => ?_)
    have sg := sg.M h3
    have fg := fg.M h3
    have fr := fr.M h3
    have hx := h4
    refine And.intro (rfl) ?_
    refine And.intro (fun h5 => ?_) (fun h5 => ?_)
    · have hk1 := fun (w : Int) (a : 0 ≤ w) (b : w < 67) => hx.k1 (by omega) (w := w) a b
      refine And.intro (fun h => absurd h (by decide)) (fun _ => ?_)
      refine And.intro (rfl) ?_
      refine ct_201 (by omega) hx (by omega) (fun mw6 h7 h8 => ?_)
      have sg := sg.M h7
      have fg := fg.M h7
      have fr := fr.M h7
      have hx : mTx mw6 n K A V E N (q + 1) (x_wr (K (q + 1))) (A (q + 1)) := by unfold x_wr; rw [if_pos rfl, if_pos rfl] at h8; exact h8
      have nz : (x_wr (K (q + 1))) ≠ (0 : Int) := by first | omega | (unfold x_wr; omega)
      refine And.intro (rfl) ?_
      refine ct_199 (by omega) hx (fun h => absurd h nz) (fun _ => ?_) (fun h => absurd h nz)
      refine And.intro (rfl) ?_
      refine And.intro (show -2147483648 ≤ 1 + (-1) ∧ 1 + (-1) ≤ 2147483647 by first | omega | (simp only [mS_iff, eq_self, Int.reduceEq, true_and, and_true, false_and, and_false, and_self, ↓reduceIte]; omega) | (simp only [mS_iff, eq_self, Int.reduceEq, true_and, and_true, false_and, and_false, and_self, ↓reduceIte] at *; omega)) ?_
      rw [show (1 : Int) + -1 = 0 from rfl]
      refine And.intro (⟨rfl, by first | omega | (simp only [mS_iff, eq_self, Int.reduceEq, true_and, and_true, false_and, and_false, and_self, ↓reduceIte]; omega) | (simp only [mS_iff, eq_self, Int.reduceEq, true_and, and_true, false_and, and_false, and_self, ↓reduceIte] at *; omega)⟩) ?_
      have sg := sg.p (j := 0) (v := 0) (i := 3300) (by omega) (by omega)
      have fg := fg.p (i := 3300) (v := 0)
      have fr := fr.p (i := 3300) (v := 0) (by omega)
      have hx := hx.p42 (i := 3300) (v := 0)
      obtain ⟨mw9, h10⟩ : ∃ z, z = (mS mw6 42 3300 0) := ⟨_, rfl⟩
      rw [← h10] at hx fr sg fg ⊢
      refine And.intro (rfl) ?_
      refine And.intro (rfl) ?_
      refine ct_202 (by omega) hx (fun _ => ?_) (fun h => absurd h nz)
      refine And.intro (⟨rfl, by first | omega | (simp only [mS_iff, eq_self, Int.reduceEq, true_and, and_true, false_and, and_false, and_self, ↓reduceIte]; omega) | (simp only [mS_iff, eq_self, Int.reduceEq, true_and, and_true, false_and, and_false, and_self, ↓reduceIte] at *; omega)⟩) ?_
      have sg := sg.p (j := 1) (v := 0) (i := 3301) (by omega) (by omega)
      have fg := fg.p (i := 3301) (v := 0)
      have fr := fr.p (i := 3301) (v := 0) (by omega)
      have hx := hx.p42 (i := 3301) (v := 0)
      obtain ⟨mw14, h15⟩ : ∃ z, z = (mS mw9 42 3301 0) := ⟨_, rfl⟩
      rw [← h15] at hx fr sg fg ⊢
      refine And.intro (rfl) ?_
      refine ct_203f (by omega) hx nz (wr0.fr fr) fg (fun mw16 h21 h22 fg => ?_)
      have fr := fr.trans h21
      have hx := h22
      skip
      exact hQe _ _ _ _ fr hx fg nz (p_f2e (by omega) (fun z => hk1 (K (q + 1)) (by omega) (by omega) rfl))
    · refine And.intro (rfl) ?_
      refine And.intro (rfl) ?_
      refine ct_200 (by omega) ⟨(wr0.fr fr).a48b.1.1, by have := (wr0.fr fr).a48b.1.2; omega⟩ (by omega) (fun k26 h27 h28 h29 h30 => ?_) (fun h27 => ?_)
      · have ek26 := hx.ky (wr0.fr fr).a48b (by first | omega | exact hx.kk (by omega) (by omega)) h27 h28 h29 h30
        have bk26 := And.intro h27 h28
        refine And.intro (fun h31 => ?_) (fun h31 => ?_)
        · refine And.intro (rfl) ?_
          refine ct_199 (by omega) hx (fun _ => by first | omega | (have := hx.2.2.2.2.2.2.1 rfl; have := this.2.2.1; have := this.1; have := this.2.1; omega)) (fun h => absurd rfl h) (fun _ mw32 h33 h34 => ?_)
          have sg := sg.M h33
          have fg := fg.M h33
          have fr := fr.M h33
          have hx := h34
          refine And.intro (rfl) ?_
          refine And.intro (show -2147483648 ≤ 1 + k26 ∧ 1 + k26 ≤ 2147483647 by first | omega | (simp only [mS_iff, eq_self, Int.reduceEq, true_and, and_true, false_and, and_false, and_self, ↓reduceIte]; omega) | (simp only [mS_iff, eq_self, Int.reduceEq, true_and, and_true, false_and, and_false, and_self, ↓reduceIte] at *; omega)) ?_
          skip
          refine And.intro (⟨rfl, by first | omega | (simp only [mS_iff, eq_self, Int.reduceEq, true_and, and_true, false_and, and_false, and_self, ↓reduceIte]; omega) | (simp only [mS_iff, eq_self, Int.reduceEq, true_and, and_true, false_and, and_false, and_self, ↓reduceIte] at *; omega)⟩) ?_
          have sg := sg.p (j := 0) (v := (1 + k26)) (i := 3300) (by omega) (by omega)
          have fg := fg.p (i := 3300) (v := (1 + k26))
          have fr := fr.p (i := 3300) (v := (1 + k26)) (by omega)
          have hx := hx.p42 (i := 3300) (v := (1 + k26))
          obtain ⟨mw35, h36⟩ : ∃ z, z = (mS mw32 42 3300 (1 + k26)) := ⟨_, rfl⟩
          rw [← h36] at hx fr sg fg ⊢
          refine And.intro (rfl) ?_
          refine And.intro (rfl) ?_
          refine ct_202 (by omega) hx (fun h => absurd rfl h) (fun _ mw37 h38 h39 => ?_)
          have sg := sg.M h38
          have fg := fg.M h38
          have fr := fr.M h38
          have hx := h39
          refine And.intro (⟨rfl, by first | omega | (simp only [mS_iff, eq_self, Int.reduceEq, true_and, and_true, false_and, and_false, and_self, ↓reduceIte]; omega) | (simp only [mS_iff, eq_self, Int.reduceEq, true_and, and_true, false_and, and_false, and_self, ↓reduceIte] at *; omega)⟩) ?_
          have sg := sg.p (j := 1) (v := ((p_ln K ((q + 1) + 1)).2)) (i := 3301) (by omega) (by omega)
          have fg := fg.p (i := 3301) (v := ((p_ln K ((q + 1) + 1)).2))
          have fr := fr.p (i := 3301) (v := ((p_ln K ((q + 1) + 1)).2)) (by omega)
          have hx := hx.p42 (i := 3301) (v := ((p_ln K ((q + 1) + 1)).2))
          obtain ⟨mw40, h41⟩ : ∃ z, z = (mS mw37 42 3301 ((p_ln K ((q + 1) + 1)).2)) := ⟨_, rfl⟩
          rw [← h41] at hx fr sg fg ⊢
          refine And.intro (rfl) ?_
          refine ct_203 (by omega) hx (wr0.fr fr) fg (show mw40 42 3300 = (1 + k26) by have := sg 0 (by omega) (by omega); simpa [p_up, p_bl] using this) (show mw40 42 3301 = ((p_ln K ((q + 1) + 1)).2) by have := sg 1 (by omega) (by omega); simpa [p_up, p_bl] using this) (show mw40 42 3302 = 0 by have := sg 2 (by omega) (by omega); simpa [p_up, p_bl] using this) (fun mw42 q44 f45 p46 h47 h48 fg h49 h50 => ?_) (fun mw43 q44 ta tb h47 h48 fg h50 tab y0 y1 y2 y3 y4 => ?_)
          · have fr := fr.trans h47
            have hx := h48
            have nz := h49
            skip
            have e := p_f2 (A := A) (V := V) (by omega : K q = 33) (by omega : 25 ≤ K (q + 1) ∧ K (q + 1) < 29)
            rw [show (1 : Int) + (K (q + 1) - 25) = 1 + k26 by omega] at e
            exact hQe _ _ _ _ fr hx fg nz (e.trans h50)
          · have fr := fr.trans h47
            have hx := h48
            skip
            have e := p_f2 (A := A) (V := V) (by omega : K q = 33) (by omega : 25 ≤ K (q + 1) ∧ K (q + 1) < 29)
            rw [show (1 : Int) + (K (q + 1) - 25) = 1 + k26 by omega] at e
            refine hQ _ _ (fun k => if k = 0 then _ else if k = 1 then _ else if k = 2 then _ else if k = 3 then ta else tb) _ fr hx fg (e.trans h50) (fun j j0 j1 => ?_) (p_raw_two (by omega) rfl rfl rfl rfl rfl)
            have hk : j = 0 ∨ j = 1 ∨ j = 2 ∨ j = 3 ∨ j = 4 := by omega
            rcases hk with rfl | rfl | rfl | rfl | rfl
            · exact y0
            · exact y1
            · exact y2
            · exact y3
            · exact y4
        · refine And.intro (rfl) ?_
          refine ct_201 (by omega) hx (by omega) (fun mw52 h53 h54 => ?_)
          have sg := sg.M h53
          have fg := fg.M h53
          have fr := fr.M h53
          have hx : mTx mw52 n K A V E N (q + 1) (x_wr (K (q + 1))) (A (q + 1)) := by unfold x_wr; rw [if_pos rfl, if_pos rfl] at h54; exact h54
          have nz : (x_wr (K (q + 1))) ≠ (0 : Int) := by first | omega | (unfold x_wr; omega)
          refine And.intro (rfl) ?_
          refine ct_199 (by omega) hx (fun h => absurd h nz) (fun _ => ?_) (fun h => absurd h nz)
          refine And.intro (rfl) ?_
          refine And.intro (show -2147483648 ≤ 1 + k26 ∧ 1 + k26 ≤ 2147483647 by first | omega | (simp only [mS_iff, eq_self, Int.reduceEq, true_and, and_true, false_and, and_false, and_self, ↓reduceIte]; omega) | (simp only [mS_iff, eq_self, Int.reduceEq, true_and, and_true, false_and, and_false, and_self, ↓reduceIte] at *; omega)) ?_
          skip
          refine And.intro (⟨rfl, by first | omega | (simp only [mS_iff, eq_self, Int.reduceEq, true_and, and_true, false_and, and_false, and_self, ↓reduceIte]; omega) | (simp only [mS_iff, eq_self, Int.reduceEq, true_and, and_true, false_and, and_false, and_self, ↓reduceIte] at *; omega)⟩) ?_
          have sg := sg.p (j := 0) (v := (1 + k26)) (i := 3300) (by omega) (by omega)
          have fg := fg.p (i := 3300) (v := (1 + k26))
          have fr := fr.p (i := 3300) (v := (1 + k26)) (by omega)
          have hx := hx.p42 (i := 3300) (v := (1 + k26))
          obtain ⟨mw55, h56⟩ : ∃ z, z = (mS mw52 42 3300 (1 + k26)) := ⟨_, rfl⟩
          rw [← h56] at hx fr sg fg ⊢
          refine And.intro (rfl) ?_
          refine And.intro (rfl) ?_
          refine ct_202 (by omega) hx (fun _ => ?_) (fun h => absurd h nz)
          refine And.intro (⟨rfl, by first | omega | (simp only [mS_iff, eq_self, Int.reduceEq, true_and, and_true, false_and, and_false, and_self, ↓reduceIte]; omega) | (simp only [mS_iff, eq_self, Int.reduceEq, true_and, and_true, false_and, and_false, and_self, ↓reduceIte] at *; omega)⟩) ?_
          have sg := sg.p (j := 1) (v := 0) (i := 3301) (by omega) (by omega)
          have fg := fg.p (i := 3301) (v := 0)
          have fr := fr.p (i := 3301) (v := 0) (by omega)
          have hx := hx.p42 (i := 3301) (v := 0)
          obtain ⟨mw60, h61⟩ : ∃ z, z = (mS mw55 42 3301 0) := ⟨_, rfl⟩
          rw [← h61] at hx fr sg fg ⊢
          refine And.intro (rfl) ?_
          refine ct_203f (by omega) hx nz (wr0.fr fr) fg (fun mw62 h67 h68 fg => ?_)
          have fr := fr.trans h67
          have hx := h68
          skip
          exfalso
          omega
      · have nk := hx.kn (wr0.fr fr).a48b h27
        refine And.intro (fun h => absurd h (by decide)) (fun _ => ?_)
        refine And.intro (rfl) ?_
        refine ct_201 (by omega) hx (by omega) (fun mw72 h73 h74 => ?_)
        have sg := sg.M h73
        have fg := fg.M h73
        have fr := fr.M h73
        have hx : mTx mw72 n K A V E N (q + 1) (x_wr (K (q + 1))) (A (q + 1)) := by unfold x_wr; rw [if_pos rfl, if_pos rfl] at h74; exact h74
        have nz : (x_wr (K (q + 1))) ≠ (0 : Int) := by first | omega | (unfold x_wr; omega)
        refine And.intro (rfl) ?_
        refine ct_199 (by omega) hx (fun h => absurd h nz) (fun _ => ?_) (fun h => absurd h nz)
        refine And.intro (rfl) ?_
        refine And.intro (show -2147483648 ≤ 1 + (-1) ∧ 1 + (-1) ≤ 2147483647 by first | omega | (simp only [mS_iff, eq_self, Int.reduceEq, true_and, and_true, false_and, and_false, and_self, ↓reduceIte]; omega) | (simp only [mS_iff, eq_self, Int.reduceEq, true_and, and_true, false_and, and_false, and_self, ↓reduceIte] at *; omega)) ?_
        rw [show (1 : Int) + -1 = 0 from rfl]
        refine And.intro (⟨rfl, by first | omega | (simp only [mS_iff, eq_self, Int.reduceEq, true_and, and_true, false_and, and_false, and_self, ↓reduceIte]; omega) | (simp only [mS_iff, eq_self, Int.reduceEq, true_and, and_true, false_and, and_false, and_self, ↓reduceIte] at *; omega)⟩) ?_
        have sg := sg.p (j := 0) (v := 0) (i := 3300) (by omega) (by omega)
        have fg := fg.p (i := 3300) (v := 0)
        have fr := fr.p (i := 3300) (v := 0) (by omega)
        have hx := hx.p42 (i := 3300) (v := 0)
        obtain ⟨mw75, h76⟩ : ∃ z, z = (mS mw72 42 3300 0) := ⟨_, rfl⟩
        rw [← h76] at hx fr sg fg ⊢
        refine And.intro (rfl) ?_
        refine And.intro (rfl) ?_
        refine ct_202 (by omega) hx (fun _ => ?_) (fun h => absurd h nz)
        refine And.intro (⟨rfl, by first | omega | (simp only [mS_iff, eq_self, Int.reduceEq, true_and, and_true, false_and, and_false, and_self, ↓reduceIte]; omega) | (simp only [mS_iff, eq_self, Int.reduceEq, true_and, and_true, false_and, and_false, and_self, ↓reduceIte] at *; omega)⟩) ?_
        have sg := sg.p (j := 1) (v := 0) (i := 3301) (by omega) (by omega)
        have fg := fg.p (i := 3301) (v := 0)
        have fr := fr.p (i := 3301) (v := 0) (by omega)
        have hx := hx.p42 (i := 3301) (v := 0)
        obtain ⟨mw80, h81⟩ : ∃ z, z = (mS mw75 42 3301 0) := ⟨_, rfl⟩
        rw [← h81] at hx fr sg fg ⊢
        refine And.intro (rfl) ?_
        refine ct_203f (by omega) hx nz (wr0.fr fr) fg (fun mw82 h87 h88 fg => ?_)
        have fr := fr.trans h87
        have hx := h88
        skip
        exact hQe _ _ _ _ fr hx fg nz (p_f2e (by omega) (fun z => nk (K (q + 1) - 25) (by omega) (by omega) (by omega)))
  · refine And.intro (fun _ => ?_) (fun h => absurd h (by decide))
    refine And.intro (rfl) ?_
    refine ct_198 (w := 35) (by omega) hx (by omega) (by decide +kernel) (fun _ h92 => ?_) (fun h92 => ?_)
    · refine And.intro (fun _ => ?_) (fun h => absurd h (by decide))
      refine And.intro (rfl) ?_
      refine And.intro (rfl) ?_
      refine ct_198 (w := 35) (by omega) hx (by omega) (by decide +kernel) (fun _ h93 => ?_) (fun h93 => ?_)
      · refine And.intro (fun h => absurd h (by decide)) (fun _ => ?_)
        refine And.intro (⟨rfl, by first | omega | (simp only [mS_iff, eq_self, Int.reduceEq, true_and, and_true, false_and, and_false, and_self, ↓reduceIte]; omega) | (simp only [mS_iff, eq_self, Int.reduceEq, true_and, and_true, false_and, and_false, and_self, ↓reduceIte] at *; omega)⟩) ?_
        have sg := sg.p (j := 0) (v := 5) (i := 3300) (by omega) (by omega)
        have fg := fg.p (i := 3300) (v := 5)
        have fr := fr.p (i := 3300) (v := 5) (by omega)
        have hx := hx.p42 (i := 3300) (v := 5)
        obtain ⟨mw94, h95⟩ : ∃ z, z = (mS m 42 3300 5) := ⟨_, rfl⟩
        rw [← h95] at hx fr sg fg ⊢
        refine And.intro (rfl) ?_
        refine ct_199 (by omega) hx (fun _ => by first | omega | (have := hx.2.2.2.2.2.2.1 rfl; have := this.2.2.1; have := this.1; have := this.2.1; omega)) (fun h => absurd rfl h) (fun _ mw96 h97 h98 => ?_)
        have sg := sg.M h97
        have fg := fg.M h97
        have fr := fr.M h97
        have hx := h98
        refine And.intro (rfl) ?_
        refine ct_203 (by omega) hx (wr0.fr fr) fg (show mw96 42 3300 = 5 by have := sg 0 (by omega) (by omega); simpa [p_up, p_bl] using this) (show mw96 42 3301 = 0 by have := sg 1 (by omega) (by omega); simpa [p_up, p_bl] using this) (show mw96 42 3302 = 0 by have := sg 2 (by omega) (by omega); simpa [p_up, p_bl] using this) (fun mw99 q101 f102 p103 h104 h105 fg h106 h107 => ?_) (fun mw100 q101 ta tb h104 h105 fg h107 tab y0 y1 y2 y3 y4 => ?_)
        · have fr := fr.trans h104
          have hx := h105
          have nz := h106
          skip
          have e := p_f3 (A := A) (V := V) (by omega : K q = 35)
          exact hQe _ _ _ _ fr hx fg nz (e.trans h107)
        · have fr := fr.trans h104
          have hx := h105
          skip
          have e := p_f3 (A := A) (V := V) (by omega : K q = 35)
          refine hQ _ _ (fun k => if k = 0 then _ else if k = 1 then _ else if k = 2 then _ else if k = 3 then ta else tb) _ fr hx fg (e.trans h107) (fun j j0 j1 => ?_) (p_raw_two (by omega) rfl rfl rfl rfl rfl)
          have hk : j = 0 ∨ j = 1 ∨ j = 2 ∨ j = 3 ∨ j = 4 := by omega
          rcases hk with rfl | rfl | rfl | rfl | rfl
          · exact y0
          · exact y1
          · exact y2
          · exact y3
          · exact y4
      · refine And.intro (fun _ => ?_) (fun h => absurd h (by decide))
        refine And.intro (⟨rfl, by first | omega | (simp only [mS_iff, eq_self, Int.reduceEq, true_and, and_true, false_and, and_false, and_self, ↓reduceIte]; omega) | (simp only [mS_iff, eq_self, Int.reduceEq, true_and, and_true, false_and, and_false, and_self, ↓reduceIte] at *; omega)⟩) ?_
        have sg := sg.p (j := 0) (v := 9) (i := 3300) (by omega) (by omega)
        have fg := fg.p (i := 3300) (v := 9)
        have fr := fr.p (i := 3300) (v := 9) (by omega)
        have hx := hx.p42 (i := 3300) (v := 9)
        obtain ⟨mw109, h110⟩ : ∃ z, z = (mS m 42 3300 9) := ⟨_, rfl⟩
        rw [← h110] at hx fr sg fg ⊢
        refine And.intro (rfl) ?_
        refine ct_199 (by omega) hx (fun _ => by first | omega | (have := hx.2.2.2.2.2.2.1 rfl; have := this.2.2.1; have := this.1; have := this.2.1; omega)) (fun h => absurd rfl h) (fun _ mw111 h112 h113 => ?_)
        have sg := sg.M h112
        have fg := fg.M h112
        have fr := fr.M h112
        have hx := h113
        refine And.intro (rfl) ?_
        refine ct_203 (by omega) hx (wr0.fr fr) fg (show mw111 42 3300 = 9 by have := sg 0 (by omega) (by omega); simpa [p_up, p_bl] using this) (show mw111 42 3301 = 0 by have := sg 1 (by omega) (by omega); simpa [p_up, p_bl] using this) (show mw111 42 3302 = 0 by have := sg 2 (by omega) (by omega); simpa [p_up, p_bl] using this) (fun mw114 q116 f117 p118 h119 h120 fg h121 h122 => ?_) (fun mw115 q116 ta tb h119 h120 fg h122 tab y0 y1 y2 y3 y4 => ?_)
        · have fr := fr.trans h119
          have hx := h120
          have nz := h121
          skip
          exfalso
          omega
        · have fr := fr.trans h119
          have hx := h120
          skip
          exfalso
          omega
    · refine And.intro (fun h => absurd h (by decide)) (fun _ => ?_)
      refine And.intro (rfl) ?_
      refine ct_198 (w := 39) (by omega) hx (by omega) (by decide +kernel) (fun _ h124 => ?_) (fun h124 => ?_)
      · refine And.intro (fun h => absurd h (by decide)) (fun _ => ?_)
        refine And.intro (rfl) ?_
        refine And.intro (rfl) ?_
        refine ct_198 (w := 35) (by omega) hx (by omega) (by decide +kernel) (fun _ h125 => ?_) (fun h125 => ?_)
        · refine And.intro (fun h => absurd h (by decide)) (fun _ => ?_)
          refine And.intro (⟨rfl, by first | omega | (simp only [mS_iff, eq_self, Int.reduceEq, true_and, and_true, false_and, and_false, and_self, ↓reduceIte]; omega) | (simp only [mS_iff, eq_self, Int.reduceEq, true_and, and_true, false_and, and_false, and_self, ↓reduceIte] at *; omega)⟩) ?_
          have sg := sg.p (j := 0) (v := 5) (i := 3300) (by omega) (by omega)
          have fg := fg.p (i := 3300) (v := 5)
          have fr := fr.p (i := 3300) (v := 5) (by omega)
          have hx := hx.p42 (i := 3300) (v := 5)
          obtain ⟨mw126, h127⟩ : ∃ z, z = (mS m 42 3300 5) := ⟨_, rfl⟩
          rw [← h127] at hx fr sg fg ⊢
          refine And.intro (rfl) ?_
          refine ct_199 (by omega) hx (fun _ => by first | omega | (have := hx.2.2.2.2.2.2.1 rfl; have := this.2.2.1; have := this.1; have := this.2.1; omega)) (fun h => absurd rfl h) (fun _ mw128 h129 h130 => ?_)
          have sg := sg.M h129
          have fg := fg.M h129
          have fr := fr.M h129
          have hx := h130
          refine And.intro (rfl) ?_
          refine ct_203 (by omega) hx (wr0.fr fr) fg (show mw128 42 3300 = 5 by have := sg 0 (by omega) (by omega); simpa [p_up, p_bl] using this) (show mw128 42 3301 = 0 by have := sg 1 (by omega) (by omega); simpa [p_up, p_bl] using this) (show mw128 42 3302 = 0 by have := sg 2 (by omega) (by omega); simpa [p_up, p_bl] using this) (fun mw131 q133 f134 p135 h136 h137 fg h138 h139 => ?_) (fun mw132 q133 ta tb h136 h137 fg h139 tab y0 y1 y2 y3 y4 => ?_)
          · have fr := fr.trans h136
            have hx := h137
            have nz := h138
            skip
            exfalso
            omega
          · have fr := fr.trans h136
            have hx := h137
            skip
            exfalso
            omega
        · refine And.intro (fun _ => ?_) (fun h => absurd h (by decide))
          refine And.intro (⟨rfl, by first | omega | (simp only [mS_iff, eq_self, Int.reduceEq, true_and, and_true, false_and, and_false, and_self, ↓reduceIte]; omega) | (simp only [mS_iff, eq_self, Int.reduceEq, true_and, and_true, false_and, and_false, and_self, ↓reduceIte] at *; omega)⟩) ?_
          have sg := sg.p (j := 0) (v := 9) (i := 3300) (by omega) (by omega)
          have fg := fg.p (i := 3300) (v := 9)
          have fr := fr.p (i := 3300) (v := 9) (by omega)
          have hx := hx.p42 (i := 3300) (v := 9)
          obtain ⟨mw141, h142⟩ : ∃ z, z = (mS m 42 3300 9) := ⟨_, rfl⟩
          rw [← h142] at hx fr sg fg ⊢
          refine And.intro (rfl) ?_
          refine ct_199 (by omega) hx (fun _ => by first | omega | (have := hx.2.2.2.2.2.2.1 rfl; have := this.2.2.1; have := this.1; have := this.2.1; omega)) (fun h => absurd rfl h) (fun _ mw143 h144 h145 => ?_)
          have sg := sg.M h144
          have fg := fg.M h144
          have fr := fr.M h144
          have hx := h145
          refine And.intro (rfl) ?_
          refine ct_203 (by omega) hx (wr0.fr fr) fg (show mw143 42 3300 = 9 by have := sg 0 (by omega) (by omega); simpa [p_up, p_bl] using this) (show mw143 42 3301 = 0 by have := sg 1 (by omega) (by omega); simpa [p_up, p_bl] using this) (show mw143 42 3302 = 0 by have := sg 2 (by omega) (by omega); simpa [p_up, p_bl] using this) (fun mw146 q148 f149 p150 h151 h152 fg h153 h154 => ?_) (fun mw147 q148 ta tb h151 h152 fg h154 tab y0 y1 y2 y3 y4 => ?_)
          · have fr := fr.trans h151
            have hx := h152
            have nz := h153
            skip
            have e := p_f6 (A := A) (V := V) (by omega : K q = 39)
            rw [show (6 : Int) + (K q - 36) = 9 by omega] at e
            exact hQe _ _ _ _ fr hx fg nz (e.trans h154)
          · have fr := fr.trans h151
            have hx := h152
            skip
            have e := p_f6 (A := A) (V := V) (by omega : K q = 39)
            rw [show (6 : Int) + (K q - 36) = 9 by omega] at e
            refine hQ _ _ (fun k => if k = 0 then _ else if k = 1 then _ else if k = 2 then _ else if k = 3 then ta else tb) _ fr hx fg (e.trans h154) (fun j j0 j1 => ?_) (p_raw_two (by omega) rfl rfl rfl rfl rfl)
            have hk : j = 0 ∨ j = 1 ∨ j = 2 ∨ j = 3 ∨ j = 4 := by omega
            rcases hk with rfl | rfl | rfl | rfl | rfl
            · exact y0
            · exact y1
            · exact y2
            · exact y3
            · exact y4
      · refine And.intro (fun _ => ?_) (fun h => absurd h (by decide))
        refine And.intro (rfl) ?_
        refine ct_198 (w := 36) (by omega) hx (by omega) (by decide +kernel) (fun _ h156 => ?_) (fun h156 => ?_)
        · refine And.intro (fun _ => ?_) (fun h => absurd h (by decide))
          refine And.intro (rfl) ?_
          refine And.intro (rfl) ?_
          refine ct_198 (w := 36) (by omega) hx (by omega) (by decide +kernel) (fun _ h157 => ?_) (fun h157 => ?_)
          · refine And.intro (fun h => absurd h (by decide)) (fun _ => ?_)
            refine And.intro (⟨rfl, by first | omega | (simp only [mS_iff, eq_self, Int.reduceEq, true_and, and_true, false_and, and_false, and_self, ↓reduceIte]; omega) | (simp only [mS_iff, eq_self, Int.reduceEq, true_and, and_true, false_and, and_false, and_self, ↓reduceIte] at *; omega)⟩) ?_
            have sg := sg.p (j := 0) (v := 6) (i := 3300) (by omega) (by omega)
            have fg := fg.p (i := 3300) (v := 6)
            have fr := fr.p (i := 3300) (v := 6) (by omega)
            have hx := hx.p42 (i := 3300) (v := 6)
            obtain ⟨mw158, h159⟩ : ∃ z, z = (mS m 42 3300 6) := ⟨_, rfl⟩
            rw [← h159] at hx fr sg fg ⊢
            refine And.intro (rfl) ?_
            refine And.intro (⟨rfl, by first | omega | (simp only [mS_iff, eq_self, Int.reduceEq, true_and, and_true, false_and, and_false, and_self, ↓reduceIte]; omega) | (simp only [mS_iff, eq_self, Int.reduceEq, true_and, and_true, false_and, and_false, and_self, ↓reduceIte] at *; omega)⟩) ?_
            have sg := sg.p (j := 2) (v := 6) (i := 3302) (by omega) (by omega)
            have fg := fg.p (i := 3302) (v := 6)
            have fr := fr.p (i := 3302) (v := 6) (by omega)
            have hx := hx.p42 (i := 3302) (v := 6)
            obtain ⟨mw160, h161⟩ : ∃ z, z = (mS mw158 42 3302 6) := ⟨_, rfl⟩
            rw [← h161] at hx fr sg fg ⊢
            refine And.intro (rfl) ?_
            refine ct_199 (by omega) hx (fun _ => by first | omega | (have := hx.2.2.2.2.2.2.1 rfl; have := this.2.2.1; have := this.1; have := this.2.1; omega)) (fun h => absurd rfl h) (fun _ mw162 h163 h164 => ?_)
            have sg := sg.M h163
            have fg := fg.M h163
            have fr := fr.M h163
            have hx := h164
            refine And.intro (rfl) ?_
            refine ct_198 (w := 40) (by omega) hx (by omega) (by decide +kernel) (fun _ h165 => ?_) (fun h165 => ?_)
            · refine And.intro (fun h => absurd h (by decide)) (fun _ => ?_)
              refine And.intro (rfl) ?_
              refine ct_199 (by omega) hx (fun _ => by first | omega | (have := hx.2.2.2.2.2.2.1 rfl; have := this.2.2.1; have := this.1; have := this.2.1; omega)) (fun h => absurd rfl h) (fun _ mw166 h167 h168 => ?_)
              have sg := sg.M h167
              have fg := fg.M h167
              have fr := fr.M h167
              have hx := h168
              have kn := hx.k2.1
              refine And.intro (rfl) ?_
              refine And.intro (fun h169 => ?_) (fun h169 => ?_)
              · have kq := hx.k2.1.mpr (by omega)
                have vq := hx.k2.2.1 kq
                have vb := hx.vb
                have lr : am_lrem (mw166 41 15) 2 = V (q + 1 + 1) % 2 := by rw [am_lrem_eq (by omega) (by omega), vq]
                refine And.intro (rfl) ?_
                refine And.intro (fun h170 => ?_) (fun h170 => ?_)
                · replace h170 := am_lc_lt.mp h170
                  refine And.intro (rfl) ?_
                  refine ct_201 (by omega) hx (by omega) (fun mw171 h172 h173 => ?_)
                  have sg := sg.M h172
                  have fg := fg.M h172
                  have fr := fr.M h172
                  have hx : mTx mw171 n K A V E N ((q + 1) + 1) 3 (A ((q + 1) + 1)) := by rw [if_pos rfl, if_pos rfl, if_neg (by omega)] at h173; exact h173
                  have nz : 3 ≠ (0 : Int) := by first | omega | (unfold x_wr; omega)
                  refine And.intro (rfl) ?_
                  refine And.intro (rfl) ?_
                  skip
                  refine And.intro (⟨rfl, by first | omega | (simp only [mS_iff, eq_self, Int.reduceEq, true_and, and_true, false_and, and_false, and_self, ↓reduceIte]; omega) | (simp only [mS_iff, eq_self, Int.reduceEq, true_and, and_true, false_and, and_false, and_self, ↓reduceIte] at *; omega)⟩) ?_
                  have sg := sg.p (j := 2) (v := (am_l2i (mw171 41 15))) (i := 3302) (by omega) (by omega)
                  have fg := fg.p (i := 3302) (v := (am_l2i (mw171 41 15)))
                  have fr := fr.p (i := 3302) (v := (am_l2i (mw171 41 15))) (by omega)
                  have hx := hx.p42 (i := 3302) (v := (am_l2i (mw171 41 15)))
                  obtain ⟨mw174, h175⟩ : ∃ z, z = (mS mw171 42 3302 (am_l2i (mw171 41 15))) := ⟨_, rfl⟩
                  rw [← h175] at hx fr sg fg ⊢
                  refine And.intro (rfl) ?_
                  refine ct_199 (by omega) hx (fun h => absurd h nz) (fun _ => ?_) (fun h => absurd h nz)
                  refine And.intro (rfl) ?_
                  refine ct_203f (by omega) hx nz (wr0.fr fr) fg (fun mw176 h181 h182 fg => ?_)
                  have fr := fr.trans h181
                  have hx := h182
                  skip
                  have e := p_f7 (A := A) (V := V) (by omega : 36 ≤ K q ∧ K q < 39) (by omega : K (q + 1) = 40)
                  refine hQe _ _ _ _ fr hx fg nz ?_
                  rw [e]
                  exact p_bd_l (by unfold p_num; rw [if_pos (by omega), if_pos (by omega)])
                · replace h170 := am_lc_ge.mp h170
                  refine And.intro (rfl) ?_
                  refine And.intro (fun h186 => ?_) (fun h186 => ?_)
                  · replace h186 := am_lc_gt.mp h186
                    refine And.intro (rfl) ?_
                    refine ct_201 (by omega) hx (by omega) (fun mw187 h188 h189 => ?_)
                    have sg := sg.M h188
                    have fg := fg.M h188
                    have fr := fr.M h188
                    have hx : mTx mw187 n K A V E N ((q + 1) + 1) 3 (A ((q + 1) + 1)) := by rw [if_pos rfl, if_pos rfl, if_neg (by omega)] at h189; exact h189
                    have nz : 3 ≠ (0 : Int) := by first | omega | (unfold x_wr; omega)
                    refine And.intro (rfl) ?_
                    refine And.intro (rfl) ?_
                    skip
                    refine And.intro (⟨rfl, by first | omega | (simp only [mS_iff, eq_self, Int.reduceEq, true_and, and_true, false_and, and_false, and_self, ↓reduceIte]; omega) | (simp only [mS_iff, eq_self, Int.reduceEq, true_and, and_true, false_and, and_false, and_self, ↓reduceIte] at *; omega)⟩) ?_
                    have sg := sg.p (j := 2) (v := (am_l2i (mw187 41 15))) (i := 3302) (by omega) (by omega)
                    have fg := fg.p (i := 3302) (v := (am_l2i (mw187 41 15)))
                    have fr := fr.p (i := 3302) (v := (am_l2i (mw187 41 15))) (by omega)
                    have hx := hx.p42 (i := 3302) (v := (am_l2i (mw187 41 15)))
                    obtain ⟨mw190, h191⟩ : ∃ z, z = (mS mw187 42 3302 (am_l2i (mw187 41 15))) := ⟨_, rfl⟩
                    rw [← h191] at hx fr sg fg ⊢
                    refine And.intro (rfl) ?_
                    refine ct_199 (by omega) hx (fun h => absurd h nz) (fun _ => ?_) (fun h => absurd h nz)
                    refine And.intro (rfl) ?_
                    refine ct_203f (by omega) hx nz (wr0.fr fr) fg (fun mw192 h197 h198 fg => ?_)
                    have fr := fr.trans h197
                    have hx := h198
                    skip
                    have e := p_f7 (A := A) (V := V) (by omega : 36 ≤ K q ∧ K q < 39) (by omega : K (q + 1) = 40)
                    refine hQe _ _ _ _ fr hx fg nz ?_
                    rw [e]
                    exact p_bd_l (by unfold p_num; rw [if_pos (by omega), if_pos (by omega)])
                  · replace h186 := am_lc_le.mp h186
                    refine And.intro (rfl) ?_
                    refine And.intro (show 2 ≠ 0 by first | omega | (simp only [mS_iff, eq_self, Int.reduceEq, true_and, and_true, false_and, and_false, and_self, ↓reduceIte]; omega) | (simp only [mS_iff, eq_self, Int.reduceEq, true_and, and_true, false_and, and_false, and_self, ↓reduceIte] at *; omega)) ?_
                    refine And.intro (fun h202 => ?_) (fun h202 => ?_)
                    · replace h202 := am_lc_ne.mp h202
                      refine And.intro (rfl) ?_
                      refine And.intro (rfl) ?_
                      have lv : am_l2i (mw166 41 15) = V (q + 1 + 1) := by rw [am_l2i_eq (by omega)]; exact vq
                      refine And.intro (⟨rfl, by first | omega | (simp only [mS_iff, eq_self, Int.reduceEq, true_and, and_true, false_and, and_false, and_self, ↓reduceIte]; omega) | (simp only [mS_iff, eq_self, Int.reduceEq, true_and, and_true, false_and, and_false, and_self, ↓reduceIte] at *; omega)⟩) ?_
                      have sg := sg.p (j := 2) (v := (am_l2i (mw166 41 15))) (i := 3302) (by omega) (by omega)
                      have fg := fg.p (i := 3302) (v := (am_l2i (mw166 41 15)))
                      have fr := fr.p (i := 3302) (v := (am_l2i (mw166 41 15))) (by omega)
                      have hx := hx.p42 (i := 3302) (v := (am_l2i (mw166 41 15)))
                      obtain ⟨mw203, h204⟩ : ∃ z, z = (mS mw166 42 3302 (am_l2i (mw166 41 15))) := ⟨_, rfl⟩
                      rw [← h204] at hx fr sg fg ⊢
                      refine And.intro (rfl) ?_
                      refine ct_199 (by omega) hx (fun _ => by first | omega | (have := hx.2.2.2.2.2.2.1 rfl; have := this.2.2.1; have := this.1; have := this.2.1; omega)) (fun h => absurd rfl h) (fun _ mw205 h206 h207 => ?_)
                      have sg := sg.M h206
                      have fg := fg.M h206
                      have fr := fr.M h206
                      have hx := h207
                      refine And.intro (rfl) ?_
                      refine ct_203 (by omega) hx (wr0.fr fr) fg (show mw205 42 3300 = 6 by have := sg 0 (by omega) (by omega); simpa [p_up, p_bl] using this) (show mw205 42 3301 = 0 by have := sg 1 (by omega) (by omega); simpa [p_up, p_bl] using this) (show mw205 42 3302 = (am_l2i (mw166 41 15)) by have := sg 2 (by omega) (by omega); simpa [p_up, p_bl] using this) (fun mw208 q210 f211 p212 h213 h214 fg h215 h216 => ?_) (fun mw209 q210 ta tb h213 h214 fg h216 tab y0 y1 y2 y3 y4 => ?_)
                      · have fr := fr.trans h213
                        have hx := h214
                        have nz := h215
                        skip
                        have e := p_f7 (A := A) (V := V) (by omega : 36 ≤ K q ∧ K q < 39) (by omega : K (q + 1) = 40)
                        rw [p_bd_r (show p_num K A V 4 1 (q + 1 + 1) = .inr (q + 1 + 1 + 1, V (q + 1 + 1)) by unfold p_num; rw [if_pos (by omega), if_neg (by omega)]), ← lv] at e
                        rw [show (6 : Int) + (K q - 36) = 6 by omega] at e
                        exact hQe _ _ _ _ fr hx fg nz (e.trans h216)
                      · have fr := fr.trans h213
                        have hx := h214
                        skip
                        have e := p_f7 (A := A) (V := V) (by omega : 36 ≤ K q ∧ K q < 39) (by omega : K (q + 1) = 40)
                        rw [p_bd_r (show p_num K A V 4 1 (q + 1 + 1) = .inr (q + 1 + 1 + 1, V (q + 1 + 1)) by unfold p_num; rw [if_pos (by omega), if_neg (by omega)]), ← lv] at e
                        rw [show (6 : Int) + (K q - 36) = 6 by omega] at e
                        refine hQ _ _ (fun k => if k = 0 then _ else if k = 1 then _ else if k = 2 then _ else if k = 3 then ta else tb) _ fr hx fg (e.trans h216) (fun j j0 j1 => ?_) (p_raw_two (by omega) rfl rfl rfl rfl rfl)
                        have hk : j = 0 ∨ j = 1 ∨ j = 2 ∨ j = 3 ∨ j = 4 := by omega
                        rcases hk with rfl | rfl | rfl | rfl | rfl
                        · exact y0
                        · exact y1
                        · exact y2
                        · exact y3
                        · exact y4
                    · replace h202 := am_lc_eq.mp h202
                      refine And.intro (rfl) ?_
                      refine ct_201 (by omega) hx (by omega) (fun mw218 h219 h220 => ?_)
                      have sg := sg.M h219
                      have fg := fg.M h219
                      have fr := fr.M h219
                      have hx : mTx mw218 n K A V E N ((q + 1) + 1) 3 (A ((q + 1) + 1)) := by rw [if_pos rfl, if_pos rfl, if_neg (by omega)] at h220; exact h220
                      have nz : 3 ≠ (0 : Int) := by first | omega | (unfold x_wr; omega)
                      refine And.intro (rfl) ?_
                      refine And.intro (rfl) ?_
                      skip
                      refine And.intro (⟨rfl, by first | omega | (simp only [mS_iff, eq_self, Int.reduceEq, true_and, and_true, false_and, and_false, and_self, ↓reduceIte]; omega) | (simp only [mS_iff, eq_self, Int.reduceEq, true_and, and_true, false_and, and_false, and_self, ↓reduceIte] at *; omega)⟩) ?_
                      have sg := sg.p (j := 2) (v := (am_l2i (mw218 41 15))) (i := 3302) (by omega) (by omega)
                      have fg := fg.p (i := 3302) (v := (am_l2i (mw218 41 15)))
                      have fr := fr.p (i := 3302) (v := (am_l2i (mw218 41 15))) (by omega)
                      have hx := hx.p42 (i := 3302) (v := (am_l2i (mw218 41 15)))
                      obtain ⟨mw221, h222⟩ : ∃ z, z = (mS mw218 42 3302 (am_l2i (mw218 41 15))) := ⟨_, rfl⟩
                      rw [← h222] at hx fr sg fg ⊢
                      refine And.intro (rfl) ?_
                      refine ct_199 (by omega) hx (fun h => absurd h nz) (fun _ => ?_) (fun h => absurd h nz)
                      refine And.intro (rfl) ?_
                      refine ct_203f (by omega) hx nz (wr0.fr fr) fg (fun mw223 h228 h229 fg => ?_)
                      have fr := fr.trans h228
                      have hx := h229
                      skip
                      have e := p_f7 (A := A) (V := V) (by omega : 36 ≤ K q ∧ K q < 39) (by omega : K (q + 1) = 40)
                      refine hQe _ _ _ _ fr hx fg nz ?_
                      rw [e]
                      exact p_bd_l (by unfold p_num; rw [if_pos (by omega), if_pos (by omega)])
              · refine And.intro (rfl) ?_
                refine ct_201 (by omega) hx (by omega) (fun mw233 h234 h235 => ?_)
                have sg := sg.M h234
                have fg := fg.M h234
                have fr := fr.M h234
                have hx : mTx mw233 n K A V E N ((q + 1) + 1) (x_wr (K ((q + 1) + 1))) (A ((q + 1) + 1)) := by unfold x_wr; rw [if_pos rfl, if_pos rfl] at h235; exact h235
                have nz : (x_wr (K ((q + 1) + 1))) ≠ (0 : Int) := by first | omega | (unfold x_wr; omega)
                refine And.intro (rfl) ?_
                refine And.intro (rfl) ?_
                skip
                refine And.intro (⟨rfl, by first | omega | (simp only [mS_iff, eq_self, Int.reduceEq, true_and, and_true, false_and, and_false, and_self, ↓reduceIte]; omega) | (simp only [mS_iff, eq_self, Int.reduceEq, true_and, and_true, false_and, and_false, and_self, ↓reduceIte] at *; omega)⟩) ?_
                have sg := sg.p (j := 2) (v := (am_l2i (mw233 41 15))) (i := 3302) (by omega) (by omega)
                have fg := fg.p (i := 3302) (v := (am_l2i (mw233 41 15)))
                have fr := fr.p (i := 3302) (v := (am_l2i (mw233 41 15))) (by omega)
                have hx := hx.p42 (i := 3302) (v := (am_l2i (mw233 41 15)))
                obtain ⟨mw236, h237⟩ : ∃ z, z = (mS mw233 42 3302 (am_l2i (mw233 41 15))) := ⟨_, rfl⟩
                rw [← h237] at hx fr sg fg ⊢
                refine And.intro (rfl) ?_
                refine ct_199 (by omega) hx (fun h => absurd h nz) (fun _ => ?_) (fun h => absurd h nz)
                refine And.intro (rfl) ?_
                refine ct_203f (by omega) hx nz (wr0.fr fr) fg (fun mw238 h243 h244 fg => ?_)
                have fr := fr.trans h243
                have hx := h244
                skip
                have e := p_f7 (A := A) (V := V) (by omega : 36 ≤ K q ∧ K q < 39) (by omega : K (q + 1) = 40)
                refine hQe _ _ _ _ fr hx fg nz ?_
                rw [e]
                exact p_bd_l (by unfold p_num p_wr; rw [if_neg (by omega)])
            · refine And.intro (fun _ => ?_) (fun h => absurd h (by decide))
              refine And.intro (rfl) ?_
              refine ct_203 (by omega) hx (wr0.fr fr) fg (show mw162 42 3300 = 6 by have := sg 0 (by omega) (by omega); simpa [p_up, p_bl] using this) (show mw162 42 3301 = 0 by have := sg 1 (by omega) (by omega); simpa [p_up, p_bl] using this) (show mw162 42 3302 = 6 by have := sg 2 (by omega) (by omega); simpa [p_up, p_bl] using this) (fun mw248 q250 f251 p252 h253 h254 fg h255 h256 => ?_) (fun mw249 q250 ta tb h253 h254 fg h256 tab y0 y1 y2 y3 y4 => ?_)
              · have fr := fr.trans h253
                have hx := h254
                have nz := h255
                skip
                have e := p_f5 (A := A) (V := V) (by omega : 36 ≤ K q ∧ K q < 39) (by omega : K (q + 1) ≠ 40)
                rw [show (6 : Int) + (K q - 36) = 6 by omega] at e
                exact hQe _ _ _ _ fr hx fg nz (e.trans h256)
              · have fr := fr.trans h253
                have hx := h254
                skip
                have e := p_f5 (A := A) (V := V) (by omega : 36 ≤ K q ∧ K q < 39) (by omega : K (q + 1) ≠ 40)
                rw [show (6 : Int) + (K q - 36) = 6 by omega] at e
                refine hQ _ _ (fun k => if k = 0 then _ else if k = 1 then _ else if k = 2 then _ else if k = 3 then ta else tb) _ fr hx fg (e.trans h256) (fun j j0 j1 => ?_) (p_raw_two (by omega) rfl rfl rfl rfl rfl)
                have hk : j = 0 ∨ j = 1 ∨ j = 2 ∨ j = 3 ∨ j = 4 := by omega
                rcases hk with rfl | rfl | rfl | rfl | rfl
                · exact y0
                · exact y1
                · exact y2
                · exact y3
                · exact y4
          · refine And.intro (fun _ => ?_) (fun h => absurd h (by decide))
            refine And.intro (rfl) ?_
            refine ct_198 (w := 37) (by omega) hx (by omega) (by decide +kernel) (fun _ h258 => ?_) (fun h258 => ?_)
            · refine And.intro (fun h => absurd h (by decide)) (fun _ => ?_)
              refine And.intro (⟨rfl, by first | omega | (simp only [mS_iff, eq_self, Int.reduceEq, true_and, and_true, false_and, and_false, and_self, ↓reduceIte]; omega) | (simp only [mS_iff, eq_self, Int.reduceEq, true_and, and_true, false_and, and_false, and_self, ↓reduceIte] at *; omega)⟩) ?_
              have sg := sg.p (j := 0) (v := 7) (i := 3300) (by omega) (by omega)
              have fg := fg.p (i := 3300) (v := 7)
              have fr := fr.p (i := 3300) (v := 7) (by omega)
              have hx := hx.p42 (i := 3300) (v := 7)
              obtain ⟨mw259, h260⟩ : ∃ z, z = (mS m 42 3300 7) := ⟨_, rfl⟩
              rw [← h260] at hx fr sg fg ⊢
              refine And.intro (rfl) ?_
              refine And.intro (⟨rfl, by first | omega | (simp only [mS_iff, eq_self, Int.reduceEq, true_and, and_true, false_and, and_false, and_self, ↓reduceIte]; omega) | (simp only [mS_iff, eq_self, Int.reduceEq, true_and, and_true, false_and, and_false, and_self, ↓reduceIte] at *; omega)⟩) ?_
              have sg := sg.p (j := 2) (v := 6) (i := 3302) (by omega) (by omega)
              have fg := fg.p (i := 3302) (v := 6)
              have fr := fr.p (i := 3302) (v := 6) (by omega)
              have hx := hx.p42 (i := 3302) (v := 6)
              obtain ⟨mw261, h262⟩ : ∃ z, z = (mS mw259 42 3302 6) := ⟨_, rfl⟩
              rw [← h262] at hx fr sg fg ⊢
              refine And.intro (rfl) ?_
              refine ct_199 (by omega) hx (fun _ => by first | omega | (have := hx.2.2.2.2.2.2.1 rfl; have := this.2.2.1; have := this.1; have := this.2.1; omega)) (fun h => absurd rfl h) (fun _ mw263 h264 h265 => ?_)
              have sg := sg.M h264
              have fg := fg.M h264
              have fr := fr.M h264
              have hx := h265
              refine And.intro (rfl) ?_
              refine ct_198 (w := 40) (by omega) hx (by omega) (by decide +kernel) (fun _ h266 => ?_) (fun h266 => ?_)
              · refine And.intro (fun h => absurd h (by decide)) (fun _ => ?_)
                refine And.intro (rfl) ?_
                refine ct_199 (by omega) hx (fun _ => by first | omega | (have := hx.2.2.2.2.2.2.1 rfl; have := this.2.2.1; have := this.1; have := this.2.1; omega)) (fun h => absurd rfl h) (fun _ mw267 h268 h269 => ?_)
                have sg := sg.M h268
                have fg := fg.M h268
                have fr := fr.M h268
                have hx := h269
                have kn := hx.k2.1
                refine And.intro (rfl) ?_
                refine And.intro (fun h270 => ?_) (fun h270 => ?_)
                · have kq := hx.k2.1.mpr (by omega)
                  have vq := hx.k2.2.1 kq
                  have vb := hx.vb
                  have lr : am_lrem (mw267 41 15) 2 = V (q + 1 + 1) % 2 := by rw [am_lrem_eq (by omega) (by omega), vq]
                  refine And.intro (rfl) ?_
                  refine And.intro (fun h271 => ?_) (fun h271 => ?_)
                  · replace h271 := am_lc_lt.mp h271
                    refine And.intro (rfl) ?_
                    refine ct_201 (by omega) hx (by omega) (fun mw272 h273 h274 => ?_)
                    have sg := sg.M h273
                    have fg := fg.M h273
                    have fr := fr.M h273
                    have hx : mTx mw272 n K A V E N ((q + 1) + 1) 3 (A ((q + 1) + 1)) := by rw [if_pos rfl, if_pos rfl, if_neg (by omega)] at h274; exact h274
                    have nz : 3 ≠ (0 : Int) := by first | omega | (unfold x_wr; omega)
                    refine And.intro (rfl) ?_
                    refine And.intro (rfl) ?_
                    skip
                    refine And.intro (⟨rfl, by first | omega | (simp only [mS_iff, eq_self, Int.reduceEq, true_and, and_true, false_and, and_false, and_self, ↓reduceIte]; omega) | (simp only [mS_iff, eq_self, Int.reduceEq, true_and, and_true, false_and, and_false, and_self, ↓reduceIte] at *; omega)⟩) ?_
                    have sg := sg.p (j := 2) (v := (am_l2i (mw272 41 15))) (i := 3302) (by omega) (by omega)
                    have fg := fg.p (i := 3302) (v := (am_l2i (mw272 41 15)))
                    have fr := fr.p (i := 3302) (v := (am_l2i (mw272 41 15))) (by omega)
                    have hx := hx.p42 (i := 3302) (v := (am_l2i (mw272 41 15)))
                    obtain ⟨mw275, h276⟩ : ∃ z, z = (mS mw272 42 3302 (am_l2i (mw272 41 15))) := ⟨_, rfl⟩
                    rw [← h276] at hx fr sg fg ⊢
                    refine And.intro (rfl) ?_
                    refine ct_199 (by omega) hx (fun h => absurd h nz) (fun _ => ?_) (fun h => absurd h nz)
                    refine And.intro (rfl) ?_
                    refine ct_203f (by omega) hx nz (wr0.fr fr) fg (fun mw277 h282 h283 fg => ?_)
                    have fr := fr.trans h282
                    have hx := h283
                    skip
                    exfalso
                    omega
                  · replace h271 := am_lc_ge.mp h271
                    refine And.intro (rfl) ?_
                    refine And.intro (fun h287 => ?_) (fun h287 => ?_)
                    · replace h287 := am_lc_gt.mp h287
                      refine And.intro (rfl) ?_
                      refine ct_201 (by omega) hx (by omega) (fun mw288 h289 h290 => ?_)
                      have sg := sg.M h289
                      have fg := fg.M h289
                      have fr := fr.M h289
                      have hx : mTx mw288 n K A V E N ((q + 1) + 1) 3 (A ((q + 1) + 1)) := by rw [if_pos rfl, if_pos rfl, if_neg (by omega)] at h290; exact h290
                      have nz : 3 ≠ (0 : Int) := by first | omega | (unfold x_wr; omega)
                      refine And.intro (rfl) ?_
                      refine And.intro (rfl) ?_
                      skip
                      refine And.intro (⟨rfl, by first | omega | (simp only [mS_iff, eq_self, Int.reduceEq, true_and, and_true, false_and, and_false, and_self, ↓reduceIte]; omega) | (simp only [mS_iff, eq_self, Int.reduceEq, true_and, and_true, false_and, and_false, and_self, ↓reduceIte] at *; omega)⟩) ?_
                      have sg := sg.p (j := 2) (v := (am_l2i (mw288 41 15))) (i := 3302) (by omega) (by omega)
                      have fg := fg.p (i := 3302) (v := (am_l2i (mw288 41 15)))
                      have fr := fr.p (i := 3302) (v := (am_l2i (mw288 41 15))) (by omega)
                      have hx := hx.p42 (i := 3302) (v := (am_l2i (mw288 41 15)))
                      obtain ⟨mw291, h292⟩ : ∃ z, z = (mS mw288 42 3302 (am_l2i (mw288 41 15))) := ⟨_, rfl⟩
                      rw [← h292] at hx fr sg fg ⊢
                      refine And.intro (rfl) ?_
                      refine ct_199 (by omega) hx (fun h => absurd h nz) (fun _ => ?_) (fun h => absurd h nz)
                      refine And.intro (rfl) ?_
                      refine ct_203f (by omega) hx nz (wr0.fr fr) fg (fun mw293 h298 h299 fg => ?_)
                      have fr := fr.trans h298
                      have hx := h299
                      skip
                      exfalso
                      omega
                    · replace h287 := am_lc_le.mp h287
                      refine And.intro (rfl) ?_
                      refine And.intro (show 2 ≠ 0 by first | omega | (simp only [mS_iff, eq_self, Int.reduceEq, true_and, and_true, false_and, and_false, and_self, ↓reduceIte]; omega) | (simp only [mS_iff, eq_self, Int.reduceEq, true_and, and_true, false_and, and_false, and_self, ↓reduceIte] at *; omega)) ?_
                      refine And.intro (fun h303 => ?_) (fun h303 => ?_)
                      · replace h303 := am_lc_ne.mp h303
                        refine And.intro (rfl) ?_
                        refine And.intro (rfl) ?_
                        have lv : am_l2i (mw267 41 15) = V (q + 1 + 1) := by rw [am_l2i_eq (by omega)]; exact vq
                        refine And.intro (⟨rfl, by first | omega | (simp only [mS_iff, eq_self, Int.reduceEq, true_and, and_true, false_and, and_false, and_self, ↓reduceIte]; omega) | (simp only [mS_iff, eq_self, Int.reduceEq, true_and, and_true, false_and, and_false, and_self, ↓reduceIte] at *; omega)⟩) ?_
                        have sg := sg.p (j := 2) (v := (am_l2i (mw267 41 15))) (i := 3302) (by omega) (by omega)
                        have fg := fg.p (i := 3302) (v := (am_l2i (mw267 41 15)))
                        have fr := fr.p (i := 3302) (v := (am_l2i (mw267 41 15))) (by omega)
                        have hx := hx.p42 (i := 3302) (v := (am_l2i (mw267 41 15)))
                        obtain ⟨mw304, h305⟩ : ∃ z, z = (mS mw267 42 3302 (am_l2i (mw267 41 15))) := ⟨_, rfl⟩
                        rw [← h305] at hx fr sg fg ⊢
                        refine And.intro (rfl) ?_
                        refine ct_199 (by omega) hx (fun _ => by first | omega | (have := hx.2.2.2.2.2.2.1 rfl; have := this.2.2.1; have := this.1; have := this.2.1; omega)) (fun h => absurd rfl h) (fun _ mw306 h307 h308 => ?_)
                        have sg := sg.M h307
                        have fg := fg.M h307
                        have fr := fr.M h307
                        have hx := h308
                        refine And.intro (rfl) ?_
                        refine ct_203 (by omega) hx (wr0.fr fr) fg (show mw306 42 3300 = 7 by have := sg 0 (by omega) (by omega); simpa [p_up, p_bl] using this) (show mw306 42 3301 = 0 by have := sg 1 (by omega) (by omega); simpa [p_up, p_bl] using this) (show mw306 42 3302 = (am_l2i (mw267 41 15)) by have := sg 2 (by omega) (by omega); simpa [p_up, p_bl] using this) (fun mw309 q311 f312 p313 h314 h315 fg h316 h317 => ?_) (fun mw310 q311 ta tb h314 h315 fg h317 tab y0 y1 y2 y3 y4 => ?_)
                        · have fr := fr.trans h314
                          have hx := h315
                          have nz := h316
                          skip
                          exfalso
                          omega
                        · have fr := fr.trans h314
                          have hx := h315
                          skip
                          exfalso
                          omega
                      · replace h303 := am_lc_eq.mp h303
                        refine And.intro (rfl) ?_
                        refine ct_201 (by omega) hx (by omega) (fun mw319 h320 h321 => ?_)
                        have sg := sg.M h320
                        have fg := fg.M h320
                        have fr := fr.M h320
                        have hx : mTx mw319 n K A V E N ((q + 1) + 1) 3 (A ((q + 1) + 1)) := by rw [if_pos rfl, if_pos rfl, if_neg (by omega)] at h321; exact h321
                        have nz : 3 ≠ (0 : Int) := by first | omega | (unfold x_wr; omega)
                        refine And.intro (rfl) ?_
                        refine And.intro (rfl) ?_
                        skip
                        refine And.intro (⟨rfl, by first | omega | (simp only [mS_iff, eq_self, Int.reduceEq, true_and, and_true, false_and, and_false, and_self, ↓reduceIte]; omega) | (simp only [mS_iff, eq_self, Int.reduceEq, true_and, and_true, false_and, and_false, and_self, ↓reduceIte] at *; omega)⟩) ?_
                        have sg := sg.p (j := 2) (v := (am_l2i (mw319 41 15))) (i := 3302) (by omega) (by omega)
                        have fg := fg.p (i := 3302) (v := (am_l2i (mw319 41 15)))
                        have fr := fr.p (i := 3302) (v := (am_l2i (mw319 41 15))) (by omega)
                        have hx := hx.p42 (i := 3302) (v := (am_l2i (mw319 41 15)))
                        obtain ⟨mw322, h323⟩ : ∃ z, z = (mS mw319 42 3302 (am_l2i (mw319 41 15))) := ⟨_, rfl⟩
                        rw [← h323] at hx fr sg fg ⊢
                        refine And.intro (rfl) ?_
                        refine ct_199 (by omega) hx (fun h => absurd h nz) (fun _ => ?_) (fun h => absurd h nz)
                        refine And.intro (rfl) ?_
                        refine ct_203f (by omega) hx nz (wr0.fr fr) fg (fun mw324 h329 h330 fg => ?_)
                        have fr := fr.trans h329
                        have hx := h330
                        skip
                        exfalso
                        omega
                · refine And.intro (rfl) ?_
                  refine ct_201 (by omega) hx (by omega) (fun mw334 h335 h336 => ?_)
                  have sg := sg.M h335
                  have fg := fg.M h335
                  have fr := fr.M h335
                  have hx : mTx mw334 n K A V E N ((q + 1) + 1) (x_wr (K ((q + 1) + 1))) (A ((q + 1) + 1)) := by unfold x_wr; rw [if_pos rfl, if_pos rfl] at h336; exact h336
                  have nz : (x_wr (K ((q + 1) + 1))) ≠ (0 : Int) := by first | omega | (unfold x_wr; omega)
                  refine And.intro (rfl) ?_
                  refine And.intro (rfl) ?_
                  skip
                  refine And.intro (⟨rfl, by first | omega | (simp only [mS_iff, eq_self, Int.reduceEq, true_and, and_true, false_and, and_false, and_self, ↓reduceIte]; omega) | (simp only [mS_iff, eq_self, Int.reduceEq, true_and, and_true, false_and, and_false, and_self, ↓reduceIte] at *; omega)⟩) ?_
                  have sg := sg.p (j := 2) (v := (am_l2i (mw334 41 15))) (i := 3302) (by omega) (by omega)
                  have fg := fg.p (i := 3302) (v := (am_l2i (mw334 41 15)))
                  have fr := fr.p (i := 3302) (v := (am_l2i (mw334 41 15))) (by omega)
                  have hx := hx.p42 (i := 3302) (v := (am_l2i (mw334 41 15)))
                  obtain ⟨mw337, h338⟩ : ∃ z, z = (mS mw334 42 3302 (am_l2i (mw334 41 15))) := ⟨_, rfl⟩
                  rw [← h338] at hx fr sg fg ⊢
                  refine And.intro (rfl) ?_
                  refine ct_199 (by omega) hx (fun h => absurd h nz) (fun _ => ?_) (fun h => absurd h nz)
                  refine And.intro (rfl) ?_
                  refine ct_203f (by omega) hx nz (wr0.fr fr) fg (fun mw339 h344 h345 fg => ?_)
                  have fr := fr.trans h344
                  have hx := h345
                  skip
                  exfalso
                  omega
              · refine And.intro (fun _ => ?_) (fun h => absurd h (by decide))
                refine And.intro (rfl) ?_
                refine ct_203 (by omega) hx (wr0.fr fr) fg (show mw263 42 3300 = 7 by have := sg 0 (by omega) (by omega); simpa [p_up, p_bl] using this) (show mw263 42 3301 = 0 by have := sg 1 (by omega) (by omega); simpa [p_up, p_bl] using this) (show mw263 42 3302 = 6 by have := sg 2 (by omega) (by omega); simpa [p_up, p_bl] using this) (fun mw349 q351 f352 p353 h354 h355 fg h356 h357 => ?_) (fun mw350 q351 ta tb h354 h355 fg h357 tab y0 y1 y2 y3 y4 => ?_)
                · have fr := fr.trans h354
                  have hx := h355
                  have nz := h356
                  skip
                  exfalso
                  omega
                · have fr := fr.trans h354
                  have hx := h355
                  skip
                  exfalso
                  omega
            · refine And.intro (fun _ => ?_) (fun h => absurd h (by decide))
              refine And.intro (⟨rfl, by first | omega | (simp only [mS_iff, eq_self, Int.reduceEq, true_and, and_true, false_and, and_false, and_self, ↓reduceIte]; omega) | (simp only [mS_iff, eq_self, Int.reduceEq, true_and, and_true, false_and, and_false, and_self, ↓reduceIte] at *; omega)⟩) ?_
              have sg := sg.p (j := 0) (v := 8) (i := 3300) (by omega) (by omega)
              have fg := fg.p (i := 3300) (v := 8)
              have fr := fr.p (i := 3300) (v := 8) (by omega)
              have hx := hx.p42 (i := 3300) (v := 8)
              obtain ⟨mw359, h360⟩ : ∃ z, z = (mS m 42 3300 8) := ⟨_, rfl⟩
              rw [← h360] at hx fr sg fg ⊢
              refine And.intro (rfl) ?_
              refine And.intro (⟨rfl, by first | omega | (simp only [mS_iff, eq_self, Int.reduceEq, true_and, and_true, false_and, and_false, and_self, ↓reduceIte]; omega) | (simp only [mS_iff, eq_self, Int.reduceEq, true_and, and_true, false_and, and_false, and_self, ↓reduceIte] at *; omega)⟩) ?_
              have sg := sg.p (j := 2) (v := 6) (i := 3302) (by omega) (by omega)
              have fg := fg.p (i := 3302) (v := 6)
              have fr := fr.p (i := 3302) (v := 6) (by omega)
              have hx := hx.p42 (i := 3302) (v := 6)
              obtain ⟨mw361, h362⟩ : ∃ z, z = (mS mw359 42 3302 6) := ⟨_, rfl⟩
              rw [← h362] at hx fr sg fg ⊢
              refine And.intro (rfl) ?_
              refine ct_199 (by omega) hx (fun _ => by first | omega | (have := hx.2.2.2.2.2.2.1 rfl; have := this.2.2.1; have := this.1; have := this.2.1; omega)) (fun h => absurd rfl h) (fun _ mw363 h364 h365 => ?_)
              have sg := sg.M h364
              have fg := fg.M h364
              have fr := fr.M h364
              have hx := h365
              refine And.intro (rfl) ?_
              refine ct_198 (w := 40) (by omega) hx (by omega) (by decide +kernel) (fun _ h366 => ?_) (fun h366 => ?_)
              · refine And.intro (fun h => absurd h (by decide)) (fun _ => ?_)
                refine And.intro (rfl) ?_
                refine ct_199 (by omega) hx (fun _ => by first | omega | (have := hx.2.2.2.2.2.2.1 rfl; have := this.2.2.1; have := this.1; have := this.2.1; omega)) (fun h => absurd rfl h) (fun _ mw367 h368 h369 => ?_)
                have sg := sg.M h368
                have fg := fg.M h368
                have fr := fr.M h368
                have hx := h369
                have kn := hx.k2.1
                refine And.intro (rfl) ?_
                refine And.intro (fun h370 => ?_) (fun h370 => ?_)
                · have kq := hx.k2.1.mpr (by omega)
                  have vq := hx.k2.2.1 kq
                  have vb := hx.vb
                  have lr : am_lrem (mw367 41 15) 2 = V (q + 1 + 1) % 2 := by rw [am_lrem_eq (by omega) (by omega), vq]
                  refine And.intro (rfl) ?_
                  refine And.intro (fun h371 => ?_) (fun h371 => ?_)
                  · replace h371 := am_lc_lt.mp h371
                    refine And.intro (rfl) ?_
                    refine ct_201 (by omega) hx (by omega) (fun mw372 h373 h374 => ?_)
                    have sg := sg.M h373
                    have fg := fg.M h373
                    have fr := fr.M h373
                    have hx : mTx mw372 n K A V E N ((q + 1) + 1) 3 (A ((q + 1) + 1)) := by rw [if_pos rfl, if_pos rfl, if_neg (by omega)] at h374; exact h374
                    have nz : 3 ≠ (0 : Int) := by first | omega | (unfold x_wr; omega)
                    refine And.intro (rfl) ?_
                    refine And.intro (rfl) ?_
                    skip
                    refine And.intro (⟨rfl, by first | omega | (simp only [mS_iff, eq_self, Int.reduceEq, true_and, and_true, false_and, and_false, and_self, ↓reduceIte]; omega) | (simp only [mS_iff, eq_self, Int.reduceEq, true_and, and_true, false_and, and_false, and_self, ↓reduceIte] at *; omega)⟩) ?_
                    have sg := sg.p (j := 2) (v := (am_l2i (mw372 41 15))) (i := 3302) (by omega) (by omega)
                    have fg := fg.p (i := 3302) (v := (am_l2i (mw372 41 15)))
                    have fr := fr.p (i := 3302) (v := (am_l2i (mw372 41 15))) (by omega)
                    have hx := hx.p42 (i := 3302) (v := (am_l2i (mw372 41 15)))
                    obtain ⟨mw375, h376⟩ : ∃ z, z = (mS mw372 42 3302 (am_l2i (mw372 41 15))) := ⟨_, rfl⟩
                    rw [← h376] at hx fr sg fg ⊢
                    refine And.intro (rfl) ?_
                    refine ct_199 (by omega) hx (fun h => absurd h nz) (fun _ => ?_) (fun h => absurd h nz)
                    refine And.intro (rfl) ?_
                    refine ct_203f (by omega) hx nz (wr0.fr fr) fg (fun mw377 h382 h383 fg => ?_)
                    have fr := fr.trans h382
                    have hx := h383
                    skip
                    exfalso
                    omega
                  · replace h371 := am_lc_ge.mp h371
                    refine And.intro (rfl) ?_
                    refine And.intro (fun h387 => ?_) (fun h387 => ?_)
                    · replace h387 := am_lc_gt.mp h387
                      refine And.intro (rfl) ?_
                      refine ct_201 (by omega) hx (by omega) (fun mw388 h389 h390 => ?_)
                      have sg := sg.M h389
                      have fg := fg.M h389
                      have fr := fr.M h389
                      have hx : mTx mw388 n K A V E N ((q + 1) + 1) 3 (A ((q + 1) + 1)) := by rw [if_pos rfl, if_pos rfl, if_neg (by omega)] at h390; exact h390
                      have nz : 3 ≠ (0 : Int) := by first | omega | (unfold x_wr; omega)
                      refine And.intro (rfl) ?_
                      refine And.intro (rfl) ?_
                      skip
                      refine And.intro (⟨rfl, by first | omega | (simp only [mS_iff, eq_self, Int.reduceEq, true_and, and_true, false_and, and_false, and_self, ↓reduceIte]; omega) | (simp only [mS_iff, eq_self, Int.reduceEq, true_and, and_true, false_and, and_false, and_self, ↓reduceIte] at *; omega)⟩) ?_
                      have sg := sg.p (j := 2) (v := (am_l2i (mw388 41 15))) (i := 3302) (by omega) (by omega)
                      have fg := fg.p (i := 3302) (v := (am_l2i (mw388 41 15)))
                      have fr := fr.p (i := 3302) (v := (am_l2i (mw388 41 15))) (by omega)
                      have hx := hx.p42 (i := 3302) (v := (am_l2i (mw388 41 15)))
                      obtain ⟨mw391, h392⟩ : ∃ z, z = (mS mw388 42 3302 (am_l2i (mw388 41 15))) := ⟨_, rfl⟩
                      rw [← h392] at hx fr sg fg ⊢
                      refine And.intro (rfl) ?_
                      refine ct_199 (by omega) hx (fun h => absurd h nz) (fun _ => ?_) (fun h => absurd h nz)
                      refine And.intro (rfl) ?_
                      refine ct_203f (by omega) hx nz (wr0.fr fr) fg (fun mw393 h398 h399 fg => ?_)
                      have fr := fr.trans h398
                      have hx := h399
                      skip
                      exfalso
                      omega
                    · replace h387 := am_lc_le.mp h387
                      refine And.intro (rfl) ?_
                      refine And.intro (show 2 ≠ 0 by first | omega | (simp only [mS_iff, eq_self, Int.reduceEq, true_and, and_true, false_and, and_false, and_self, ↓reduceIte]; omega) | (simp only [mS_iff, eq_self, Int.reduceEq, true_and, and_true, false_and, and_false, and_self, ↓reduceIte] at *; omega)) ?_
                      refine And.intro (fun h403 => ?_) (fun h403 => ?_)
                      · replace h403 := am_lc_ne.mp h403
                        refine And.intro (rfl) ?_
                        refine And.intro (rfl) ?_
                        have lv : am_l2i (mw367 41 15) = V (q + 1 + 1) := by rw [am_l2i_eq (by omega)]; exact vq
                        refine And.intro (⟨rfl, by first | omega | (simp only [mS_iff, eq_self, Int.reduceEq, true_and, and_true, false_and, and_false, and_self, ↓reduceIte]; omega) | (simp only [mS_iff, eq_self, Int.reduceEq, true_and, and_true, false_and, and_false, and_self, ↓reduceIte] at *; omega)⟩) ?_
                        have sg := sg.p (j := 2) (v := (am_l2i (mw367 41 15))) (i := 3302) (by omega) (by omega)
                        have fg := fg.p (i := 3302) (v := (am_l2i (mw367 41 15)))
                        have fr := fr.p (i := 3302) (v := (am_l2i (mw367 41 15))) (by omega)
                        have hx := hx.p42 (i := 3302) (v := (am_l2i (mw367 41 15)))
                        obtain ⟨mw404, h405⟩ : ∃ z, z = (mS mw367 42 3302 (am_l2i (mw367 41 15))) := ⟨_, rfl⟩
                        rw [← h405] at hx fr sg fg ⊢
                        refine And.intro (rfl) ?_
                        refine ct_199 (by omega) hx (fun _ => by first | omega | (have := hx.2.2.2.2.2.2.1 rfl; have := this.2.2.1; have := this.1; have := this.2.1; omega)) (fun h => absurd rfl h) (fun _ mw406 h407 h408 => ?_)
                        have sg := sg.M h407
                        have fg := fg.M h407
                        have fr := fr.M h407
                        have hx := h408
                        refine And.intro (rfl) ?_
                        refine ct_203 (by omega) hx (wr0.fr fr) fg (show mw406 42 3300 = 8 by have := sg 0 (by omega) (by omega); simpa [p_up, p_bl] using this) (show mw406 42 3301 = 0 by have := sg 1 (by omega) (by omega); simpa [p_up, p_bl] using this) (show mw406 42 3302 = (am_l2i (mw367 41 15)) by have := sg 2 (by omega) (by omega); simpa [p_up, p_bl] using this) (fun mw409 q411 f412 p413 h414 h415 fg h416 h417 => ?_) (fun mw410 q411 ta tb h414 h415 fg h417 tab y0 y1 y2 y3 y4 => ?_)
                        · have fr := fr.trans h414
                          have hx := h415
                          have nz := h416
                          skip
                          exfalso
                          omega
                        · have fr := fr.trans h414
                          have hx := h415
                          skip
                          exfalso
                          omega
                      · replace h403 := am_lc_eq.mp h403
                        refine And.intro (rfl) ?_
                        refine ct_201 (by omega) hx (by omega) (fun mw419 h420 h421 => ?_)
                        have sg := sg.M h420
                        have fg := fg.M h420
                        have fr := fr.M h420
                        have hx : mTx mw419 n K A V E N ((q + 1) + 1) 3 (A ((q + 1) + 1)) := by rw [if_pos rfl, if_pos rfl, if_neg (by omega)] at h421; exact h421
                        have nz : 3 ≠ (0 : Int) := by first | omega | (unfold x_wr; omega)
                        refine And.intro (rfl) ?_
                        refine And.intro (rfl) ?_
                        skip
                        refine And.intro (⟨rfl, by first | omega | (simp only [mS_iff, eq_self, Int.reduceEq, true_and, and_true, false_and, and_false, and_self, ↓reduceIte]; omega) | (simp only [mS_iff, eq_self, Int.reduceEq, true_and, and_true, false_and, and_false, and_self, ↓reduceIte] at *; omega)⟩) ?_
                        have sg := sg.p (j := 2) (v := (am_l2i (mw419 41 15))) (i := 3302) (by omega) (by omega)
                        have fg := fg.p (i := 3302) (v := (am_l2i (mw419 41 15)))
                        have fr := fr.p (i := 3302) (v := (am_l2i (mw419 41 15))) (by omega)
                        have hx := hx.p42 (i := 3302) (v := (am_l2i (mw419 41 15)))
                        obtain ⟨mw422, h423⟩ : ∃ z, z = (mS mw419 42 3302 (am_l2i (mw419 41 15))) := ⟨_, rfl⟩
                        rw [← h423] at hx fr sg fg ⊢
                        refine And.intro (rfl) ?_
                        refine ct_199 (by omega) hx (fun h => absurd h nz) (fun _ => ?_) (fun h => absurd h nz)
                        refine And.intro (rfl) ?_
                        refine ct_203f (by omega) hx nz (wr0.fr fr) fg (fun mw424 h429 h430 fg => ?_)
                        have fr := fr.trans h429
                        have hx := h430
                        skip
                        exfalso
                        omega
                · refine And.intro (rfl) ?_
                  refine ct_201 (by omega) hx (by omega) (fun mw434 h435 h436 => ?_)
                  have sg := sg.M h435
                  have fg := fg.M h435
                  have fr := fr.M h435
                  have hx : mTx mw434 n K A V E N ((q + 1) + 1) (x_wr (K ((q + 1) + 1))) (A ((q + 1) + 1)) := by unfold x_wr; rw [if_pos rfl, if_pos rfl] at h436; exact h436
                  have nz : (x_wr (K ((q + 1) + 1))) ≠ (0 : Int) := by first | omega | (unfold x_wr; omega)
                  refine And.intro (rfl) ?_
                  refine And.intro (rfl) ?_
                  skip
                  refine And.intro (⟨rfl, by first | omega | (simp only [mS_iff, eq_self, Int.reduceEq, true_and, and_true, false_and, and_false, and_self, ↓reduceIte]; omega) | (simp only [mS_iff, eq_self, Int.reduceEq, true_and, and_true, false_and, and_false, and_self, ↓reduceIte] at *; omega)⟩) ?_
                  have sg := sg.p (j := 2) (v := (am_l2i (mw434 41 15))) (i := 3302) (by omega) (by omega)
                  have fg := fg.p (i := 3302) (v := (am_l2i (mw434 41 15)))
                  have fr := fr.p (i := 3302) (v := (am_l2i (mw434 41 15))) (by omega)
                  have hx := hx.p42 (i := 3302) (v := (am_l2i (mw434 41 15)))
                  obtain ⟨mw437, h438⟩ : ∃ z, z = (mS mw434 42 3302 (am_l2i (mw434 41 15))) := ⟨_, rfl⟩
                  rw [← h438] at hx fr sg fg ⊢
                  refine And.intro (rfl) ?_
                  refine ct_199 (by omega) hx (fun h => absurd h nz) (fun _ => ?_) (fun h => absurd h nz)
                  refine And.intro (rfl) ?_
                  refine ct_203f (by omega) hx nz (wr0.fr fr) fg (fun mw439 h444 h445 fg => ?_)
                  have fr := fr.trans h444
                  have hx := h445
                  skip
                  exfalso
                  omega
              · refine And.intro (fun _ => ?_) (fun h => absurd h (by decide))
                refine And.intro (rfl) ?_
                refine ct_203 (by omega) hx (wr0.fr fr) fg (show mw363 42 3300 = 8 by have := sg 0 (by omega) (by omega); simpa [p_up, p_bl] using this) (show mw363 42 3301 = 0 by have := sg 1 (by omega) (by omega); simpa [p_up, p_bl] using this) (show mw363 42 3302 = 6 by have := sg 2 (by omega) (by omega); simpa [p_up, p_bl] using this) (fun mw449 q451 f452 p453 h454 h455 fg h456 h457 => ?_) (fun mw450 q451 ta tb h454 h455 fg h457 tab y0 y1 y2 y3 y4 => ?_)
                · have fr := fr.trans h454
                  have hx := h455
                  have nz := h456
                  skip
                  exfalso
                  omega
                · have fr := fr.trans h454
                  have hx := h455
                  skip
                  exfalso
                  omega
        · refine And.intro (fun h => absurd h (by decide)) (fun _ => ?_)
          refine And.intro (rfl) ?_
          refine ct_198 (w := 37) (by omega) hx (by omega) (by decide +kernel) (fun _ h459 => ?_) (fun h459 => ?_)
          · refine And.intro (fun _ => ?_) (fun h => absurd h (by decide))
            refine And.intro (rfl) ?_
            refine And.intro (rfl) ?_
            refine ct_198 (w := 36) (by omega) hx (by omega) (by decide +kernel) (fun _ h460 => ?_) (fun h460 => ?_)
            · refine And.intro (fun h => absurd h (by decide)) (fun _ => ?_)
              refine And.intro (⟨rfl, by first | omega | (simp only [mS_iff, eq_self, Int.reduceEq, true_and, and_true, false_and, and_false, and_self, ↓reduceIte]; omega) | (simp only [mS_iff, eq_self, Int.reduceEq, true_and, and_true, false_and, and_false, and_self, ↓reduceIte] at *; omega)⟩) ?_
              have sg := sg.p (j := 0) (v := 6) (i := 3300) (by omega) (by omega)
              have fg := fg.p (i := 3300) (v := 6)
              have fr := fr.p (i := 3300) (v := 6) (by omega)
              have hx := hx.p42 (i := 3300) (v := 6)
              obtain ⟨mw461, h462⟩ : ∃ z, z = (mS m 42 3300 6) := ⟨_, rfl⟩
              rw [← h462] at hx fr sg fg ⊢
              refine And.intro (rfl) ?_
              refine And.intro (⟨rfl, by first | omega | (simp only [mS_iff, eq_self, Int.reduceEq, true_and, and_true, false_and, and_false, and_self, ↓reduceIte]; omega) | (simp only [mS_iff, eq_self, Int.reduceEq, true_and, and_true, false_and, and_false, and_self, ↓reduceIte] at *; omega)⟩) ?_
              have sg := sg.p (j := 2) (v := 6) (i := 3302) (by omega) (by omega)
              have fg := fg.p (i := 3302) (v := 6)
              have fr := fr.p (i := 3302) (v := 6) (by omega)
              have hx := hx.p42 (i := 3302) (v := 6)
              obtain ⟨mw463, h464⟩ : ∃ z, z = (mS mw461 42 3302 6) := ⟨_, rfl⟩
              rw [← h464] at hx fr sg fg ⊢
              refine And.intro (rfl) ?_
              refine ct_199 (by omega) hx (fun _ => by first | omega | (have := hx.2.2.2.2.2.2.1 rfl; have := this.2.2.1; have := this.1; have := this.2.1; omega)) (fun h => absurd rfl h) (fun _ mw465 h466 h467 => ?_)
              have sg := sg.M h466
              have fg := fg.M h466
              have fr := fr.M h466
              have hx := h467
              refine And.intro (rfl) ?_
              refine ct_198 (w := 40) (by omega) hx (by omega) (by decide +kernel) (fun _ h468 => ?_) (fun h468 => ?_)
              · refine And.intro (fun h => absurd h (by decide)) (fun _ => ?_)
                refine And.intro (rfl) ?_
                refine ct_199 (by omega) hx (fun _ => by first | omega | (have := hx.2.2.2.2.2.2.1 rfl; have := this.2.2.1; have := this.1; have := this.2.1; omega)) (fun h => absurd rfl h) (fun _ mw469 h470 h471 => ?_)
                have sg := sg.M h470
                have fg := fg.M h470
                have fr := fr.M h470
                have hx := h471
                have kn := hx.k2.1
                refine And.intro (rfl) ?_
                refine And.intro (fun h472 => ?_) (fun h472 => ?_)
                · have kq := hx.k2.1.mpr (by omega)
                  have vq := hx.k2.2.1 kq
                  have vb := hx.vb
                  have lr : am_lrem (mw469 41 15) 2 = V (q + 1 + 1) % 2 := by rw [am_lrem_eq (by omega) (by omega), vq]
                  refine And.intro (rfl) ?_
                  refine And.intro (fun h473 => ?_) (fun h473 => ?_)
                  · replace h473 := am_lc_lt.mp h473
                    refine And.intro (rfl) ?_
                    refine ct_201 (by omega) hx (by omega) (fun mw474 h475 h476 => ?_)
                    have sg := sg.M h475
                    have fg := fg.M h475
                    have fr := fr.M h475
                    have hx : mTx mw474 n K A V E N ((q + 1) + 1) 3 (A ((q + 1) + 1)) := by rw [if_pos rfl, if_pos rfl, if_neg (by omega)] at h476; exact h476
                    have nz : 3 ≠ (0 : Int) := by first | omega | (unfold x_wr; omega)
                    refine And.intro (rfl) ?_
                    refine And.intro (rfl) ?_
                    skip
                    refine And.intro (⟨rfl, by first | omega | (simp only [mS_iff, eq_self, Int.reduceEq, true_and, and_true, false_and, and_false, and_self, ↓reduceIte]; omega) | (simp only [mS_iff, eq_self, Int.reduceEq, true_and, and_true, false_and, and_false, and_self, ↓reduceIte] at *; omega)⟩) ?_
                    have sg := sg.p (j := 2) (v := (am_l2i (mw474 41 15))) (i := 3302) (by omega) (by omega)
                    have fg := fg.p (i := 3302) (v := (am_l2i (mw474 41 15)))
                    have fr := fr.p (i := 3302) (v := (am_l2i (mw474 41 15))) (by omega)
                    have hx := hx.p42 (i := 3302) (v := (am_l2i (mw474 41 15)))
                    obtain ⟨mw477, h478⟩ : ∃ z, z = (mS mw474 42 3302 (am_l2i (mw474 41 15))) := ⟨_, rfl⟩
                    rw [← h478] at hx fr sg fg ⊢
                    refine And.intro (rfl) ?_
                    refine ct_199 (by omega) hx (fun h => absurd h nz) (fun _ => ?_) (fun h => absurd h nz)
                    refine And.intro (rfl) ?_
                    refine ct_203f (by omega) hx nz (wr0.fr fr) fg (fun mw479 h484 h485 fg => ?_)
                    have fr := fr.trans h484
                    have hx := h485
                    skip
                    exfalso
                    omega
                  · replace h473 := am_lc_ge.mp h473
                    refine And.intro (rfl) ?_
                    refine And.intro (fun h489 => ?_) (fun h489 => ?_)
                    · replace h489 := am_lc_gt.mp h489
                      refine And.intro (rfl) ?_
                      refine ct_201 (by omega) hx (by omega) (fun mw490 h491 h492 => ?_)
                      have sg := sg.M h491
                      have fg := fg.M h491
                      have fr := fr.M h491
                      have hx : mTx mw490 n K A V E N ((q + 1) + 1) 3 (A ((q + 1) + 1)) := by rw [if_pos rfl, if_pos rfl, if_neg (by omega)] at h492; exact h492
                      have nz : 3 ≠ (0 : Int) := by first | omega | (unfold x_wr; omega)
                      refine And.intro (rfl) ?_
                      refine And.intro (rfl) ?_
                      skip
                      refine And.intro (⟨rfl, by first | omega | (simp only [mS_iff, eq_self, Int.reduceEq, true_and, and_true, false_and, and_false, and_self, ↓reduceIte]; omega) | (simp only [mS_iff, eq_self, Int.reduceEq, true_and, and_true, false_and, and_false, and_self, ↓reduceIte] at *; omega)⟩) ?_
                      have sg := sg.p (j := 2) (v := (am_l2i (mw490 41 15))) (i := 3302) (by omega) (by omega)
                      have fg := fg.p (i := 3302) (v := (am_l2i (mw490 41 15)))
                      have fr := fr.p (i := 3302) (v := (am_l2i (mw490 41 15))) (by omega)
                      have hx := hx.p42 (i := 3302) (v := (am_l2i (mw490 41 15)))
                      obtain ⟨mw493, h494⟩ : ∃ z, z = (mS mw490 42 3302 (am_l2i (mw490 41 15))) := ⟨_, rfl⟩
                      rw [← h494] at hx fr sg fg ⊢
                      refine And.intro (rfl) ?_
                      refine ct_199 (by omega) hx (fun h => absurd h nz) (fun _ => ?_) (fun h => absurd h nz)
                      refine And.intro (rfl) ?_
                      refine ct_203f (by omega) hx nz (wr0.fr fr) fg (fun mw495 h500 h501 fg => ?_)
                      have fr := fr.trans h500
                      have hx := h501
                      skip
                      exfalso
                      omega
                    · replace h489 := am_lc_le.mp h489
                      refine And.intro (rfl) ?_
                      refine And.intro (show 2 ≠ 0 by first | omega | (simp only [mS_iff, eq_self, Int.reduceEq, true_and, and_true, false_and, and_false, and_self, ↓reduceIte]; omega) | (simp only [mS_iff, eq_self, Int.reduceEq, true_and, and_true, false_and, and_false, and_self, ↓reduceIte] at *; omega)) ?_
                      refine And.intro (fun h505 => ?_) (fun h505 => ?_)
                      · replace h505 := am_lc_ne.mp h505
                        refine And.intro (rfl) ?_
                        refine And.intro (rfl) ?_
                        have lv : am_l2i (mw469 41 15) = V (q + 1 + 1) := by rw [am_l2i_eq (by omega)]; exact vq
                        refine And.intro (⟨rfl, by first | omega | (simp only [mS_iff, eq_self, Int.reduceEq, true_and, and_true, false_and, and_false, and_self, ↓reduceIte]; omega) | (simp only [mS_iff, eq_self, Int.reduceEq, true_and, and_true, false_and, and_false, and_self, ↓reduceIte] at *; omega)⟩) ?_
                        have sg := sg.p (j := 2) (v := (am_l2i (mw469 41 15))) (i := 3302) (by omega) (by omega)
                        have fg := fg.p (i := 3302) (v := (am_l2i (mw469 41 15)))
                        have fr := fr.p (i := 3302) (v := (am_l2i (mw469 41 15))) (by omega)
                        have hx := hx.p42 (i := 3302) (v := (am_l2i (mw469 41 15)))
                        obtain ⟨mw506, h507⟩ : ∃ z, z = (mS mw469 42 3302 (am_l2i (mw469 41 15))) := ⟨_, rfl⟩
                        rw [← h507] at hx fr sg fg ⊢
                        refine And.intro (rfl) ?_
                        refine ct_199 (by omega) hx (fun _ => by first | omega | (have := hx.2.2.2.2.2.2.1 rfl; have := this.2.2.1; have := this.1; have := this.2.1; omega)) (fun h => absurd rfl h) (fun _ mw508 h509 h510 => ?_)
                        have sg := sg.M h509
                        have fg := fg.M h509
                        have fr := fr.M h509
                        have hx := h510
                        refine And.intro (rfl) ?_
                        refine ct_203 (by omega) hx (wr0.fr fr) fg (show mw508 42 3300 = 6 by have := sg 0 (by omega) (by omega); simpa [p_up, p_bl] using this) (show mw508 42 3301 = 0 by have := sg 1 (by omega) (by omega); simpa [p_up, p_bl] using this) (show mw508 42 3302 = (am_l2i (mw469 41 15)) by have := sg 2 (by omega) (by omega); simpa [p_up, p_bl] using this) (fun mw511 q513 f514 p515 h516 h517 fg h518 h519 => ?_) (fun mw512 q513 ta tb h516 h517 fg h519 tab y0 y1 y2 y3 y4 => ?_)
                        · have fr := fr.trans h516
                          have hx := h517
                          have nz := h518
                          skip
                          exfalso
                          omega
                        · have fr := fr.trans h516
                          have hx := h517
                          skip
                          exfalso
                          omega
                      · replace h505 := am_lc_eq.mp h505
                        refine And.intro (rfl) ?_
                        refine ct_201 (by omega) hx (by omega) (fun mw521 h522 h523 => ?_)
                        have sg := sg.M h522
                        have fg := fg.M h522
                        have fr := fr.M h522
                        have hx : mTx mw521 n K A V E N ((q + 1) + 1) 3 (A ((q + 1) + 1)) := by rw [if_pos rfl, if_pos rfl, if_neg (by omega)] at h523; exact h523
                        have nz : 3 ≠ (0 : Int) := by first | omega | (unfold x_wr; omega)
                        refine And.intro (rfl) ?_
                        refine And.intro (rfl) ?_
                        skip
                        refine And.intro (⟨rfl, by first | omega | (simp only [mS_iff, eq_self, Int.reduceEq, true_and, and_true, false_and, and_false, and_self, ↓reduceIte]; omega) | (simp only [mS_iff, eq_self, Int.reduceEq, true_and, and_true, false_and, and_false, and_self, ↓reduceIte] at *; omega)⟩) ?_
                        have sg := sg.p (j := 2) (v := (am_l2i (mw521 41 15))) (i := 3302) (by omega) (by omega)
                        have fg := fg.p (i := 3302) (v := (am_l2i (mw521 41 15)))
                        have fr := fr.p (i := 3302) (v := (am_l2i (mw521 41 15))) (by omega)
                        have hx := hx.p42 (i := 3302) (v := (am_l2i (mw521 41 15)))
                        obtain ⟨mw524, h525⟩ : ∃ z, z = (mS mw521 42 3302 (am_l2i (mw521 41 15))) := ⟨_, rfl⟩
                        rw [← h525] at hx fr sg fg ⊢
                        refine And.intro (rfl) ?_
                        refine ct_199 (by omega) hx (fun h => absurd h nz) (fun _ => ?_) (fun h => absurd h nz)
                        refine And.intro (rfl) ?_
                        refine ct_203f (by omega) hx nz (wr0.fr fr) fg (fun mw526 h531 h532 fg => ?_)
                        have fr := fr.trans h531
                        have hx := h532
                        skip
                        exfalso
                        omega
                · refine And.intro (rfl) ?_
                  refine ct_201 (by omega) hx (by omega) (fun mw536 h537 h538 => ?_)
                  have sg := sg.M h537
                  have fg := fg.M h537
                  have fr := fr.M h537
                  have hx : mTx mw536 n K A V E N ((q + 1) + 1) (x_wr (K ((q + 1) + 1))) (A ((q + 1) + 1)) := by unfold x_wr; rw [if_pos rfl, if_pos rfl] at h538; exact h538
                  have nz : (x_wr (K ((q + 1) + 1))) ≠ (0 : Int) := by first | omega | (unfold x_wr; omega)
                  refine And.intro (rfl) ?_
                  refine And.intro (rfl) ?_
                  skip
                  refine And.intro (⟨rfl, by first | omega | (simp only [mS_iff, eq_self, Int.reduceEq, true_and, and_true, false_and, and_false, and_self, ↓reduceIte]; omega) | (simp only [mS_iff, eq_self, Int.reduceEq, true_and, and_true, false_and, and_false, and_self, ↓reduceIte] at *; omega)⟩) ?_
                  have sg := sg.p (j := 2) (v := (am_l2i (mw536 41 15))) (i := 3302) (by omega) (by omega)
                  have fg := fg.p (i := 3302) (v := (am_l2i (mw536 41 15)))
                  have fr := fr.p (i := 3302) (v := (am_l2i (mw536 41 15))) (by omega)
                  have hx := hx.p42 (i := 3302) (v := (am_l2i (mw536 41 15)))
                  obtain ⟨mw539, h540⟩ : ∃ z, z = (mS mw536 42 3302 (am_l2i (mw536 41 15))) := ⟨_, rfl⟩
                  rw [← h540] at hx fr sg fg ⊢
                  refine And.intro (rfl) ?_
                  refine ct_199 (by omega) hx (fun h => absurd h nz) (fun _ => ?_) (fun h => absurd h nz)
                  refine And.intro (rfl) ?_
                  refine ct_203f (by omega) hx nz (wr0.fr fr) fg (fun mw541 h546 h547 fg => ?_)
                  have fr := fr.trans h546
                  have hx := h547
                  skip
                  exfalso
                  omega
              · refine And.intro (fun _ => ?_) (fun h => absurd h (by decide))
                refine And.intro (rfl) ?_
                refine ct_203 (by omega) hx (wr0.fr fr) fg (show mw465 42 3300 = 6 by have := sg 0 (by omega) (by omega); simpa [p_up, p_bl] using this) (show mw465 42 3301 = 0 by have := sg 1 (by omega) (by omega); simpa [p_up, p_bl] using this) (show mw465 42 3302 = 6 by have := sg 2 (by omega) (by omega); simpa [p_up, p_bl] using this) (fun mw551 q553 f554 p555 h556 h557 fg h558 h559 => ?_) (fun mw552 q553 ta tb h556 h557 fg h559 tab y0 y1 y2 y3 y4 => ?_)
                · have fr := fr.trans h556
                  have hx := h557
                  have nz := h558
                  skip
                  exfalso
                  omega
                · have fr := fr.trans h556
                  have hx := h557
                  skip
                  exfalso
                  omega
            · refine And.intro (fun _ => ?_) (fun h => absurd h (by decide))
              refine And.intro (rfl) ?_
              refine ct_198 (w := 37) (by omega) hx (by omega) (by decide +kernel) (fun _ h561 => ?_) (fun h561 => ?_)
              · refine And.intro (fun h => absurd h (by decide)) (fun _ => ?_)
                refine And.intro (⟨rfl, by first | omega | (simp only [mS_iff, eq_self, Int.reduceEq, true_and, and_true, false_and, and_false, and_self, ↓reduceIte]; omega) | (simp only [mS_iff, eq_self, Int.reduceEq, true_and, and_true, false_and, and_false, and_self, ↓reduceIte] at *; omega)⟩) ?_
                have sg := sg.p (j := 0) (v := 7) (i := 3300) (by omega) (by omega)
                have fg := fg.p (i := 3300) (v := 7)
                have fr := fr.p (i := 3300) (v := 7) (by omega)
                have hx := hx.p42 (i := 3300) (v := 7)
                obtain ⟨mw562, h563⟩ : ∃ z, z = (mS m 42 3300 7) := ⟨_, rfl⟩
                rw [← h563] at hx fr sg fg ⊢
                refine And.intro (rfl) ?_
                refine And.intro (⟨rfl, by first | omega | (simp only [mS_iff, eq_self, Int.reduceEq, true_and, and_true, false_and, and_false, and_self, ↓reduceIte]; omega) | (simp only [mS_iff, eq_self, Int.reduceEq, true_and, and_true, false_and, and_false, and_self, ↓reduceIte] at *; omega)⟩) ?_
                have sg := sg.p (j := 2) (v := 6) (i := 3302) (by omega) (by omega)
                have fg := fg.p (i := 3302) (v := 6)
                have fr := fr.p (i := 3302) (v := 6) (by omega)
                have hx := hx.p42 (i := 3302) (v := 6)
                obtain ⟨mw564, h565⟩ : ∃ z, z = (mS mw562 42 3302 6) := ⟨_, rfl⟩
                rw [← h565] at hx fr sg fg ⊢
                refine And.intro (rfl) ?_
                refine ct_199 (by omega) hx (fun _ => by first | omega | (have := hx.2.2.2.2.2.2.1 rfl; have := this.2.2.1; have := this.1; have := this.2.1; omega)) (fun h => absurd rfl h) (fun _ mw566 h567 h568 => ?_)
                have sg := sg.M h567
                have fg := fg.M h567
                have fr := fr.M h567
                have hx := h568
                refine And.intro (rfl) ?_
                refine ct_198 (w := 40) (by omega) hx (by omega) (by decide +kernel) (fun _ h569 => ?_) (fun h569 => ?_)
                · refine And.intro (fun h => absurd h (by decide)) (fun _ => ?_)
                  refine And.intro (rfl) ?_
                  refine ct_199 (by omega) hx (fun _ => by first | omega | (have := hx.2.2.2.2.2.2.1 rfl; have := this.2.2.1; have := this.1; have := this.2.1; omega)) (fun h => absurd rfl h) (fun _ mw570 h571 h572 => ?_)
                  have sg := sg.M h571
                  have fg := fg.M h571
                  have fr := fr.M h571
                  have hx := h572
                  have kn := hx.k2.1
                  refine And.intro (rfl) ?_
                  refine And.intro (fun h573 => ?_) (fun h573 => ?_)
                  · have kq := hx.k2.1.mpr (by omega)
                    have vq := hx.k2.2.1 kq
                    have vb := hx.vb
                    have lr : am_lrem (mw570 41 15) 2 = V (q + 1 + 1) % 2 := by rw [am_lrem_eq (by omega) (by omega), vq]
                    refine And.intro (rfl) ?_
                    refine And.intro (fun h574 => ?_) (fun h574 => ?_)
                    · replace h574 := am_lc_lt.mp h574
                      refine And.intro (rfl) ?_
                      refine ct_201 (by omega) hx (by omega) (fun mw575 h576 h577 => ?_)
                      have sg := sg.M h576
                      have fg := fg.M h576
                      have fr := fr.M h576
                      have hx : mTx mw575 n K A V E N ((q + 1) + 1) 3 (A ((q + 1) + 1)) := by rw [if_pos rfl, if_pos rfl, if_neg (by omega)] at h577; exact h577
                      have nz : 3 ≠ (0 : Int) := by first | omega | (unfold x_wr; omega)
                      refine And.intro (rfl) ?_
                      refine And.intro (rfl) ?_
                      skip
                      refine And.intro (⟨rfl, by first | omega | (simp only [mS_iff, eq_self, Int.reduceEq, true_and, and_true, false_and, and_false, and_self, ↓reduceIte]; omega) | (simp only [mS_iff, eq_self, Int.reduceEq, true_and, and_true, false_and, and_false, and_self, ↓reduceIte] at *; omega)⟩) ?_
                      have sg := sg.p (j := 2) (v := (am_l2i (mw575 41 15))) (i := 3302) (by omega) (by omega)
                      have fg := fg.p (i := 3302) (v := (am_l2i (mw575 41 15)))
                      have fr := fr.p (i := 3302) (v := (am_l2i (mw575 41 15))) (by omega)
                      have hx := hx.p42 (i := 3302) (v := (am_l2i (mw575 41 15)))
                      obtain ⟨mw578, h579⟩ : ∃ z, z = (mS mw575 42 3302 (am_l2i (mw575 41 15))) := ⟨_, rfl⟩
                      rw [← h579] at hx fr sg fg ⊢
                      refine And.intro (rfl) ?_
                      refine ct_199 (by omega) hx (fun h => absurd h nz) (fun _ => ?_) (fun h => absurd h nz)
                      refine And.intro (rfl) ?_
                      refine ct_203f (by omega) hx nz (wr0.fr fr) fg (fun mw580 h585 h586 fg => ?_)
                      have fr := fr.trans h585
                      have hx := h586
                      skip
                      have e := p_f7 (A := A) (V := V) (by omega : 36 ≤ K q ∧ K q < 39) (by omega : K (q + 1) = 40)
                      refine hQe _ _ _ _ fr hx fg nz ?_
                      rw [e]
                      exact p_bd_l (by unfold p_num; rw [if_pos (by omega), if_pos (by omega)])
                    · replace h574 := am_lc_ge.mp h574
                      refine And.intro (rfl) ?_
                      refine And.intro (fun h590 => ?_) (fun h590 => ?_)
                      · replace h590 := am_lc_gt.mp h590
                        refine And.intro (rfl) ?_
                        refine ct_201 (by omega) hx (by omega) (fun mw591 h592 h593 => ?_)
                        have sg := sg.M h592
                        have fg := fg.M h592
                        have fr := fr.M h592
                        have hx : mTx mw591 n K A V E N ((q + 1) + 1) 3 (A ((q + 1) + 1)) := by rw [if_pos rfl, if_pos rfl, if_neg (by omega)] at h593; exact h593
                        have nz : 3 ≠ (0 : Int) := by first | omega | (unfold x_wr; omega)
                        refine And.intro (rfl) ?_
                        refine And.intro (rfl) ?_
                        skip
                        refine And.intro (⟨rfl, by first | omega | (simp only [mS_iff, eq_self, Int.reduceEq, true_and, and_true, false_and, and_false, and_self, ↓reduceIte]; omega) | (simp only [mS_iff, eq_self, Int.reduceEq, true_and, and_true, false_and, and_false, and_self, ↓reduceIte] at *; omega)⟩) ?_
                        have sg := sg.p (j := 2) (v := (am_l2i (mw591 41 15))) (i := 3302) (by omega) (by omega)
                        have fg := fg.p (i := 3302) (v := (am_l2i (mw591 41 15)))
                        have fr := fr.p (i := 3302) (v := (am_l2i (mw591 41 15))) (by omega)
                        have hx := hx.p42 (i := 3302) (v := (am_l2i (mw591 41 15)))
                        obtain ⟨mw594, h595⟩ : ∃ z, z = (mS mw591 42 3302 (am_l2i (mw591 41 15))) := ⟨_, rfl⟩
                        rw [← h595] at hx fr sg fg ⊢
                        refine And.intro (rfl) ?_
                        refine ct_199 (by omega) hx (fun h => absurd h nz) (fun _ => ?_) (fun h => absurd h nz)
                        refine And.intro (rfl) ?_
                        refine ct_203f (by omega) hx nz (wr0.fr fr) fg (fun mw596 h601 h602 fg => ?_)
                        have fr := fr.trans h601
                        have hx := h602
                        skip
                        have e := p_f7 (A := A) (V := V) (by omega : 36 ≤ K q ∧ K q < 39) (by omega : K (q + 1) = 40)
                        refine hQe _ _ _ _ fr hx fg nz ?_
                        rw [e]
                        exact p_bd_l (by unfold p_num; rw [if_pos (by omega), if_pos (by omega)])
                      · replace h590 := am_lc_le.mp h590
                        refine And.intro (rfl) ?_
                        refine And.intro (show 2 ≠ 0 by first | omega | (simp only [mS_iff, eq_self, Int.reduceEq, true_and, and_true, false_and, and_false, and_self, ↓reduceIte]; omega) | (simp only [mS_iff, eq_self, Int.reduceEq, true_and, and_true, false_and, and_false, and_self, ↓reduceIte] at *; omega)) ?_
                        refine And.intro (fun h606 => ?_) (fun h606 => ?_)
                        · replace h606 := am_lc_ne.mp h606
                          refine And.intro (rfl) ?_
                          refine And.intro (rfl) ?_
                          have lv : am_l2i (mw570 41 15) = V (q + 1 + 1) := by rw [am_l2i_eq (by omega)]; exact vq
                          refine And.intro (⟨rfl, by first | omega | (simp only [mS_iff, eq_self, Int.reduceEq, true_and, and_true, false_and, and_false, and_self, ↓reduceIte]; omega) | (simp only [mS_iff, eq_self, Int.reduceEq, true_and, and_true, false_and, and_false, and_self, ↓reduceIte] at *; omega)⟩) ?_
                          have sg := sg.p (j := 2) (v := (am_l2i (mw570 41 15))) (i := 3302) (by omega) (by omega)
                          have fg := fg.p (i := 3302) (v := (am_l2i (mw570 41 15)))
                          have fr := fr.p (i := 3302) (v := (am_l2i (mw570 41 15))) (by omega)
                          have hx := hx.p42 (i := 3302) (v := (am_l2i (mw570 41 15)))
                          obtain ⟨mw607, h608⟩ : ∃ z, z = (mS mw570 42 3302 (am_l2i (mw570 41 15))) := ⟨_, rfl⟩
                          rw [← h608] at hx fr sg fg ⊢
                          refine And.intro (rfl) ?_
                          refine ct_199 (by omega) hx (fun _ => by first | omega | (have := hx.2.2.2.2.2.2.1 rfl; have := this.2.2.1; have := this.1; have := this.2.1; omega)) (fun h => absurd rfl h) (fun _ mw609 h610 h611 => ?_)
                          have sg := sg.M h610
                          have fg := fg.M h610
                          have fr := fr.M h610
                          have hx := h611
                          refine And.intro (rfl) ?_
                          refine ct_203 (by omega) hx (wr0.fr fr) fg (show mw609 42 3300 = 7 by have := sg 0 (by omega) (by omega); simpa [p_up, p_bl] using this) (show mw609 42 3301 = 0 by have := sg 1 (by omega) (by omega); simpa [p_up, p_bl] using this) (show mw609 42 3302 = (am_l2i (mw570 41 15)) by have := sg 2 (by omega) (by omega); simpa [p_up, p_bl] using this) (fun mw612 q614 f615 p616 h617 h618 fg h619 h620 => ?_) (fun mw613 q614 ta tb h617 h618 fg h620 tab y0 y1 y2 y3 y4 => ?_)
                          · have fr := fr.trans h617
                            have hx := h618
                            have nz := h619
                            skip
                            have e := p_f7 (A := A) (V := V) (by omega : 36 ≤ K q ∧ K q < 39) (by omega : K (q + 1) = 40)
                            rw [p_bd_r (show p_num K A V 4 1 (q + 1 + 1) = .inr (q + 1 + 1 + 1, V (q + 1 + 1)) by unfold p_num; rw [if_pos (by omega), if_neg (by omega)]), ← lv] at e
                            rw [show (6 : Int) + (K q - 36) = 7 by omega] at e
                            exact hQe _ _ _ _ fr hx fg nz (e.trans h620)
                          · have fr := fr.trans h617
                            have hx := h618
                            skip
                            have e := p_f7 (A := A) (V := V) (by omega : 36 ≤ K q ∧ K q < 39) (by omega : K (q + 1) = 40)
                            rw [p_bd_r (show p_num K A V 4 1 (q + 1 + 1) = .inr (q + 1 + 1 + 1, V (q + 1 + 1)) by unfold p_num; rw [if_pos (by omega), if_neg (by omega)]), ← lv] at e
                            rw [show (6 : Int) + (K q - 36) = 7 by omega] at e
                            refine hQ _ _ (fun k => if k = 0 then _ else if k = 1 then _ else if k = 2 then _ else if k = 3 then ta else tb) _ fr hx fg (e.trans h620) (fun j j0 j1 => ?_) (p_raw_two (by omega) rfl rfl rfl rfl rfl)
                            have hk : j = 0 ∨ j = 1 ∨ j = 2 ∨ j = 3 ∨ j = 4 := by omega
                            rcases hk with rfl | rfl | rfl | rfl | rfl
                            · exact y0
                            · exact y1
                            · exact y2
                            · exact y3
                            · exact y4
                        · replace h606 := am_lc_eq.mp h606
                          refine And.intro (rfl) ?_
                          refine ct_201 (by omega) hx (by omega) (fun mw622 h623 h624 => ?_)
                          have sg := sg.M h623
                          have fg := fg.M h623
                          have fr := fr.M h623
                          have hx : mTx mw622 n K A V E N ((q + 1) + 1) 3 (A ((q + 1) + 1)) := by rw [if_pos rfl, if_pos rfl, if_neg (by omega)] at h624; exact h624
                          have nz : 3 ≠ (0 : Int) := by first | omega | (unfold x_wr; omega)
                          refine And.intro (rfl) ?_
                          refine And.intro (rfl) ?_
                          skip
                          refine And.intro (⟨rfl, by first | omega | (simp only [mS_iff, eq_self, Int.reduceEq, true_and, and_true, false_and, and_false, and_self, ↓reduceIte]; omega) | (simp only [mS_iff, eq_self, Int.reduceEq, true_and, and_true, false_and, and_false, and_self, ↓reduceIte] at *; omega)⟩) ?_
                          have sg := sg.p (j := 2) (v := (am_l2i (mw622 41 15))) (i := 3302) (by omega) (by omega)
                          have fg := fg.p (i := 3302) (v := (am_l2i (mw622 41 15)))
                          have fr := fr.p (i := 3302) (v := (am_l2i (mw622 41 15))) (by omega)
                          have hx := hx.p42 (i := 3302) (v := (am_l2i (mw622 41 15)))
                          obtain ⟨mw625, h626⟩ : ∃ z, z = (mS mw622 42 3302 (am_l2i (mw622 41 15))) := ⟨_, rfl⟩
                          rw [← h626] at hx fr sg fg ⊢
                          refine And.intro (rfl) ?_
                          refine ct_199 (by omega) hx (fun h => absurd h nz) (fun _ => ?_) (fun h => absurd h nz)
                          refine And.intro (rfl) ?_
                          refine ct_203f (by omega) hx nz (wr0.fr fr) fg (fun mw627 h632 h633 fg => ?_)
                          have fr := fr.trans h632
                          have hx := h633
                          skip
                          have e := p_f7 (A := A) (V := V) (by omega : 36 ≤ K q ∧ K q < 39) (by omega : K (q + 1) = 40)
                          refine hQe _ _ _ _ fr hx fg nz ?_
                          rw [e]
                          exact p_bd_l (by unfold p_num; rw [if_pos (by omega), if_pos (by omega)])
                  · refine And.intro (rfl) ?_
                    refine ct_201 (by omega) hx (by omega) (fun mw637 h638 h639 => ?_)
                    have sg := sg.M h638
                    have fg := fg.M h638
                    have fr := fr.M h638
                    have hx : mTx mw637 n K A V E N ((q + 1) + 1) (x_wr (K ((q + 1) + 1))) (A ((q + 1) + 1)) := by unfold x_wr; rw [if_pos rfl, if_pos rfl] at h639; exact h639
                    have nz : (x_wr (K ((q + 1) + 1))) ≠ (0 : Int) := by first | omega | (unfold x_wr; omega)
                    refine And.intro (rfl) ?_
                    refine And.intro (rfl) ?_
                    skip
                    refine And.intro (⟨rfl, by first | omega | (simp only [mS_iff, eq_self, Int.reduceEq, true_and, and_true, false_and, and_false, and_self, ↓reduceIte]; omega) | (simp only [mS_iff, eq_self, Int.reduceEq, true_and, and_true, false_and, and_false, and_self, ↓reduceIte] at *; omega)⟩) ?_
                    have sg := sg.p (j := 2) (v := (am_l2i (mw637 41 15))) (i := 3302) (by omega) (by omega)
                    have fg := fg.p (i := 3302) (v := (am_l2i (mw637 41 15)))
                    have fr := fr.p (i := 3302) (v := (am_l2i (mw637 41 15))) (by omega)
                    have hx := hx.p42 (i := 3302) (v := (am_l2i (mw637 41 15)))
                    obtain ⟨mw640, h641⟩ : ∃ z, z = (mS mw637 42 3302 (am_l2i (mw637 41 15))) := ⟨_, rfl⟩
                    rw [← h641] at hx fr sg fg ⊢
                    refine And.intro (rfl) ?_
                    refine ct_199 (by omega) hx (fun h => absurd h nz) (fun _ => ?_) (fun h => absurd h nz)
                    refine And.intro (rfl) ?_
                    refine ct_203f (by omega) hx nz (wr0.fr fr) fg (fun mw642 h647 h648 fg => ?_)
                    have fr := fr.trans h647
                    have hx := h648
                    skip
                    have e := p_f7 (A := A) (V := V) (by omega : 36 ≤ K q ∧ K q < 39) (by omega : K (q + 1) = 40)
                    refine hQe _ _ _ _ fr hx fg nz ?_
                    rw [e]
                    exact p_bd_l (by unfold p_num p_wr; rw [if_neg (by omega)])
                · refine And.intro (fun _ => ?_) (fun h => absurd h (by decide))
                  refine And.intro (rfl) ?_
                  refine ct_203 (by omega) hx (wr0.fr fr) fg (show mw566 42 3300 = 7 by have := sg 0 (by omega) (by omega); simpa [p_up, p_bl] using this) (show mw566 42 3301 = 0 by have := sg 1 (by omega) (by omega); simpa [p_up, p_bl] using this) (show mw566 42 3302 = 6 by have := sg 2 (by omega) (by omega); simpa [p_up, p_bl] using this) (fun mw652 q654 f655 p656 h657 h658 fg h659 h660 => ?_) (fun mw653 q654 ta tb h657 h658 fg h660 tab y0 y1 y2 y3 y4 => ?_)
                  · have fr := fr.trans h657
                    have hx := h658
                    have nz := h659
                    skip
                    have e := p_f5 (A := A) (V := V) (by omega : 36 ≤ K q ∧ K q < 39) (by omega : K (q + 1) ≠ 40)
                    rw [show (6 : Int) + (K q - 36) = 7 by omega] at e
                    exact hQe _ _ _ _ fr hx fg nz (e.trans h660)
                  · have fr := fr.trans h657
                    have hx := h658
                    skip
                    have e := p_f5 (A := A) (V := V) (by omega : 36 ≤ K q ∧ K q < 39) (by omega : K (q + 1) ≠ 40)
                    rw [show (6 : Int) + (K q - 36) = 7 by omega] at e
                    refine hQ _ _ (fun k => if k = 0 then _ else if k = 1 then _ else if k = 2 then _ else if k = 3 then ta else tb) _ fr hx fg (e.trans h660) (fun j j0 j1 => ?_) (p_raw_two (by omega) rfl rfl rfl rfl rfl)
                    have hk : j = 0 ∨ j = 1 ∨ j = 2 ∨ j = 3 ∨ j = 4 := by omega
                    rcases hk with rfl | rfl | rfl | rfl | rfl
                    · exact y0
                    · exact y1
                    · exact y2
                    · exact y3
                    · exact y4
              · refine And.intro (fun _ => ?_) (fun h => absurd h (by decide))
                refine And.intro (⟨rfl, by first | omega | (simp only [mS_iff, eq_self, Int.reduceEq, true_and, and_true, false_and, and_false, and_self, ↓reduceIte]; omega) | (simp only [mS_iff, eq_self, Int.reduceEq, true_and, and_true, false_and, and_false, and_self, ↓reduceIte] at *; omega)⟩) ?_
                have sg := sg.p (j := 0) (v := 8) (i := 3300) (by omega) (by omega)
                have fg := fg.p (i := 3300) (v := 8)
                have fr := fr.p (i := 3300) (v := 8) (by omega)
                have hx := hx.p42 (i := 3300) (v := 8)
                obtain ⟨mw662, h663⟩ : ∃ z, z = (mS m 42 3300 8) := ⟨_, rfl⟩
                rw [← h663] at hx fr sg fg ⊢
                refine And.intro (rfl) ?_
                refine And.intro (⟨rfl, by first | omega | (simp only [mS_iff, eq_self, Int.reduceEq, true_and, and_true, false_and, and_false, and_self, ↓reduceIte]; omega) | (simp only [mS_iff, eq_self, Int.reduceEq, true_and, and_true, false_and, and_false, and_self, ↓reduceIte] at *; omega)⟩) ?_
                have sg := sg.p (j := 2) (v := 6) (i := 3302) (by omega) (by omega)
                have fg := fg.p (i := 3302) (v := 6)
                have fr := fr.p (i := 3302) (v := 6) (by omega)
                have hx := hx.p42 (i := 3302) (v := 6)
                obtain ⟨mw664, h665⟩ : ∃ z, z = (mS mw662 42 3302 6) := ⟨_, rfl⟩
                rw [← h665] at hx fr sg fg ⊢
                refine And.intro (rfl) ?_
                refine ct_199 (by omega) hx (fun _ => by first | omega | (have := hx.2.2.2.2.2.2.1 rfl; have := this.2.2.1; have := this.1; have := this.2.1; omega)) (fun h => absurd rfl h) (fun _ mw666 h667 h668 => ?_)
                have sg := sg.M h667
                have fg := fg.M h667
                have fr := fr.M h667
                have hx := h668
                refine And.intro (rfl) ?_
                refine ct_198 (w := 40) (by omega) hx (by omega) (by decide +kernel) (fun _ h669 => ?_) (fun h669 => ?_)
                · refine And.intro (fun h => absurd h (by decide)) (fun _ => ?_)
                  refine And.intro (rfl) ?_
                  refine ct_199 (by omega) hx (fun _ => by first | omega | (have := hx.2.2.2.2.2.2.1 rfl; have := this.2.2.1; have := this.1; have := this.2.1; omega)) (fun h => absurd rfl h) (fun _ mw670 h671 h672 => ?_)
                  have sg := sg.M h671
                  have fg := fg.M h671
                  have fr := fr.M h671
                  have hx := h672
                  have kn := hx.k2.1
                  refine And.intro (rfl) ?_
                  refine And.intro (fun h673 => ?_) (fun h673 => ?_)
                  · have kq := hx.k2.1.mpr (by omega)
                    have vq := hx.k2.2.1 kq
                    have vb := hx.vb
                    have lr : am_lrem (mw670 41 15) 2 = V (q + 1 + 1) % 2 := by rw [am_lrem_eq (by omega) (by omega), vq]
                    refine And.intro (rfl) ?_
                    refine And.intro (fun h674 => ?_) (fun h674 => ?_)
                    · replace h674 := am_lc_lt.mp h674
                      refine And.intro (rfl) ?_
                      refine ct_201 (by omega) hx (by omega) (fun mw675 h676 h677 => ?_)
                      have sg := sg.M h676
                      have fg := fg.M h676
                      have fr := fr.M h676
                      have hx : mTx mw675 n K A V E N ((q + 1) + 1) 3 (A ((q + 1) + 1)) := by rw [if_pos rfl, if_pos rfl, if_neg (by omega)] at h677; exact h677
                      have nz : 3 ≠ (0 : Int) := by first | omega | (unfold x_wr; omega)
                      refine And.intro (rfl) ?_
                      refine And.intro (rfl) ?_
                      skip
                      refine And.intro (⟨rfl, by first | omega | (simp only [mS_iff, eq_self, Int.reduceEq, true_and, and_true, false_and, and_false, and_self, ↓reduceIte]; omega) | (simp only [mS_iff, eq_self, Int.reduceEq, true_and, and_true, false_and, and_false, and_self, ↓reduceIte] at *; omega)⟩) ?_
                      have sg := sg.p (j := 2) (v := (am_l2i (mw675 41 15))) (i := 3302) (by omega) (by omega)
                      have fg := fg.p (i := 3302) (v := (am_l2i (mw675 41 15)))
                      have fr := fr.p (i := 3302) (v := (am_l2i (mw675 41 15))) (by omega)
                      have hx := hx.p42 (i := 3302) (v := (am_l2i (mw675 41 15)))
                      obtain ⟨mw678, h679⟩ : ∃ z, z = (mS mw675 42 3302 (am_l2i (mw675 41 15))) := ⟨_, rfl⟩
                      rw [← h679] at hx fr sg fg ⊢
                      refine And.intro (rfl) ?_
                      refine ct_199 (by omega) hx (fun h => absurd h nz) (fun _ => ?_) (fun h => absurd h nz)
                      refine And.intro (rfl) ?_
                      refine ct_203f (by omega) hx nz (wr0.fr fr) fg (fun mw680 h685 h686 fg => ?_)
                      have fr := fr.trans h685
                      have hx := h686
                      skip
                      exfalso
                      omega
                    · replace h674 := am_lc_ge.mp h674
                      refine And.intro (rfl) ?_
                      refine And.intro (fun h690 => ?_) (fun h690 => ?_)
                      · replace h690 := am_lc_gt.mp h690
                        refine And.intro (rfl) ?_
                        refine ct_201 (by omega) hx (by omega) (fun mw691 h692 h693 => ?_)
                        have sg := sg.M h692
                        have fg := fg.M h692
                        have fr := fr.M h692
                        have hx : mTx mw691 n K A V E N ((q + 1) + 1) 3 (A ((q + 1) + 1)) := by rw [if_pos rfl, if_pos rfl, if_neg (by omega)] at h693; exact h693
                        have nz : 3 ≠ (0 : Int) := by first | omega | (unfold x_wr; omega)
                        refine And.intro (rfl) ?_
                        refine And.intro (rfl) ?_
                        skip
                        refine And.intro (⟨rfl, by first | omega | (simp only [mS_iff, eq_self, Int.reduceEq, true_and, and_true, false_and, and_false, and_self, ↓reduceIte]; omega) | (simp only [mS_iff, eq_self, Int.reduceEq, true_and, and_true, false_and, and_false, and_self, ↓reduceIte] at *; omega)⟩) ?_
                        have sg := sg.p (j := 2) (v := (am_l2i (mw691 41 15))) (i := 3302) (by omega) (by omega)
                        have fg := fg.p (i := 3302) (v := (am_l2i (mw691 41 15)))
                        have fr := fr.p (i := 3302) (v := (am_l2i (mw691 41 15))) (by omega)
                        have hx := hx.p42 (i := 3302) (v := (am_l2i (mw691 41 15)))
                        obtain ⟨mw694, h695⟩ : ∃ z, z = (mS mw691 42 3302 (am_l2i (mw691 41 15))) := ⟨_, rfl⟩
                        rw [← h695] at hx fr sg fg ⊢
                        refine And.intro (rfl) ?_
                        refine ct_199 (by omega) hx (fun h => absurd h nz) (fun _ => ?_) (fun h => absurd h nz)
                        refine And.intro (rfl) ?_
                        refine ct_203f (by omega) hx nz (wr0.fr fr) fg (fun mw696 h701 h702 fg => ?_)
                        have fr := fr.trans h701
                        have hx := h702
                        skip
                        exfalso
                        omega
                      · replace h690 := am_lc_le.mp h690
                        refine And.intro (rfl) ?_
                        refine And.intro (show 2 ≠ 0 by first | omega | (simp only [mS_iff, eq_self, Int.reduceEq, true_and, and_true, false_and, and_false, and_self, ↓reduceIte]; omega) | (simp only [mS_iff, eq_self, Int.reduceEq, true_and, and_true, false_and, and_false, and_self, ↓reduceIte] at *; omega)) ?_
                        refine And.intro (fun h706 => ?_) (fun h706 => ?_)
                        · replace h706 := am_lc_ne.mp h706
                          refine And.intro (rfl) ?_
                          refine And.intro (rfl) ?_
                          have lv : am_l2i (mw670 41 15) = V (q + 1 + 1) := by rw [am_l2i_eq (by omega)]; exact vq
                          refine And.intro (⟨rfl, by first | omega | (simp only [mS_iff, eq_self, Int.reduceEq, true_and, and_true, false_and, and_false, and_self, ↓reduceIte]; omega) | (simp only [mS_iff, eq_self, Int.reduceEq, true_and, and_true, false_and, and_false, and_self, ↓reduceIte] at *; omega)⟩) ?_
                          have sg := sg.p (j := 2) (v := (am_l2i (mw670 41 15))) (i := 3302) (by omega) (by omega)
                          have fg := fg.p (i := 3302) (v := (am_l2i (mw670 41 15)))
                          have fr := fr.p (i := 3302) (v := (am_l2i (mw670 41 15))) (by omega)
                          have hx := hx.p42 (i := 3302) (v := (am_l2i (mw670 41 15)))
                          obtain ⟨mw707, h708⟩ : ∃ z, z = (mS mw670 42 3302 (am_l2i (mw670 41 15))) := ⟨_, rfl⟩
                          rw [← h708] at hx fr sg fg ⊢
                          refine And.intro (rfl) ?_
                          refine ct_199 (by omega) hx (fun _ => by first | omega | (have := hx.2.2.2.2.2.2.1 rfl; have := this.2.2.1; have := this.1; have := this.2.1; omega)) (fun h => absurd rfl h) (fun _ mw709 h710 h711 => ?_)
                          have sg := sg.M h710
                          have fg := fg.M h710
                          have fr := fr.M h710
                          have hx := h711
                          refine And.intro (rfl) ?_
                          refine ct_203 (by omega) hx (wr0.fr fr) fg (show mw709 42 3300 = 8 by have := sg 0 (by omega) (by omega); simpa [p_up, p_bl] using this) (show mw709 42 3301 = 0 by have := sg 1 (by omega) (by omega); simpa [p_up, p_bl] using this) (show mw709 42 3302 = (am_l2i (mw670 41 15)) by have := sg 2 (by omega) (by omega); simpa [p_up, p_bl] using this) (fun mw712 q714 f715 p716 h717 h718 fg h719 h720 => ?_) (fun mw713 q714 ta tb h717 h718 fg h720 tab y0 y1 y2 y3 y4 => ?_)
                          · have fr := fr.trans h717
                            have hx := h718
                            have nz := h719
                            skip
                            exfalso
                            omega
                          · have fr := fr.trans h717
                            have hx := h718
                            skip
                            exfalso
                            omega
                        · replace h706 := am_lc_eq.mp h706
                          refine And.intro (rfl) ?_
                          refine ct_201 (by omega) hx (by omega) (fun mw722 h723 h724 => ?_)
                          have sg := sg.M h723
                          have fg := fg.M h723
                          have fr := fr.M h723
                          have hx : mTx mw722 n K A V E N ((q + 1) + 1) 3 (A ((q + 1) + 1)) := by rw [if_pos rfl, if_pos rfl, if_neg (by omega)] at h724; exact h724
                          have nz : 3 ≠ (0 : Int) := by first | omega | (unfold x_wr; omega)
                          refine And.intro (rfl) ?_
                          refine And.intro (rfl) ?_
                          skip
                          refine And.intro (⟨rfl, by first | omega | (simp only [mS_iff, eq_self, Int.reduceEq, true_and, and_true, false_and, and_false, and_self, ↓reduceIte]; omega) | (simp only [mS_iff, eq_self, Int.reduceEq, true_and, and_true, false_and, and_false, and_self, ↓reduceIte] at *; omega)⟩) ?_
                          have sg := sg.p (j := 2) (v := (am_l2i (mw722 41 15))) (i := 3302) (by omega) (by omega)
                          have fg := fg.p (i := 3302) (v := (am_l2i (mw722 41 15)))
                          have fr := fr.p (i := 3302) (v := (am_l2i (mw722 41 15))) (by omega)
                          have hx := hx.p42 (i := 3302) (v := (am_l2i (mw722 41 15)))
                          obtain ⟨mw725, h726⟩ : ∃ z, z = (mS mw722 42 3302 (am_l2i (mw722 41 15))) := ⟨_, rfl⟩
                          rw [← h726] at hx fr sg fg ⊢
                          refine And.intro (rfl) ?_
                          refine ct_199 (by omega) hx (fun h => absurd h nz) (fun _ => ?_) (fun h => absurd h nz)
                          refine And.intro (rfl) ?_
                          refine ct_203f (by omega) hx nz (wr0.fr fr) fg (fun mw727 h732 h733 fg => ?_)
                          have fr := fr.trans h732
                          have hx := h733
                          skip
                          exfalso
                          omega
                  · refine And.intro (rfl) ?_
                    refine ct_201 (by omega) hx (by omega) (fun mw737 h738 h739 => ?_)
                    have sg := sg.M h738
                    have fg := fg.M h738
                    have fr := fr.M h738
                    have hx : mTx mw737 n K A V E N ((q + 1) + 1) (x_wr (K ((q + 1) + 1))) (A ((q + 1) + 1)) := by unfold x_wr; rw [if_pos rfl, if_pos rfl] at h739; exact h739
                    have nz : (x_wr (K ((q + 1) + 1))) ≠ (0 : Int) := by first | omega | (unfold x_wr; omega)
                    refine And.intro (rfl) ?_
                    refine And.intro (rfl) ?_
                    skip
                    refine And.intro (⟨rfl, by first | omega | (simp only [mS_iff, eq_self, Int.reduceEq, true_and, and_true, false_and, and_false, and_self, ↓reduceIte]; omega) | (simp only [mS_iff, eq_self, Int.reduceEq, true_and, and_true, false_and, and_false, and_self, ↓reduceIte] at *; omega)⟩) ?_
                    have sg := sg.p (j := 2) (v := (am_l2i (mw737 41 15))) (i := 3302) (by omega) (by omega)
                    have fg := fg.p (i := 3302) (v := (am_l2i (mw737 41 15)))
                    have fr := fr.p (i := 3302) (v := (am_l2i (mw737 41 15))) (by omega)
                    have hx := hx.p42 (i := 3302) (v := (am_l2i (mw737 41 15)))
                    obtain ⟨mw740, h741⟩ : ∃ z, z = (mS mw737 42 3302 (am_l2i (mw737 41 15))) := ⟨_, rfl⟩
                    rw [← h741] at hx fr sg fg ⊢
                    refine And.intro (rfl) ?_
                    refine ct_199 (by omega) hx (fun h => absurd h nz) (fun _ => ?_) (fun h => absurd h nz)
                    refine And.intro (rfl) ?_
                    refine ct_203f (by omega) hx nz (wr0.fr fr) fg (fun mw742 h747 h748 fg => ?_)
                    have fr := fr.trans h747
                    have hx := h748
                    skip
                    exfalso
                    omega
                · refine And.intro (fun _ => ?_) (fun h => absurd h (by decide))
                  refine And.intro (rfl) ?_
                  refine ct_203 (by omega) hx (wr0.fr fr) fg (show mw666 42 3300 = 8 by have := sg 0 (by omega) (by omega); simpa [p_up, p_bl] using this) (show mw666 42 3301 = 0 by have := sg 1 (by omega) (by omega); simpa [p_up, p_bl] using this) (show mw666 42 3302 = 6 by have := sg 2 (by omega) (by omega); simpa [p_up, p_bl] using this) (fun mw752 q754 f755 p756 h757 h758 fg h759 h760 => ?_) (fun mw753 q754 ta tb h757 h758 fg h760 tab y0 y1 y2 y3 y4 => ?_)
                  · have fr := fr.trans h757
                    have hx := h758
                    have nz := h759
                    skip
                    exfalso
                    omega
                  · have fr := fr.trans h757
                    have hx := h758
                    skip
                    exfalso
                    omega
          · refine And.intro (fun h => absurd h (by decide)) (fun _ => ?_)
            refine And.intro (rfl) ?_
            refine ct_198 (w := 38) (by omega) hx (by omega) (by decide +kernel) (fun _ h762 => ?_) (fun h762 => ?_)
            · refine And.intro (fun h => absurd h (by decide)) (fun _ => ?_)
              refine And.intro (rfl) ?_
              refine And.intro (rfl) ?_
              refine ct_198 (w := 36) (by omega) hx (by omega) (by decide +kernel) (fun _ h763 => ?_) (fun h763 => ?_)
              · refine And.intro (fun h => absurd h (by decide)) (fun _ => ?_)
                refine And.intro (⟨rfl, by first | omega | (simp only [mS_iff, eq_self, Int.reduceEq, true_and, and_true, false_and, and_false, and_self, ↓reduceIte]; omega) | (simp only [mS_iff, eq_self, Int.reduceEq, true_and, and_true, false_and, and_false, and_self, ↓reduceIte] at *; omega)⟩) ?_
                have sg := sg.p (j := 0) (v := 6) (i := 3300) (by omega) (by omega)
                have fg := fg.p (i := 3300) (v := 6)
                have fr := fr.p (i := 3300) (v := 6) (by omega)
                have hx := hx.p42 (i := 3300) (v := 6)
                obtain ⟨mw764, h765⟩ : ∃ z, z = (mS m 42 3300 6) := ⟨_, rfl⟩
                rw [← h765] at hx fr sg fg ⊢
                refine And.intro (rfl) ?_
                refine And.intro (⟨rfl, by first | omega | (simp only [mS_iff, eq_self, Int.reduceEq, true_and, and_true, false_and, and_false, and_self, ↓reduceIte]; omega) | (simp only [mS_iff, eq_self, Int.reduceEq, true_and, and_true, false_and, and_false, and_self, ↓reduceIte] at *; omega)⟩) ?_
                have sg := sg.p (j := 2) (v := 6) (i := 3302) (by omega) (by omega)
                have fg := fg.p (i := 3302) (v := 6)
                have fr := fr.p (i := 3302) (v := 6) (by omega)
                have hx := hx.p42 (i := 3302) (v := 6)
                obtain ⟨mw766, h767⟩ : ∃ z, z = (mS mw764 42 3302 6) := ⟨_, rfl⟩
                rw [← h767] at hx fr sg fg ⊢
                refine And.intro (rfl) ?_
                refine ct_199 (by omega) hx (fun _ => by first | omega | (have := hx.2.2.2.2.2.2.1 rfl; have := this.2.2.1; have := this.1; have := this.2.1; omega)) (fun h => absurd rfl h) (fun _ mw768 h769 h770 => ?_)
                have sg := sg.M h769
                have fg := fg.M h769
                have fr := fr.M h769
                have hx := h770
                refine And.intro (rfl) ?_
                refine ct_198 (w := 40) (by omega) hx (by omega) (by decide +kernel) (fun _ h771 => ?_) (fun h771 => ?_)
                · refine And.intro (fun h => absurd h (by decide)) (fun _ => ?_)
                  refine And.intro (rfl) ?_
                  refine ct_199 (by omega) hx (fun _ => by first | omega | (have := hx.2.2.2.2.2.2.1 rfl; have := this.2.2.1; have := this.1; have := this.2.1; omega)) (fun h => absurd rfl h) (fun _ mw772 h773 h774 => ?_)
                  have sg := sg.M h773
                  have fg := fg.M h773
                  have fr := fr.M h773
                  have hx := h774
                  have kn := hx.k2.1
                  refine And.intro (rfl) ?_
                  refine And.intro (fun h775 => ?_) (fun h775 => ?_)
                  · have kq := hx.k2.1.mpr (by omega)
                    have vq := hx.k2.2.1 kq
                    have vb := hx.vb
                    have lr : am_lrem (mw772 41 15) 2 = V (q + 1 + 1) % 2 := by rw [am_lrem_eq (by omega) (by omega), vq]
                    refine And.intro (rfl) ?_
                    refine And.intro (fun h776 => ?_) (fun h776 => ?_)
                    · replace h776 := am_lc_lt.mp h776
                      refine And.intro (rfl) ?_
                      refine ct_201 (by omega) hx (by omega) (fun mw777 h778 h779 => ?_)
                      have sg := sg.M h778
                      have fg := fg.M h778
                      have fr := fr.M h778
                      have hx : mTx mw777 n K A V E N ((q + 1) + 1) 3 (A ((q + 1) + 1)) := by rw [if_pos rfl, if_pos rfl, if_neg (by omega)] at h779; exact h779
                      have nz : 3 ≠ (0 : Int) := by first | omega | (unfold x_wr; omega)
                      refine And.intro (rfl) ?_
                      refine And.intro (rfl) ?_
                      skip
                      refine And.intro (⟨rfl, by first | omega | (simp only [mS_iff, eq_self, Int.reduceEq, true_and, and_true, false_and, and_false, and_self, ↓reduceIte]; omega) | (simp only [mS_iff, eq_self, Int.reduceEq, true_and, and_true, false_and, and_false, and_self, ↓reduceIte] at *; omega)⟩) ?_
                      have sg := sg.p (j := 2) (v := (am_l2i (mw777 41 15))) (i := 3302) (by omega) (by omega)
                      have fg := fg.p (i := 3302) (v := (am_l2i (mw777 41 15)))
                      have fr := fr.p (i := 3302) (v := (am_l2i (mw777 41 15))) (by omega)
                      have hx := hx.p42 (i := 3302) (v := (am_l2i (mw777 41 15)))
                      obtain ⟨mw780, h781⟩ : ∃ z, z = (mS mw777 42 3302 (am_l2i (mw777 41 15))) := ⟨_, rfl⟩
                      rw [← h781] at hx fr sg fg ⊢
                      refine And.intro (rfl) ?_
                      refine ct_199 (by omega) hx (fun h => absurd h nz) (fun _ => ?_) (fun h => absurd h nz)
                      refine And.intro (rfl) ?_
                      refine ct_203f (by omega) hx nz (wr0.fr fr) fg (fun mw782 h787 h788 fg => ?_)
                      have fr := fr.trans h787
                      have hx := h788
                      skip
                      exfalso
                      omega
                    · replace h776 := am_lc_ge.mp h776
                      refine And.intro (rfl) ?_
                      refine And.intro (fun h792 => ?_) (fun h792 => ?_)
                      · replace h792 := am_lc_gt.mp h792
                        refine And.intro (rfl) ?_
                        refine ct_201 (by omega) hx (by omega) (fun mw793 h794 h795 => ?_)
                        have sg := sg.M h794
                        have fg := fg.M h794
                        have fr := fr.M h794
                        have hx : mTx mw793 n K A V E N ((q + 1) + 1) 3 (A ((q + 1) + 1)) := by rw [if_pos rfl, if_pos rfl, if_neg (by omega)] at h795; exact h795
                        have nz : 3 ≠ (0 : Int) := by first | omega | (unfold x_wr; omega)
                        refine And.intro (rfl) ?_
                        refine And.intro (rfl) ?_
                        skip
                        refine And.intro (⟨rfl, by first | omega | (simp only [mS_iff, eq_self, Int.reduceEq, true_and, and_true, false_and, and_false, and_self, ↓reduceIte]; omega) | (simp only [mS_iff, eq_self, Int.reduceEq, true_and, and_true, false_and, and_false, and_self, ↓reduceIte] at *; omega)⟩) ?_
                        have sg := sg.p (j := 2) (v := (am_l2i (mw793 41 15))) (i := 3302) (by omega) (by omega)
                        have fg := fg.p (i := 3302) (v := (am_l2i (mw793 41 15)))
                        have fr := fr.p (i := 3302) (v := (am_l2i (mw793 41 15))) (by omega)
                        have hx := hx.p42 (i := 3302) (v := (am_l2i (mw793 41 15)))
                        obtain ⟨mw796, h797⟩ : ∃ z, z = (mS mw793 42 3302 (am_l2i (mw793 41 15))) := ⟨_, rfl⟩
                        rw [← h797] at hx fr sg fg ⊢
                        refine And.intro (rfl) ?_
                        refine ct_199 (by omega) hx (fun h => absurd h nz) (fun _ => ?_) (fun h => absurd h nz)
                        refine And.intro (rfl) ?_
                        refine ct_203f (by omega) hx nz (wr0.fr fr) fg (fun mw798 h803 h804 fg => ?_)
                        have fr := fr.trans h803
                        have hx := h804
                        skip
                        exfalso
                        omega
                      · replace h792 := am_lc_le.mp h792
                        refine And.intro (rfl) ?_
                        refine And.intro (show 2 ≠ 0 by first | omega | (simp only [mS_iff, eq_self, Int.reduceEq, true_and, and_true, false_and, and_false, and_self, ↓reduceIte]; omega) | (simp only [mS_iff, eq_self, Int.reduceEq, true_and, and_true, false_and, and_false, and_self, ↓reduceIte] at *; omega)) ?_
                        refine And.intro (fun h808 => ?_) (fun h808 => ?_)
                        · replace h808 := am_lc_ne.mp h808
                          refine And.intro (rfl) ?_
                          refine And.intro (rfl) ?_
                          have lv : am_l2i (mw772 41 15) = V (q + 1 + 1) := by rw [am_l2i_eq (by omega)]; exact vq
                          refine And.intro (⟨rfl, by first | omega | (simp only [mS_iff, eq_self, Int.reduceEq, true_and, and_true, false_and, and_false, and_self, ↓reduceIte]; omega) | (simp only [mS_iff, eq_self, Int.reduceEq, true_and, and_true, false_and, and_false, and_self, ↓reduceIte] at *; omega)⟩) ?_
                          have sg := sg.p (j := 2) (v := (am_l2i (mw772 41 15))) (i := 3302) (by omega) (by omega)
                          have fg := fg.p (i := 3302) (v := (am_l2i (mw772 41 15)))
                          have fr := fr.p (i := 3302) (v := (am_l2i (mw772 41 15))) (by omega)
                          have hx := hx.p42 (i := 3302) (v := (am_l2i (mw772 41 15)))
                          obtain ⟨mw809, h810⟩ : ∃ z, z = (mS mw772 42 3302 (am_l2i (mw772 41 15))) := ⟨_, rfl⟩
                          rw [← h810] at hx fr sg fg ⊢
                          refine And.intro (rfl) ?_
                          refine ct_199 (by omega) hx (fun _ => by first | omega | (have := hx.2.2.2.2.2.2.1 rfl; have := this.2.2.1; have := this.1; have := this.2.1; omega)) (fun h => absurd rfl h) (fun _ mw811 h812 h813 => ?_)
                          have sg := sg.M h812
                          have fg := fg.M h812
                          have fr := fr.M h812
                          have hx := h813
                          refine And.intro (rfl) ?_
                          refine ct_203 (by omega) hx (wr0.fr fr) fg (show mw811 42 3300 = 6 by have := sg 0 (by omega) (by omega); simpa [p_up, p_bl] using this) (show mw811 42 3301 = 0 by have := sg 1 (by omega) (by omega); simpa [p_up, p_bl] using this) (show mw811 42 3302 = (am_l2i (mw772 41 15)) by have := sg 2 (by omega) (by omega); simpa [p_up, p_bl] using this) (fun mw814 q816 f817 p818 h819 h820 fg h821 h822 => ?_) (fun mw815 q816 ta tb h819 h820 fg h822 tab y0 y1 y2 y3 y4 => ?_)
                          · have fr := fr.trans h819
                            have hx := h820
                            have nz := h821
                            skip
                            exfalso
                            omega
                          · have fr := fr.trans h819
                            have hx := h820
                            skip
                            exfalso
                            omega
                        · replace h808 := am_lc_eq.mp h808
                          refine And.intro (rfl) ?_
                          refine ct_201 (by omega) hx (by omega) (fun mw824 h825 h826 => ?_)
                          have sg := sg.M h825
                          have fg := fg.M h825
                          have fr := fr.M h825
                          have hx : mTx mw824 n K A V E N ((q + 1) + 1) 3 (A ((q + 1) + 1)) := by rw [if_pos rfl, if_pos rfl, if_neg (by omega)] at h826; exact h826
                          have nz : 3 ≠ (0 : Int) := by first | omega | (unfold x_wr; omega)
                          refine And.intro (rfl) ?_
                          refine And.intro (rfl) ?_
                          skip
                          refine And.intro (⟨rfl, by first | omega | (simp only [mS_iff, eq_self, Int.reduceEq, true_and, and_true, false_and, and_false, and_self, ↓reduceIte]; omega) | (simp only [mS_iff, eq_self, Int.reduceEq, true_and, and_true, false_and, and_false, and_self, ↓reduceIte] at *; omega)⟩) ?_
                          have sg := sg.p (j := 2) (v := (am_l2i (mw824 41 15))) (i := 3302) (by omega) (by omega)
                          have fg := fg.p (i := 3302) (v := (am_l2i (mw824 41 15)))
                          have fr := fr.p (i := 3302) (v := (am_l2i (mw824 41 15))) (by omega)
                          have hx := hx.p42 (i := 3302) (v := (am_l2i (mw824 41 15)))
                          obtain ⟨mw827, h828⟩ : ∃ z, z = (mS mw824 42 3302 (am_l2i (mw824 41 15))) := ⟨_, rfl⟩
                          rw [← h828] at hx fr sg fg ⊢
                          refine And.intro (rfl) ?_
                          refine ct_199 (by omega) hx (fun h => absurd h nz) (fun _ => ?_) (fun h => absurd h nz)
                          refine And.intro (rfl) ?_
                          refine ct_203f (by omega) hx nz (wr0.fr fr) fg (fun mw829 h834 h835 fg => ?_)
                          have fr := fr.trans h834
                          have hx := h835
                          skip
                          exfalso
                          omega
                  · refine And.intro (rfl) ?_
                    refine ct_201 (by omega) hx (by omega) (fun mw839 h840 h841 => ?_)
                    have sg := sg.M h840
                    have fg := fg.M h840
                    have fr := fr.M h840
                    have hx : mTx mw839 n K A V E N ((q + 1) + 1) (x_wr (K ((q + 1) + 1))) (A ((q + 1) + 1)) := by unfold x_wr; rw [if_pos rfl, if_pos rfl] at h841; exact h841
                    have nz : (x_wr (K ((q + 1) + 1))) ≠ (0 : Int) := by first | omega | (unfold x_wr; omega)
                    refine And.intro (rfl) ?_
                    refine And.intro (rfl) ?_
                    skip
                    refine And.intro (⟨rfl, by first | omega | (simp only [mS_iff, eq_self, Int.reduceEq, true_and, and_true, false_and, and_false, and_self, ↓reduceIte]; omega) | (simp only [mS_iff, eq_self, Int.reduceEq, true_and, and_true, false_and, and_false, and_self, ↓reduceIte] at *; omega)⟩) ?_
                    have sg := sg.p (j := 2) (v := (am_l2i (mw839 41 15))) (i := 3302) (by omega) (by omega)
                    have fg := fg.p (i := 3302) (v := (am_l2i (mw839 41 15)))
                    have fr := fr.p (i := 3302) (v := (am_l2i (mw839 41 15))) (by omega)
                    have hx := hx.p42 (i := 3302) (v := (am_l2i (mw839 41 15)))
                    obtain ⟨mw842, h843⟩ : ∃ z, z = (mS mw839 42 3302 (am_l2i (mw839 41 15))) := ⟨_, rfl⟩
                    rw [← h843] at hx fr sg fg ⊢
                    refine And.intro (rfl) ?_
                    refine ct_199 (by omega) hx (fun h => absurd h nz) (fun _ => ?_) (fun h => absurd h nz)
                    refine And.intro (rfl) ?_
                    refine ct_203f (by omega) hx nz (wr0.fr fr) fg (fun mw844 h849 h850 fg => ?_)
                    have fr := fr.trans h849
                    have hx := h850
                    skip
                    exfalso
                    omega
                · refine And.intro (fun _ => ?_) (fun h => absurd h (by decide))
                  refine And.intro (rfl) ?_
                  refine ct_203 (by omega) hx (wr0.fr fr) fg (show mw768 42 3300 = 6 by have := sg 0 (by omega) (by omega); simpa [p_up, p_bl] using this) (show mw768 42 3301 = 0 by have := sg 1 (by omega) (by omega); simpa [p_up, p_bl] using this) (show mw768 42 3302 = 6 by have := sg 2 (by omega) (by omega); simpa [p_up, p_bl] using this) (fun mw854 q856 f857 p858 h859 h860 fg h861 h862 => ?_) (fun mw855 q856 ta tb h859 h860 fg h862 tab y0 y1 y2 y3 y4 => ?_)
                  · have fr := fr.trans h859
                    have hx := h860
                    have nz := h861
                    skip
                    exfalso
                    omega
                  · have fr := fr.trans h859
                    have hx := h860
                    skip
                    exfalso
                    omega
              · refine And.intro (fun _ => ?_) (fun h => absurd h (by decide))
                refine And.intro (rfl) ?_
                refine ct_198 (w := 37) (by omega) hx (by omega) (by decide +kernel) (fun _ h864 => ?_) (fun h864 => ?_)
                · refine And.intro (fun h => absurd h (by decide)) (fun _ => ?_)
                  refine And.intro (⟨rfl, by first | omega | (simp only [mS_iff, eq_self, Int.reduceEq, true_and, and_true, false_and, and_false, and_self, ↓reduceIte]; omega) | (simp only [mS_iff, eq_self, Int.reduceEq, true_and, and_true, false_and, and_false, and_self, ↓reduceIte] at *; omega)⟩) ?_
                  have sg := sg.p (j := 0) (v := 7) (i := 3300) (by omega) (by omega)
                  have fg := fg.p (i := 3300) (v := 7)
                  have fr := fr.p (i := 3300) (v := 7) (by omega)
                  have hx := hx.p42 (i := 3300) (v := 7)
                  obtain ⟨mw865, h866⟩ : ∃ z, z = (mS m 42 3300 7) := ⟨_, rfl⟩
                  rw [← h866] at hx fr sg fg ⊢
                  refine And.intro (rfl) ?_
                  refine And.intro (⟨rfl, by first | omega | (simp only [mS_iff, eq_self, Int.reduceEq, true_and, and_true, false_and, and_false, and_self, ↓reduceIte]; omega) | (simp only [mS_iff, eq_self, Int.reduceEq, true_and, and_true, false_and, and_false, and_self, ↓reduceIte] at *; omega)⟩) ?_
                  have sg := sg.p (j := 2) (v := 6) (i := 3302) (by omega) (by omega)
                  have fg := fg.p (i := 3302) (v := 6)
                  have fr := fr.p (i := 3302) (v := 6) (by omega)
                  have hx := hx.p42 (i := 3302) (v := 6)
                  obtain ⟨mw867, h868⟩ : ∃ z, z = (mS mw865 42 3302 6) := ⟨_, rfl⟩
                  rw [← h868] at hx fr sg fg ⊢
                  refine And.intro (rfl) ?_
                  refine ct_199 (by omega) hx (fun _ => by first | omega | (have := hx.2.2.2.2.2.2.1 rfl; have := this.2.2.1; have := this.1; have := this.2.1; omega)) (fun h => absurd rfl h) (fun _ mw869 h870 h871 => ?_)
                  have sg := sg.M h870
                  have fg := fg.M h870
                  have fr := fr.M h870
                  have hx := h871
                  refine And.intro (rfl) ?_
                  refine ct_198 (w := 40) (by omega) hx (by omega) (by decide +kernel) (fun _ h872 => ?_) (fun h872 => ?_)
                  · refine And.intro (fun h => absurd h (by decide)) (fun _ => ?_)
                    refine And.intro (rfl) ?_
                    refine ct_199 (by omega) hx (fun _ => by first | omega | (have := hx.2.2.2.2.2.2.1 rfl; have := this.2.2.1; have := this.1; have := this.2.1; omega)) (fun h => absurd rfl h) (fun _ mw873 h874 h875 => ?_)
                    have sg := sg.M h874
                    have fg := fg.M h874
                    have fr := fr.M h874
                    have hx := h875
                    have kn := hx.k2.1
                    refine And.intro (rfl) ?_
                    refine And.intro (fun h876 => ?_) (fun h876 => ?_)
                    · have kq := hx.k2.1.mpr (by omega)
                      have vq := hx.k2.2.1 kq
                      have vb := hx.vb
                      have lr : am_lrem (mw873 41 15) 2 = V (q + 1 + 1) % 2 := by rw [am_lrem_eq (by omega) (by omega), vq]
                      refine And.intro (rfl) ?_
                      refine And.intro (fun h877 => ?_) (fun h877 => ?_)
                      · replace h877 := am_lc_lt.mp h877
                        refine And.intro (rfl) ?_
                        refine ct_201 (by omega) hx (by omega) (fun mw878 h879 h880 => ?_)
                        have sg := sg.M h879
                        have fg := fg.M h879
                        have fr := fr.M h879
                        have hx : mTx mw878 n K A V E N ((q + 1) + 1) 3 (A ((q + 1) + 1)) := by rw [if_pos rfl, if_pos rfl, if_neg (by omega)] at h880; exact h880
                        have nz : 3 ≠ (0 : Int) := by first | omega | (unfold x_wr; omega)
                        refine And.intro (rfl) ?_
                        refine And.intro (rfl) ?_
                        skip
                        refine And.intro (⟨rfl, by first | omega | (simp only [mS_iff, eq_self, Int.reduceEq, true_and, and_true, false_and, and_false, and_self, ↓reduceIte]; omega) | (simp only [mS_iff, eq_self, Int.reduceEq, true_and, and_true, false_and, and_false, and_self, ↓reduceIte] at *; omega)⟩) ?_
                        have sg := sg.p (j := 2) (v := (am_l2i (mw878 41 15))) (i := 3302) (by omega) (by omega)
                        have fg := fg.p (i := 3302) (v := (am_l2i (mw878 41 15)))
                        have fr := fr.p (i := 3302) (v := (am_l2i (mw878 41 15))) (by omega)
                        have hx := hx.p42 (i := 3302) (v := (am_l2i (mw878 41 15)))
                        obtain ⟨mw881, h882⟩ : ∃ z, z = (mS mw878 42 3302 (am_l2i (mw878 41 15))) := ⟨_, rfl⟩
                        rw [← h882] at hx fr sg fg ⊢
                        refine And.intro (rfl) ?_
                        refine ct_199 (by omega) hx (fun h => absurd h nz) (fun _ => ?_) (fun h => absurd h nz)
                        refine And.intro (rfl) ?_
                        refine ct_203f (by omega) hx nz (wr0.fr fr) fg (fun mw883 h888 h889 fg => ?_)
                        have fr := fr.trans h888
                        have hx := h889
                        skip
                        exfalso
                        omega
                      · replace h877 := am_lc_ge.mp h877
                        refine And.intro (rfl) ?_
                        refine And.intro (fun h893 => ?_) (fun h893 => ?_)
                        · replace h893 := am_lc_gt.mp h893
                          refine And.intro (rfl) ?_
                          refine ct_201 (by omega) hx (by omega) (fun mw894 h895 h896 => ?_)
                          have sg := sg.M h895
                          have fg := fg.M h895
                          have fr := fr.M h895
                          have hx : mTx mw894 n K A V E N ((q + 1) + 1) 3 (A ((q + 1) + 1)) := by rw [if_pos rfl, if_pos rfl, if_neg (by omega)] at h896; exact h896
                          have nz : 3 ≠ (0 : Int) := by first | omega | (unfold x_wr; omega)
                          refine And.intro (rfl) ?_
                          refine And.intro (rfl) ?_
                          skip
                          refine And.intro (⟨rfl, by first | omega | (simp only [mS_iff, eq_self, Int.reduceEq, true_and, and_true, false_and, and_false, and_self, ↓reduceIte]; omega) | (simp only [mS_iff, eq_self, Int.reduceEq, true_and, and_true, false_and, and_false, and_self, ↓reduceIte] at *; omega)⟩) ?_
                          have sg := sg.p (j := 2) (v := (am_l2i (mw894 41 15))) (i := 3302) (by omega) (by omega)
                          have fg := fg.p (i := 3302) (v := (am_l2i (mw894 41 15)))
                          have fr := fr.p (i := 3302) (v := (am_l2i (mw894 41 15))) (by omega)
                          have hx := hx.p42 (i := 3302) (v := (am_l2i (mw894 41 15)))
                          obtain ⟨mw897, h898⟩ : ∃ z, z = (mS mw894 42 3302 (am_l2i (mw894 41 15))) := ⟨_, rfl⟩
                          rw [← h898] at hx fr sg fg ⊢
                          refine And.intro (rfl) ?_
                          refine ct_199 (by omega) hx (fun h => absurd h nz) (fun _ => ?_) (fun h => absurd h nz)
                          refine And.intro (rfl) ?_
                          refine ct_203f (by omega) hx nz (wr0.fr fr) fg (fun mw899 h904 h905 fg => ?_)
                          have fr := fr.trans h904
                          have hx := h905
                          skip
                          exfalso
                          omega
                        · replace h893 := am_lc_le.mp h893
                          refine And.intro (rfl) ?_
                          refine And.intro (show 2 ≠ 0 by first | omega | (simp only [mS_iff, eq_self, Int.reduceEq, true_and, and_true, false_and, and_false, and_self, ↓reduceIte]; omega) | (simp only [mS_iff, eq_self, Int.reduceEq, true_and, and_true, false_and, and_false, and_self, ↓reduceIte] at *; omega)) ?_
                          refine And.intro (fun h909 => ?_) (fun h909 => ?_)
                          · replace h909 := am_lc_ne.mp h909
                            refine And.intro (rfl) ?_
                            refine And.intro (rfl) ?_
                            have lv : am_l2i (mw873 41 15) = V (q + 1 + 1) := by rw [am_l2i_eq (by omega)]; exact vq
                            refine And.intro (⟨rfl, by first | omega | (simp only [mS_iff, eq_self, Int.reduceEq, true_and, and_true, false_and, and_false, and_self, ↓reduceIte]; omega) | (simp only [mS_iff, eq_self, Int.reduceEq, true_and, and_true, false_and, and_false, and_self, ↓reduceIte] at *; omega)⟩) ?_
                            have sg := sg.p (j := 2) (v := (am_l2i (mw873 41 15))) (i := 3302) (by omega) (by omega)
                            have fg := fg.p (i := 3302) (v := (am_l2i (mw873 41 15)))
                            have fr := fr.p (i := 3302) (v := (am_l2i (mw873 41 15))) (by omega)
                            have hx := hx.p42 (i := 3302) (v := (am_l2i (mw873 41 15)))
                            obtain ⟨mw910, h911⟩ : ∃ z, z = (mS mw873 42 3302 (am_l2i (mw873 41 15))) := ⟨_, rfl⟩
                            rw [← h911] at hx fr sg fg ⊢
                            refine And.intro (rfl) ?_
                            refine ct_199 (by omega) hx (fun _ => by first | omega | (have := hx.2.2.2.2.2.2.1 rfl; have := this.2.2.1; have := this.1; have := this.2.1; omega)) (fun h => absurd rfl h) (fun _ mw912 h913 h914 => ?_)
                            have sg := sg.M h913
                            have fg := fg.M h913
                            have fr := fr.M h913
                            have hx := h914
                            refine And.intro (rfl) ?_
                            refine ct_203 (by omega) hx (wr0.fr fr) fg (show mw912 42 3300 = 7 by have := sg 0 (by omega) (by omega); simpa [p_up, p_bl] using this) (show mw912 42 3301 = 0 by have := sg 1 (by omega) (by omega); simpa [p_up, p_bl] using this) (show mw912 42 3302 = (am_l2i (mw873 41 15)) by have := sg 2 (by omega) (by omega); simpa [p_up, p_bl] using this) (fun mw915 q917 f918 p919 h920 h921 fg h922 h923 => ?_) (fun mw916 q917 ta tb h920 h921 fg h923 tab y0 y1 y2 y3 y4 => ?_)
                            · have fr := fr.trans h920
                              have hx := h921
                              have nz := h922
                              skip
                              exfalso
                              omega
                            · have fr := fr.trans h920
                              have hx := h921
                              skip
                              exfalso
                              omega
                          · replace h909 := am_lc_eq.mp h909
                            refine And.intro (rfl) ?_
                            refine ct_201 (by omega) hx (by omega) (fun mw925 h926 h927 => ?_)
                            have sg := sg.M h926
                            have fg := fg.M h926
                            have fr := fr.M h926
                            have hx : mTx mw925 n K A V E N ((q + 1) + 1) 3 (A ((q + 1) + 1)) := by rw [if_pos rfl, if_pos rfl, if_neg (by omega)] at h927; exact h927
                            have nz : 3 ≠ (0 : Int) := by first | omega | (unfold x_wr; omega)
                            refine And.intro (rfl) ?_
                            refine And.intro (rfl) ?_
                            skip
                            refine And.intro (⟨rfl, by first | omega | (simp only [mS_iff, eq_self, Int.reduceEq, true_and, and_true, false_and, and_false, and_self, ↓reduceIte]; omega) | (simp only [mS_iff, eq_self, Int.reduceEq, true_and, and_true, false_and, and_false, and_self, ↓reduceIte] at *; omega)⟩) ?_
                            have sg := sg.p (j := 2) (v := (am_l2i (mw925 41 15))) (i := 3302) (by omega) (by omega)
                            have fg := fg.p (i := 3302) (v := (am_l2i (mw925 41 15)))
                            have fr := fr.p (i := 3302) (v := (am_l2i (mw925 41 15))) (by omega)
                            have hx := hx.p42 (i := 3302) (v := (am_l2i (mw925 41 15)))
                            obtain ⟨mw928, h929⟩ : ∃ z, z = (mS mw925 42 3302 (am_l2i (mw925 41 15))) := ⟨_, rfl⟩
                            rw [← h929] at hx fr sg fg ⊢
                            refine And.intro (rfl) ?_
                            refine ct_199 (by omega) hx (fun h => absurd h nz) (fun _ => ?_) (fun h => absurd h nz)
                            refine And.intro (rfl) ?_
                            refine ct_203f (by omega) hx nz (wr0.fr fr) fg (fun mw930 h935 h936 fg => ?_)
                            have fr := fr.trans h935
                            have hx := h936
                            skip
                            exfalso
                            omega
                    · refine And.intro (rfl) ?_
                      refine ct_201 (by omega) hx (by omega) (fun mw940 h941 h942 => ?_)
                      have sg := sg.M h941
                      have fg := fg.M h941
                      have fr := fr.M h941
                      have hx : mTx mw940 n K A V E N ((q + 1) + 1) (x_wr (K ((q + 1) + 1))) (A ((q + 1) + 1)) := by unfold x_wr; rw [if_pos rfl, if_pos rfl] at h942; exact h942
                      have nz : (x_wr (K ((q + 1) + 1))) ≠ (0 : Int) := by first | omega | (unfold x_wr; omega)
                      refine And.intro (rfl) ?_
                      refine And.intro (rfl) ?_
                      skip
                      refine And.intro (⟨rfl, by first | omega | (simp only [mS_iff, eq_self, Int.reduceEq, true_and, and_true, false_and, and_false, and_self, ↓reduceIte]; omega) | (simp only [mS_iff, eq_self, Int.reduceEq, true_and, and_true, false_and, and_false, and_self, ↓reduceIte] at *; omega)⟩) ?_
                      have sg := sg.p (j := 2) (v := (am_l2i (mw940 41 15))) (i := 3302) (by omega) (by omega)
                      have fg := fg.p (i := 3302) (v := (am_l2i (mw940 41 15)))
                      have fr := fr.p (i := 3302) (v := (am_l2i (mw940 41 15))) (by omega)
                      have hx := hx.p42 (i := 3302) (v := (am_l2i (mw940 41 15)))
                      obtain ⟨mw943, h944⟩ : ∃ z, z = (mS mw940 42 3302 (am_l2i (mw940 41 15))) := ⟨_, rfl⟩
                      rw [← h944] at hx fr sg fg ⊢
                      refine And.intro (rfl) ?_
                      refine ct_199 (by omega) hx (fun h => absurd h nz) (fun _ => ?_) (fun h => absurd h nz)
                      refine And.intro (rfl) ?_
                      refine ct_203f (by omega) hx nz (wr0.fr fr) fg (fun mw945 h950 h951 fg => ?_)
                      have fr := fr.trans h950
                      have hx := h951
                      skip
                      exfalso
                      omega
                  · refine And.intro (fun _ => ?_) (fun h => absurd h (by decide))
                    refine And.intro (rfl) ?_
                    refine ct_203 (by omega) hx (wr0.fr fr) fg (show mw869 42 3300 = 7 by have := sg 0 (by omega) (by omega); simpa [p_up, p_bl] using this) (show mw869 42 3301 = 0 by have := sg 1 (by omega) (by omega); simpa [p_up, p_bl] using this) (show mw869 42 3302 = 6 by have := sg 2 (by omega) (by omega); simpa [p_up, p_bl] using this) (fun mw955 q957 f958 p959 h960 h961 fg h962 h963 => ?_) (fun mw956 q957 ta tb h960 h961 fg h963 tab y0 y1 y2 y3 y4 => ?_)
                    · have fr := fr.trans h960
                      have hx := h961
                      have nz := h962
                      skip
                      exfalso
                      omega
                    · have fr := fr.trans h960
                      have hx := h961
                      skip
                      exfalso
                      omega
                · refine And.intro (fun _ => ?_) (fun h => absurd h (by decide))
                  refine And.intro (⟨rfl, by first | omega | (simp only [mS_iff, eq_self, Int.reduceEq, true_and, and_true, false_and, and_false, and_self, ↓reduceIte]; omega) | (simp only [mS_iff, eq_self, Int.reduceEq, true_and, and_true, false_and, and_false, and_self, ↓reduceIte] at *; omega)⟩) ?_
                  have sg := sg.p (j := 0) (v := 8) (i := 3300) (by omega) (by omega)
                  have fg := fg.p (i := 3300) (v := 8)
                  have fr := fr.p (i := 3300) (v := 8) (by omega)
                  have hx := hx.p42 (i := 3300) (v := 8)
                  obtain ⟨mw965, h966⟩ : ∃ z, z = (mS m 42 3300 8) := ⟨_, rfl⟩
                  rw [← h966] at hx fr sg fg ⊢
                  refine And.intro (rfl) ?_
                  refine And.intro (⟨rfl, by first | omega | (simp only [mS_iff, eq_self, Int.reduceEq, true_and, and_true, false_and, and_false, and_self, ↓reduceIte]; omega) | (simp only [mS_iff, eq_self, Int.reduceEq, true_and, and_true, false_and, and_false, and_self, ↓reduceIte] at *; omega)⟩) ?_
                  have sg := sg.p (j := 2) (v := 6) (i := 3302) (by omega) (by omega)
                  have fg := fg.p (i := 3302) (v := 6)
                  have fr := fr.p (i := 3302) (v := 6) (by omega)
                  have hx := hx.p42 (i := 3302) (v := 6)
                  obtain ⟨mw967, h968⟩ : ∃ z, z = (mS mw965 42 3302 6) := ⟨_, rfl⟩
                  rw [← h968] at hx fr sg fg ⊢
                  refine And.intro (rfl) ?_
                  refine ct_199 (by omega) hx (fun _ => by first | omega | (have := hx.2.2.2.2.2.2.1 rfl; have := this.2.2.1; have := this.1; have := this.2.1; omega)) (fun h => absurd rfl h) (fun _ mw969 h970 h971 => ?_)
                  have sg := sg.M h970
                  have fg := fg.M h970
                  have fr := fr.M h970
                  have hx := h971
                  refine And.intro (rfl) ?_
                  refine ct_198 (w := 40) (by omega) hx (by omega) (by decide +kernel) (fun _ h972 => ?_) (fun h972 => ?_)
                  · refine And.intro (fun h => absurd h (by decide)) (fun _ => ?_)
                    refine And.intro (rfl) ?_
                    refine ct_199 (by omega) hx (fun _ => by first | omega | (have := hx.2.2.2.2.2.2.1 rfl; have := this.2.2.1; have := this.1; have := this.2.1; omega)) (fun h => absurd rfl h) (fun _ mw973 h974 h975 => ?_)
                    have sg := sg.M h974
                    have fg := fg.M h974
                    have fr := fr.M h974
                    have hx := h975
                    have kn := hx.k2.1
                    refine And.intro (rfl) ?_
                    refine And.intro (fun h976 => ?_) (fun h976 => ?_)
                    · have kq := hx.k2.1.mpr (by omega)
                      have vq := hx.k2.2.1 kq
                      have vb := hx.vb
                      have lr : am_lrem (mw973 41 15) 2 = V (q + 1 + 1) % 2 := by rw [am_lrem_eq (by omega) (by omega), vq]
                      refine And.intro (rfl) ?_
                      refine And.intro (fun h977 => ?_) (fun h977 => ?_)
                      · replace h977 := am_lc_lt.mp h977
                        refine And.intro (rfl) ?_
                        refine ct_201 (by omega) hx (by omega) (fun mw978 h979 h980 => ?_)
                        have sg := sg.M h979
                        have fg := fg.M h979
                        have fr := fr.M h979
                        have hx : mTx mw978 n K A V E N ((q + 1) + 1) 3 (A ((q + 1) + 1)) := by rw [if_pos rfl, if_pos rfl, if_neg (by omega)] at h980; exact h980
                        have nz : 3 ≠ (0 : Int) := by first | omega | (unfold x_wr; omega)
                        refine And.intro (rfl) ?_
                        refine And.intro (rfl) ?_
                        skip
                        refine And.intro (⟨rfl, by first | omega | (simp only [mS_iff, eq_self, Int.reduceEq, true_and, and_true, false_and, and_false, and_self, ↓reduceIte]; omega) | (simp only [mS_iff, eq_self, Int.reduceEq, true_and, and_true, false_and, and_false, and_self, ↓reduceIte] at *; omega)⟩) ?_
                        have sg := sg.p (j := 2) (v := (am_l2i (mw978 41 15))) (i := 3302) (by omega) (by omega)
                        have fg := fg.p (i := 3302) (v := (am_l2i (mw978 41 15)))
                        have fr := fr.p (i := 3302) (v := (am_l2i (mw978 41 15))) (by omega)
                        have hx := hx.p42 (i := 3302) (v := (am_l2i (mw978 41 15)))
                        obtain ⟨mw981, h982⟩ : ∃ z, z = (mS mw978 42 3302 (am_l2i (mw978 41 15))) := ⟨_, rfl⟩
                        rw [← h982] at hx fr sg fg ⊢
                        refine And.intro (rfl) ?_
                        refine ct_199 (by omega) hx (fun h => absurd h nz) (fun _ => ?_) (fun h => absurd h nz)
                        refine And.intro (rfl) ?_
                        refine ct_203f (by omega) hx nz (wr0.fr fr) fg (fun mw983 h988 h989 fg => ?_)
                        have fr := fr.trans h988
                        have hx := h989
                        skip
                        have e := p_f7 (A := A) (V := V) (by omega : 36 ≤ K q ∧ K q < 39) (by omega : K (q + 1) = 40)
                        refine hQe _ _ _ _ fr hx fg nz ?_
                        rw [e]
                        exact p_bd_l (by unfold p_num; rw [if_pos (by omega), if_pos (by omega)])
                      · replace h977 := am_lc_ge.mp h977
                        refine And.intro (rfl) ?_
                        refine And.intro (fun h993 => ?_) (fun h993 => ?_)
                        · replace h993 := am_lc_gt.mp h993
                          refine And.intro (rfl) ?_
                          refine ct_201 (by omega) hx (by omega) (fun mw994 h995 h996 => ?_)
                          have sg := sg.M h995
                          have fg := fg.M h995
                          have fr := fr.M h995
                          have hx : mTx mw994 n K A V E N ((q + 1) + 1) 3 (A ((q + 1) + 1)) := by rw [if_pos rfl, if_pos rfl, if_neg (by omega)] at h996; exact h996
                          have nz : 3 ≠ (0 : Int) := by first | omega | (unfold x_wr; omega)
                          refine And.intro (rfl) ?_
                          refine And.intro (rfl) ?_
                          skip
                          refine And.intro (⟨rfl, by first | omega | (simp only [mS_iff, eq_self, Int.reduceEq, true_and, and_true, false_and, and_false, and_self, ↓reduceIte]; omega) | (simp only [mS_iff, eq_self, Int.reduceEq, true_and, and_true, false_and, and_false, and_self, ↓reduceIte] at *; omega)⟩) ?_
                          have sg := sg.p (j := 2) (v := (am_l2i (mw994 41 15))) (i := 3302) (by omega) (by omega)
                          have fg := fg.p (i := 3302) (v := (am_l2i (mw994 41 15)))
                          have fr := fr.p (i := 3302) (v := (am_l2i (mw994 41 15))) (by omega)
                          have hx := hx.p42 (i := 3302) (v := (am_l2i (mw994 41 15)))
                          obtain ⟨mw997, h998⟩ : ∃ z, z = (mS mw994 42 3302 (am_l2i (mw994 41 15))) := ⟨_, rfl⟩
                          rw [← h998] at hx fr sg fg ⊢
                          refine And.intro (rfl) ?_
                          refine ct_199 (by omega) hx (fun h => absurd h nz) (fun _ => ?_) (fun h => absurd h nz)
                          refine And.intro (rfl) ?_
                          refine ct_203f (by omega) hx nz (wr0.fr fr) fg (fun mw999 h1004 h1005 fg => ?_)
                          have fr := fr.trans h1004
                          have hx := h1005
                          skip
                          have e := p_f7 (A := A) (V := V) (by omega : 36 ≤ K q ∧ K q < 39) (by omega : K (q + 1) = 40)
                          refine hQe _ _ _ _ fr hx fg nz ?_
                          rw [e]
                          exact p_bd_l (by unfold p_num; rw [if_pos (by omega), if_pos (by omega)])
                        · replace h993 := am_lc_le.mp h993
                          refine And.intro (rfl) ?_
                          refine And.intro (show 2 ≠ 0 by first | omega | (simp only [mS_iff, eq_self, Int.reduceEq, true_and, and_true, false_and, and_false, and_self, ↓reduceIte]; omega) | (simp only [mS_iff, eq_self, Int.reduceEq, true_and, and_true, false_and, and_false, and_self, ↓reduceIte] at *; omega)) ?_
                          refine And.intro (fun h1009 => ?_) (fun h1009 => ?_)
                          · replace h1009 := am_lc_ne.mp h1009
                            refine And.intro (rfl) ?_
                            refine And.intro (rfl) ?_
                            have lv : am_l2i (mw973 41 15) = V (q + 1 + 1) := by rw [am_l2i_eq (by omega)]; exact vq
                            refine And.intro (⟨rfl, by first | omega | (simp only [mS_iff, eq_self, Int.reduceEq, true_and, and_true, false_and, and_false, and_self, ↓reduceIte]; omega) | (simp only [mS_iff, eq_self, Int.reduceEq, true_and, and_true, false_and, and_false, and_self, ↓reduceIte] at *; omega)⟩) ?_
                            have sg := sg.p (j := 2) (v := (am_l2i (mw973 41 15))) (i := 3302) (by omega) (by omega)
                            have fg := fg.p (i := 3302) (v := (am_l2i (mw973 41 15)))
                            have fr := fr.p (i := 3302) (v := (am_l2i (mw973 41 15))) (by omega)
                            have hx := hx.p42 (i := 3302) (v := (am_l2i (mw973 41 15)))
                            obtain ⟨mw1010, h1011⟩ : ∃ z, z = (mS mw973 42 3302 (am_l2i (mw973 41 15))) := ⟨_, rfl⟩
                            rw [← h1011] at hx fr sg fg ⊢
                            refine And.intro (rfl) ?_
                            refine ct_199 (by omega) hx (fun _ => by first | omega | (have := hx.2.2.2.2.2.2.1 rfl; have := this.2.2.1; have := this.1; have := this.2.1; omega)) (fun h => absurd rfl h) (fun _ mw1012 h1013 h1014 => ?_)
                            have sg := sg.M h1013
                            have fg := fg.M h1013
                            have fr := fr.M h1013
                            have hx := h1014
                            refine And.intro (rfl) ?_
                            refine ct_203 (by omega) hx (wr0.fr fr) fg (show mw1012 42 3300 = 8 by have := sg 0 (by omega) (by omega); simpa [p_up, p_bl] using this) (show mw1012 42 3301 = 0 by have := sg 1 (by omega) (by omega); simpa [p_up, p_bl] using this) (show mw1012 42 3302 = (am_l2i (mw973 41 15)) by have := sg 2 (by omega) (by omega); simpa [p_up, p_bl] using this) (fun mw1015 q1017 f1018 p1019 h1020 h1021 fg h1022 h1023 => ?_) (fun mw1016 q1017 ta tb h1020 h1021 fg h1023 tab y0 y1 y2 y3 y4 => ?_)
                            · have fr := fr.trans h1020
                              have hx := h1021
                              have nz := h1022
                              skip
                              have e := p_f7 (A := A) (V := V) (by omega : 36 ≤ K q ∧ K q < 39) (by omega : K (q + 1) = 40)
                              rw [p_bd_r (show p_num K A V 4 1 (q + 1 + 1) = .inr (q + 1 + 1 + 1, V (q + 1 + 1)) by unfold p_num; rw [if_pos (by omega), if_neg (by omega)]), ← lv] at e
                              rw [show (6 : Int) + (K q - 36) = 8 by omega] at e
                              exact hQe _ _ _ _ fr hx fg nz (e.trans h1023)
                            · have fr := fr.trans h1020
                              have hx := h1021
                              skip
                              have e := p_f7 (A := A) (V := V) (by omega : 36 ≤ K q ∧ K q < 39) (by omega : K (q + 1) = 40)
                              rw [p_bd_r (show p_num K A V 4 1 (q + 1 + 1) = .inr (q + 1 + 1 + 1, V (q + 1 + 1)) by unfold p_num; rw [if_pos (by omega), if_neg (by omega)]), ← lv] at e
                              rw [show (6 : Int) + (K q - 36) = 8 by omega] at e
                              refine hQ _ _ (fun k => if k = 0 then _ else if k = 1 then _ else if k = 2 then _ else if k = 3 then ta else tb) _ fr hx fg (e.trans h1023) (fun j j0 j1 => ?_) (p_raw_two (by omega) rfl rfl rfl rfl rfl)
                              have hk : j = 0 ∨ j = 1 ∨ j = 2 ∨ j = 3 ∨ j = 4 := by omega
                              rcases hk with rfl | rfl | rfl | rfl | rfl
                              · exact y0
                              · exact y1
                              · exact y2
                              · exact y3
                              · exact y4
                          · replace h1009 := am_lc_eq.mp h1009
                            refine And.intro (rfl) ?_
                            refine ct_201 (by omega) hx (by omega) (fun mw1025 h1026 h1027 => ?_)
                            have sg := sg.M h1026
                            have fg := fg.M h1026
                            have fr := fr.M h1026
                            have hx : mTx mw1025 n K A V E N ((q + 1) + 1) 3 (A ((q + 1) + 1)) := by rw [if_pos rfl, if_pos rfl, if_neg (by omega)] at h1027; exact h1027
                            have nz : 3 ≠ (0 : Int) := by first | omega | (unfold x_wr; omega)
                            refine And.intro (rfl) ?_
                            refine And.intro (rfl) ?_
                            skip
                            refine And.intro (⟨rfl, by first | omega | (simp only [mS_iff, eq_self, Int.reduceEq, true_and, and_true, false_and, and_false, and_self, ↓reduceIte]; omega) | (simp only [mS_iff, eq_self, Int.reduceEq, true_and, and_true, false_and, and_false, and_self, ↓reduceIte] at *; omega)⟩) ?_
                            have sg := sg.p (j := 2) (v := (am_l2i (mw1025 41 15))) (i := 3302) (by omega) (by omega)
                            have fg := fg.p (i := 3302) (v := (am_l2i (mw1025 41 15)))
                            have fr := fr.p (i := 3302) (v := (am_l2i (mw1025 41 15))) (by omega)
                            have hx := hx.p42 (i := 3302) (v := (am_l2i (mw1025 41 15)))
                            obtain ⟨mw1028, h1029⟩ : ∃ z, z = (mS mw1025 42 3302 (am_l2i (mw1025 41 15))) := ⟨_, rfl⟩
                            rw [← h1029] at hx fr sg fg ⊢
                            refine And.intro (rfl) ?_
                            refine ct_199 (by omega) hx (fun h => absurd h nz) (fun _ => ?_) (fun h => absurd h nz)
                            refine And.intro (rfl) ?_
                            refine ct_203f (by omega) hx nz (wr0.fr fr) fg (fun mw1030 h1035 h1036 fg => ?_)
                            have fr := fr.trans h1035
                            have hx := h1036
                            skip
                            have e := p_f7 (A := A) (V := V) (by omega : 36 ≤ K q ∧ K q < 39) (by omega : K (q + 1) = 40)
                            refine hQe _ _ _ _ fr hx fg nz ?_
                            rw [e]
                            exact p_bd_l (by unfold p_num; rw [if_pos (by omega), if_pos (by omega)])
                    · refine And.intro (rfl) ?_
                      refine ct_201 (by omega) hx (by omega) (fun mw1040 h1041 h1042 => ?_)
                      have sg := sg.M h1041
                      have fg := fg.M h1041
                      have fr := fr.M h1041
                      have hx : mTx mw1040 n K A V E N ((q + 1) + 1) (x_wr (K ((q + 1) + 1))) (A ((q + 1) + 1)) := by unfold x_wr; rw [if_pos rfl, if_pos rfl] at h1042; exact h1042
                      have nz : (x_wr (K ((q + 1) + 1))) ≠ (0 : Int) := by first | omega | (unfold x_wr; omega)
                      refine And.intro (rfl) ?_
                      refine And.intro (rfl) ?_
                      skip
                      refine And.intro (⟨rfl, by first | omega | (simp only [mS_iff, eq_self, Int.reduceEq, true_and, and_true, false_and, and_false, and_self, ↓reduceIte]; omega) | (simp only [mS_iff, eq_self, Int.reduceEq, true_and, and_true, false_and, and_false, and_self, ↓reduceIte] at *; omega)⟩) ?_
                      have sg := sg.p (j := 2) (v := (am_l2i (mw1040 41 15))) (i := 3302) (by omega) (by omega)
                      have fg := fg.p (i := 3302) (v := (am_l2i (mw1040 41 15)))
                      have fr := fr.p (i := 3302) (v := (am_l2i (mw1040 41 15))) (by omega)
                      have hx := hx.p42 (i := 3302) (v := (am_l2i (mw1040 41 15)))
                      obtain ⟨mw1043, h1044⟩ : ∃ z, z = (mS mw1040 42 3302 (am_l2i (mw1040 41 15))) := ⟨_, rfl⟩
                      rw [← h1044] at hx fr sg fg ⊢
                      refine And.intro (rfl) ?_
                      refine ct_199 (by omega) hx (fun h => absurd h nz) (fun _ => ?_) (fun h => absurd h nz)
                      refine And.intro (rfl) ?_
                      refine ct_203f (by omega) hx nz (wr0.fr fr) fg (fun mw1045 h1050 h1051 fg => ?_)
                      have fr := fr.trans h1050
                      have hx := h1051
                      skip
                      have e := p_f7 (A := A) (V := V) (by omega : 36 ≤ K q ∧ K q < 39) (by omega : K (q + 1) = 40)
                      refine hQe _ _ _ _ fr hx fg nz ?_
                      rw [e]
                      exact p_bd_l (by unfold p_num p_wr; rw [if_neg (by omega)])
                  · refine And.intro (fun _ => ?_) (fun h => absurd h (by decide))
                    refine And.intro (rfl) ?_
                    refine ct_203 (by omega) hx (wr0.fr fr) fg (show mw969 42 3300 = 8 by have := sg 0 (by omega) (by omega); simpa [p_up, p_bl] using this) (show mw969 42 3301 = 0 by have := sg 1 (by omega) (by omega); simpa [p_up, p_bl] using this) (show mw969 42 3302 = 6 by have := sg 2 (by omega) (by omega); simpa [p_up, p_bl] using this) (fun mw1055 q1057 f1058 p1059 h1060 h1061 fg h1062 h1063 => ?_) (fun mw1056 q1057 ta tb h1060 h1061 fg h1063 tab y0 y1 y2 y3 y4 => ?_)
                    · have fr := fr.trans h1060
                      have hx := h1061
                      have nz := h1062
                      skip
                      have e := p_f5 (A := A) (V := V) (by omega : 36 ≤ K q ∧ K q < 39) (by omega : K (q + 1) ≠ 40)
                      rw [show (6 : Int) + (K q - 36) = 8 by omega] at e
                      exact hQe _ _ _ _ fr hx fg nz (e.trans h1063)
                    · have fr := fr.trans h1060
                      have hx := h1061
                      skip
                      have e := p_f5 (A := A) (V := V) (by omega : 36 ≤ K q ∧ K q < 39) (by omega : K (q + 1) ≠ 40)
                      rw [show (6 : Int) + (K q - 36) = 8 by omega] at e
                      refine hQ _ _ (fun k => if k = 0 then _ else if k = 1 then _ else if k = 2 then _ else if k = 3 then ta else tb) _ fr hx fg (e.trans h1063) (fun j j0 j1 => ?_) (p_raw_two (by omega) rfl rfl rfl rfl rfl)
                      have hk : j = 0 ∨ j = 1 ∨ j = 2 ∨ j = 3 ∨ j = 4 := by omega
                      rcases hk with rfl | rfl | rfl | rfl | rfl
                      · exact y0
                      · exact y1
                      · exact y2
                      · exact y3
                      · exact y4
            · refine And.intro (fun _ => ?_) (fun h => absurd h (by decide))
              refine And.intro (rfl) ?_
              refine And.intro (rfl) ?_
              refine And.intro (rfl) ?_
              refine ct_204 (by omega) hx (wr0.fr fr).a45 (fun h => absurd rfl h) (fun _ k1068 h1069 h1070 h1071 mw1065 hm hy => ?_) (fun _ h1072 mw1066 hm hy => ?_)
              · have ek1068 := h1071
                have bk1068 := And.intro h1069 h1070
                have sg := sg.M hm
                have fg := fg.M hm
                have fr := fr.M hm
                have hx := hy
                refine And.intro (⟨rfl, by first | omega | (simp only [mS_iff, eq_self, Int.reduceEq, true_and, and_true, false_and, and_false, and_self, ↓reduceIte]; omega) | (simp only [mS_iff, eq_self, Int.reduceEq, true_and, and_true, false_and, and_false, and_self, ↓reduceIte] at *; omega)⟩) ?_
                have sg := sg.p (j := 3) (v := k1068) (i := 3303) (by omega) (by omega)
                have fg := fg.p (i := 3303) (v := k1068)
                have fr := fr.p (i := 3303) (v := k1068) (by omega)
                have hx := hx.p42 (i := 3303) (v := k1068)
                obtain ⟨mw1073, h1074⟩ : ∃ z, z = (mS mw1065 42 3303 k1068) := ⟨_, rfl⟩
                rw [← h1074] at hx fr sg fg ⊢
                refine hQ _ _ _ _ fr hx fg (p_f1 (by omega)) sg (fun k k0 k1 => ?_)
                have z0 : (p_up p_bl 3 k1068) 0 = 0 := by simp [p_up, p_bl]
                rw [if_neg (show ¬ (0 < p_up p_bl 3 k1068 0 ∧ p_up p_bl 3 k1068 3 = p_up p_bl 3 k1068 4) by rw [z0]; omega)]
                have hk : k = 0 ∨ k = 1 ∨ k = 2 ∨ k = 3 ∨ k = 4 := by omega
                rcases hk with rfl | rfl | rfl | rfl | rfl
                · rfl
                · rfl
                · rfl
                · show K q = k1068
                  omega
                · rfl
              · have nk := h1072
                have sg := sg.M hm
                have fg := fg.M hm
                have fr := fr.M hm
                have hx := hy
                have nz : x_wr (K q) ≠ 0 := by unfold x_wr; omega
                refine And.intro (⟨rfl, by first | omega | (simp only [mS_iff, eq_self, Int.reduceEq, true_and, and_true, false_and, and_false, and_self, ↓reduceIte]; omega) | (simp only [mS_iff, eq_self, Int.reduceEq, true_and, and_true, false_and, and_false, and_self, ↓reduceIte] at *; omega)⟩) ?_
                have sg := sg.p (j := 3) (v := (-1)) (i := 3303) (by omega) (by omega)
                have fg := fg.p (i := 3303) (v := (-1))
                have fr := fr.p (i := 3303) (v := (-1)) (by omega)
                have hx := hx.p42 (i := 3303) (v := (-1))
                obtain ⟨mw1075, h1076⟩ : ∃ z, z = (mS mw1066 42 3303 (-1)) := ⟨_, rfl⟩
                rw [← h1076] at hx fr sg fg ⊢
                exact hQe _ _ _ _ fr hx fg nz (p_f4e (fun z => nk (K q) (by omega) (by omega) rfl) (by omega) (by omega) (by omega))
