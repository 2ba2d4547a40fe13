/-! needs: a13 -/
/-! CONTRACTS: ordinaries, layers of the reference; by tools/gena14.py -/
set_option maxRecDepth 100000
set_option maxHeartbeats 8000000
theorem mFg.cg {m : aM} {c b c2 b2 : Int} (h : mFg m c b) (e : c = c2) (g : b = b2) : mFg m c2 b2 := by rw [← e, ← g]; exact h
theorem lp_209 {d : Nat} {m : aM} {Q : aO → aM → Prop} {n : Int} {K A V E : Int → Int} {N q p l c b o : Int} {u : Int → Int} (hd : 4 ≤ d) {mb : aM} (wr0 : mWr mb) (hl : 0 ≤ l ∧ l ≤ 5) (fr : fr_Y (3306 + 10 * l) (3316 + 10 * l) mb m) (fg : mFg m c b) (hx : mTx m n K A V E N q 0 p) (sg : mSg m (3306 + 10 * l) 10 u) (ho : K q = 25 + o ∧ 0 ≤ o ∧ o ≤ 7) (nd : ¬ ((o = 6 ∧ c = 1) ∨ (o = 7 ∧ b = 1))) (hQe : ∀ m' q' f' p', fr_Y (3306 + 10 * l) (3316 + 10 * l) mb m' → mTx m' n K A V E N q' f' p' → (∃ c' b', mFg m' c' b') → f' ≠ 0 → p_ord K A c b q = .inl (f', p') → Q (.inl none) m') (hQ : ∀ m' q' g, fr_Y (3306 + 10 * l) (3316 + 10 * l) mb m' → mTx m' n K A V E N q' 0 p → mFg m' (if g 1 = 6 then 1 else c) (if g 1 = 7 then 1 else b) → p_ord K A c b q = .inr (q', g) → mSg m' (3306 + 10 * l) 10 (p_up (p_up (p_up u 1 (g 1)) 2 (g 2)) 3 (g 3)) → Q (.inl none) m') : am_WP am_G (am_wpc am_G am_T d) [] cd_209 Q 66 [aR 41, aI l, aI o] [] m := by
  have eo : p_ord K A c b q = p_bd (p_want K A 0 9 (p_ln K (q + 1)).1) (fun q2 t => .inr (q2, fun k => if k = 1 then o else if k = 2 then (p_ln K (q + 1)).2 else t)) := by
    unfold p_ord
    rw [p_bd_r (p_want_y (by omega)), if_neg (by omega), show K q - 25 = o by omega]
  rw [eo] at hQe hQ
  obtain ⟨fc, fb, fc2, fb2⟩ := id fg
  refine am_go 400 [] (am_wpc_cm _ _ _) wf_209 ?_
  refine And.intro (rfl) ?_
  refine And.intro (fun h1 => ?_) (fun h1 => ?_)
  · refine And.intro (⟨rfl, by first | omega | (simp only [mS_iff, eq_self, Int.reduceEq, true_and, and_true, false_and, and_false, and_self, ↓reduceIte]; omega) | (simp only [mS_iff, eq_self, Int.reduceEq, true_and, and_true, false_and, and_false, and_self, ↓reduceIte] at *; omega)⟩) ?_
    have fg := fg.s19 (v := 1) (by omega)
    have fr := fr.s (i := 19) (v := 1) (by omega)
    have hx := hx.s (i := 19) (v := 1) (by omega)
    have sg := sg.s (i := 19) (v := 1)
    obtain ⟨mw2, h3⟩ : ∃ z, z = (mS m 41 19 1) := ⟨_, rfl⟩
    rw [← h3] at hx fr fg sg ⊢
    have fb := fg.2.1
    refine And.intro (rfl) ?_
    refine And.intro (fun h4 => ?_) (fun h4 => ?_)
    · refine And.intro (⟨rfl, by first | omega | (simp only [mS_iff, eq_self, Int.reduceEq, true_and, and_true, false_and, and_false, and_self, ↓reduceIte]; omega) | (simp only [mS_iff, eq_self, Int.reduceEq, true_and, and_true, false_and, and_false, and_self, ↓reduceIte] at *; omega)⟩) ?_
      have fg := fg.s20 (v := 1) (by omega)
      have fr := fr.s (i := 20) (v := 1) (by omega)
      have hx := hx.s (i := 20) (v := 1) (by omega)
      have sg := sg.s (i := 20) (v := 1)
      obtain ⟨mw5, h6⟩ : ∃ z, z = (mS mw2 41 20 1) := ⟨_, rfl⟩
      rw [← h6] at hx fr fg sg ⊢
      refine And.intro (rfl) ?_
      refine ct_199 (by omega) hx (fun _ => by first | omega | (have := hx.2.2.2.2.2.2.1 rfl; have := this.2.2.1; have := this.1; have := this.2.1; omega)) (fun h => absurd rfl h) (fun _ mw7 h8 h9 => ?_)
      have sg := sg.M h8
      have fg := fg.M h8
      have fr := fr.M h8
      have hx := h9
      refine And.intro (rfl) ?_
      refine ct_184 (by omega) (by omega) (by omega) (fun mw10 h11 => ?_)
      have sg := sg.p (j := 1) (v := o) (i := 3306 + 10 * l + 1) (by omega) (by omega)
      have fg := fg.p (i := 3306 + 10 * l + 1) (v := o)
      have fr := fr.p (i := 3306 + 10 * l + 1) (v := o) (by omega)
      have hx := hx.p42 (i := 3306 + 10 * l + 1) (v := o)
      rw [← h11] at hx fr sg fg
      refine And.intro (rfl) ?_
      refine ct_202 (by omega) hx (fun h => absurd rfl h) (fun _ mw12 h13 h14 => ?_)
      have sg := sg.M h13
      have fg := fg.M h13
      have fr := fr.M h13
      have hx := h14
      refine And.intro (rfl) ?_
      refine ct_184 (by omega) (by omega) (by omega) (fun mw15 h16 => ?_)
      have sg := sg.p (j := 2) (v := ((p_ln K (q + 1)).2)) (i := 3306 + 10 * l + 2) (by omega) (by omega)
      have fg := fg.p (i := 3306 + 10 * l + 2) (v := ((p_ln K (q + 1)).2))
      have fr := fr.p (i := 3306 + 10 * l + 2) (v := ((p_ln K (q + 1)).2)) (by omega)
      have hx := hx.p42 (i := 3306 + 10 * l + 2) (v := ((p_ln K (q + 1)).2))
      rw [← h16] at hx fr sg fg
      refine And.intro (rfl) ?_
      refine And.intro (rfl) ?_
      refine ct_204 (by omega) hx (wr0.fr fr).a45 (fun h => absurd rfl h) (fun _ k20 h21 h22 h23 mw17 hm hy => ?_) (fun _ h24 mw18 hm hy => ?_)
      · have ek20 := h23
        have bk20 := And.intro h21 h22
        have sg := sg.M hm
        have fg := fg.M hm
        have fr := fr.M hm
        have hx := hy
        refine And.intro (rfl) ?_
        refine ct_184 (by omega) (by omega) (by omega) (fun mw25 h26 => ?_)
        have sg := sg.p (j := 3) (v := k20) (i := 3306 + 10 * l + 3) (by omega) (by omega)
        have fg := fg.p (i := 3306 + 10 * l + 3) (v := k20)
        have fr := fr.p (i := 3306 + 10 * l + 3) (v := k20) (by omega)
        have hx := hx.p42 (i := 3306 + 10 * l + 3) (v := k20)
        rw [← h26] at hx fr sg fg
        refine hQ _ _ (fun k => if k = 1 then o else if k = 2 then (p_ln K (q + 1)).2 else k20) fr hx ?_ ?_ (by simpa using sg)
        · have e1 : 1 = (if o = 6 then 1 else c) := by split <;> omega
          have e2 : 1 = (if o = 7 then 1 else b) := by split <;> omega
          show mFg _ (if o = 6 then 1 else c) (if o = 7 then 1 else b)
          exact fg.cg e1 e2
        · rw [p_bd_r (p_want_y (by omega)), show K (p_ln K (q + 1)).1 - 0 = k20 by omega]
      · have nk := h24
        have sg := sg.M hm
        have fg := fg.M hm
        have fr := fr.M hm
        have hx := hy
        have nz : x_wr (K ((p_ln K (q + 1)).1)) ≠ 0 := by unfold x_wr; omega
        refine And.intro (rfl) ?_
        refine ct_184 (by omega) (by omega) (by omega) (fun mw27 h28 => ?_)
        have sg := sg.p (j := 3) (v := (-1)) (i := 3306 + 10 * l + 3) (by omega) (by omega)
        have fg := fg.p (i := 3306 + 10 * l + 3) (v := (-1))
        have fr := fr.p (i := 3306 + 10 * l + 3) (v := (-1)) (by omega)
        have hx := hx.p42 (i := 3306 + 10 * l + 3) (v := (-1))
        rw [← h28] at hx fr sg fg
        exact hQe _ _ _ _ fr hx ⟨_, _, fg⟩ nz (p_bd_l (p_want_n (fun z => nk (K ((p_ln K (q + 1)).1)) (by omega) (by omega) rfl)))
    · refine And.intro (fun h29 => ?_) (fun h29 => ?_)
      · refine And.intro (⟨rfl, by first | omega | (simp only [mS_iff, eq_self, Int.reduceEq, true_and, and_true, false_and, and_false, and_self, ↓reduceIte]; omega) | (simp only [mS_iff, eq_self, Int.reduceEq, true_and, and_true, false_and, and_false, and_self, ↓reduceIte] at *; omega)⟩) ?_
        have fg := fg.s20 (v := 0) (by omega)
        have fr := fr.s (i := 20) (v := 0) (by omega)
        have hx := hx.s (i := 20) (v := 0) (by omega)
        have sg := sg.s (i := 20) (v := 0)
        obtain ⟨mw30, h31⟩ : ∃ z, z = (mS mw2 41 20 0) := ⟨_, rfl⟩
        rw [← h31] at hx fr fg sg ⊢
        refine And.intro (rfl) ?_
        refine ct_199 (by omega) hx (fun _ => by first | omega | (have := hx.2.2.2.2.2.2.1 rfl; have := this.2.2.1; have := this.1; have := this.2.1; omega)) (fun h => absurd rfl h) (fun _ mw32 h33 h34 => ?_)
        have sg := sg.M h33
        have fg := fg.M h33
        have fr := fr.M h33
        have hx := h34
        refine And.intro (rfl) ?_
        refine ct_184 (by omega) (by omega) (by omega) (fun mw35 h36 => ?_)
        have sg := sg.p (j := 1) (v := o) (i := 3306 + 10 * l + 1) (by omega) (by omega)
        have fg := fg.p (i := 3306 + 10 * l + 1) (v := o)
        have fr := fr.p (i := 3306 + 10 * l + 1) (v := o) (by omega)
        have hx := hx.p42 (i := 3306 + 10 * l + 1) (v := o)
        rw [← h36] at hx fr sg fg
        refine And.intro (rfl) ?_
        refine ct_202 (by omega) hx (fun h => absurd rfl h) (fun _ mw37 h38 h39 => ?_)
        have sg := sg.M h38
        have fg := fg.M h38
        have fr := fr.M h38
        have hx := h39
        refine And.intro (rfl) ?_
        refine ct_184 (by omega) (by omega) (by omega) (fun mw40 h41 => ?_)
        have sg := sg.p (j := 2) (v := ((p_ln K (q + 1)).2)) (i := 3306 + 10 * l + 2) (by omega) (by omega)
        have fg := fg.p (i := 3306 + 10 * l + 2) (v := ((p_ln K (q + 1)).2))
        have fr := fr.p (i := 3306 + 10 * l + 2) (v := ((p_ln K (q + 1)).2)) (by omega)
        have hx := hx.p42 (i := 3306 + 10 * l + 2) (v := ((p_ln K (q + 1)).2))
        rw [← h41] at hx fr sg fg
        refine And.intro (rfl) ?_
        refine And.intro (rfl) ?_
        refine ct_204 (by omega) hx (wr0.fr fr).a45 (fun h => absurd rfl h) (fun _ k45 h46 h47 h48 mw42 hm hy => ?_) (fun _ h49 mw43 hm hy => ?_)
        · have ek45 := h48
          have bk45 := And.intro h46 h47
          have sg := sg.M hm
          have fg := fg.M hm
          have fr := fr.M hm
          have hx := hy
          refine And.intro (rfl) ?_
          refine ct_184 (by omega) (by omega) (by omega) (fun mw50 h51 => ?_)
          have sg := sg.p (j := 3) (v := k45) (i := 3306 + 10 * l + 3) (by omega) (by omega)
          have fg := fg.p (i := 3306 + 10 * l + 3) (v := k45)
          have fr := fr.p (i := 3306 + 10 * l + 3) (v := k45) (by omega)
          have hx := hx.p42 (i := 3306 + 10 * l + 3) (v := k45)
          rw [← h51] at hx fr sg fg
          refine hQ _ _ (fun k => if k = 1 then o else if k = 2 then (p_ln K (q + 1)).2 else k45) fr hx ?_ ?_ (by simpa using sg)
          · have e1 : 1 = (if o = 6 then 1 else c) := by split <;> omega
            have e2 : 0 = (if o = 7 then 1 else b) := by split <;> omega
            show mFg _ (if o = 6 then 1 else c) (if o = 7 then 1 else b)
            exact fg.cg e1 e2
          · rw [p_bd_r (p_want_y (by omega)), show K (p_ln K (q + 1)).1 - 0 = k45 by omega]
        · have nk := h49
          have sg := sg.M hm
          have fg := fg.M hm
          have fr := fr.M hm
          have hx := hy
          have nz : x_wr (K ((p_ln K (q + 1)).1)) ≠ 0 := by unfold x_wr; omega
          refine And.intro (rfl) ?_
          refine ct_184 (by omega) (by omega) (by omega) (fun mw52 h53 => ?_)
          have sg := sg.p (j := 3) (v := (-1)) (i := 3306 + 10 * l + 3) (by omega) (by omega)
          have fg := fg.p (i := 3306 + 10 * l + 3) (v := (-1))
          have fr := fr.p (i := 3306 + 10 * l + 3) (v := (-1)) (by omega)
          have hx := hx.p42 (i := 3306 + 10 * l + 3) (v := (-1))
          rw [← h53] at hx fr sg fg
          exact hQe _ _ _ _ fr hx ⟨_, _, fg⟩ nz (p_bd_l (p_want_n (fun z => nk (K ((p_ln K (q + 1)).1)) (by omega) (by omega) rfl)))
      · refine And.intro (⟨rfl, by first | omega | (simp only [mS_iff, eq_self, Int.reduceEq, true_and, and_true, false_and, and_false, and_self, ↓reduceIte]; omega) | (simp only [mS_iff, eq_self, Int.reduceEq, true_and, and_true, false_and, and_false, and_self, ↓reduceIte] at *; omega)⟩) ?_
        have fg := fg.s20 (v := 1) (by omega)
        have fr := fr.s (i := 20) (v := 1) (by omega)
        have hx := hx.s (i := 20) (v := 1) (by omega)
        have sg := sg.s (i := 20) (v := 1)
        obtain ⟨mw54, h55⟩ : ∃ z, z = (mS mw2 41 20 1) := ⟨_, rfl⟩
        rw [← h55] at hx fr fg sg ⊢
        refine And.intro (rfl) ?_
        refine ct_199 (by omega) hx (fun _ => by first | omega | (have := hx.2.2.2.2.2.2.1 rfl; have := this.2.2.1; have := this.1; have := this.2.1; omega)) (fun h => absurd rfl h) (fun _ mw56 h57 h58 => ?_)
        have sg := sg.M h57
        have fg := fg.M h57
        have fr := fr.M h57
        have hx := h58
        refine And.intro (rfl) ?_
        refine ct_184 (by omega) (by omega) (by omega) (fun mw59 h60 => ?_)
        have sg := sg.p (j := 1) (v := o) (i := 3306 + 10 * l + 1) (by omega) (by omega)
        have fg := fg.p (i := 3306 + 10 * l + 1) (v := o)
        have fr := fr.p (i := 3306 + 10 * l + 1) (v := o) (by omega)
        have hx := hx.p42 (i := 3306 + 10 * l + 1) (v := o)
        rw [← h60] at hx fr sg fg
        refine And.intro (rfl) ?_
        refine ct_202 (by omega) hx (fun h => absurd rfl h) (fun _ mw61 h62 h63 => ?_)
        have sg := sg.M h62
        have fg := fg.M h62
        have fr := fr.M h62
        have hx := h63
        refine And.intro (rfl) ?_
        refine ct_184 (by omega) (by omega) (by omega) (fun mw64 h65 => ?_)
        have sg := sg.p (j := 2) (v := ((p_ln K (q + 1)).2)) (i := 3306 + 10 * l + 2) (by omega) (by omega)
        have fg := fg.p (i := 3306 + 10 * l + 2) (v := ((p_ln K (q + 1)).2))
        have fr := fr.p (i := 3306 + 10 * l + 2) (v := ((p_ln K (q + 1)).2)) (by omega)
        have hx := hx.p42 (i := 3306 + 10 * l + 2) (v := ((p_ln K (q + 1)).2))
        rw [← h65] at hx fr sg fg
        refine And.intro (rfl) ?_
        refine And.intro (rfl) ?_
        refine ct_204 (by omega) hx (wr0.fr fr).a45 (fun h => absurd rfl h) (fun _ k69 h70 h71 h72 mw66 hm hy => ?_) (fun _ h73 mw67 hm hy => ?_)
        · have ek69 := h72
          have bk69 := And.intro h70 h71
          have sg := sg.M hm
          have fg := fg.M hm
          have fr := fr.M hm
          have hx := hy
          refine And.intro (rfl) ?_
          refine ct_184 (by omega) (by omega) (by omega) (fun mw74 h75 => ?_)
          have sg := sg.p (j := 3) (v := k69) (i := 3306 + 10 * l + 3) (by omega) (by omega)
          have fg := fg.p (i := 3306 + 10 * l + 3) (v := k69)
          have fr := fr.p (i := 3306 + 10 * l + 3) (v := k69) (by omega)
          have hx := hx.p42 (i := 3306 + 10 * l + 3) (v := k69)
          rw [← h75] at hx fr sg fg
          refine hQ _ _ (fun k => if k = 1 then o else if k = 2 then (p_ln K (q + 1)).2 else k69) fr hx ?_ ?_ (by simpa using sg)
          · have e1 : 1 = (if o = 6 then 1 else c) := by split <;> omega
            have e2 : 1 = (if o = 7 then 1 else b) := by split <;> omega
            show mFg _ (if o = 6 then 1 else c) (if o = 7 then 1 else b)
            exact fg.cg e1 e2
          · rw [p_bd_r (p_want_y (by omega)), show K (p_ln K (q + 1)).1 - 0 = k69 by omega]
        · have nk := h73
          have sg := sg.M hm
          have fg := fg.M hm
          have fr := fr.M hm
          have hx := hy
          have nz : x_wr (K ((p_ln K (q + 1)).1)) ≠ 0 := by unfold x_wr; omega
          refine And.intro (rfl) ?_
          refine ct_184 (by omega) (by omega) (by omega) (fun mw76 h77 => ?_)
          have sg := sg.p (j := 3) (v := (-1)) (i := 3306 + 10 * l + 3) (by omega) (by omega)
          have fg := fg.p (i := 3306 + 10 * l + 3) (v := (-1))
          have fr := fr.p (i := 3306 + 10 * l + 3) (v := (-1)) (by omega)
          have hx := hx.p42 (i := 3306 + 10 * l + 3) (v := (-1))
          rw [← h77] at hx fr sg fg
          exact hQe _ _ _ _ fr hx ⟨_, _, fg⟩ nz (p_bd_l (p_want_n (fun z => nk (K ((p_ln K (q + 1)).1)) (by omega) (by omega) rfl)))
  · refine And.intro (fun h78 => ?_) (fun h78 => ?_)
    · refine And.intro (⟨rfl, by first | omega | (simp only [mS_iff, eq_self, Int.reduceEq, true_and, and_true, false_and, and_false, and_self, ↓reduceIte]; omega) | (simp only [mS_iff, eq_self, Int.reduceEq, true_and, and_true, false_and, and_false, and_self, ↓reduceIte] at *; omega)⟩) ?_
      have fg := fg.s19 (v := 0) (by omega)
      have fr := fr.s (i := 19) (v := 0) (by omega)
      have hx := hx.s (i := 19) (v := 0) (by omega)
      have sg := sg.s (i := 19) (v := 0)
      obtain ⟨mw79, h80⟩ : ∃ z, z = (mS m 41 19 0) := ⟨_, rfl⟩
      rw [← h80] at hx fr fg sg ⊢
      have fb := fg.2.1
      refine And.intro (rfl) ?_
      refine And.intro (fun h81 => ?_) (fun h81 => ?_)
      · refine And.intro (⟨rfl, by first | omega | (simp only [mS_iff, eq_self, Int.reduceEq, true_and, and_true, false_and, and_false, and_self, ↓reduceIte]; omega) | (simp only [mS_iff, eq_self, Int.reduceEq, true_and, and_true, false_and, and_false, and_self, ↓reduceIte] at *; omega)⟩) ?_
        have fg := fg.s20 (v := 1) (by omega)
        have fr := fr.s (i := 20) (v := 1) (by omega)
        have hx := hx.s (i := 20) (v := 1) (by omega)
        have sg := sg.s (i := 20) (v := 1)
        obtain ⟨mw82, h83⟩ : ∃ z, z = (mS mw79 41 20 1) := ⟨_, rfl⟩
        rw [← h83] at hx fr fg sg ⊢
        refine And.intro (rfl) ?_
        refine ct_199 (by omega) hx (fun _ => by first | omega | (have := hx.2.2.2.2.2.2.1 rfl; have := this.2.2.1; have := this.1; have := this.2.1; omega)) (fun h => absurd rfl h) (fun _ mw84 h85 h86 => ?_)
        have sg := sg.M h85
        have fg := fg.M h85
        have fr := fr.M h85
        have hx := h86
        refine And.intro (rfl) ?_
        refine ct_184 (by omega) (by omega) (by omega) (fun mw87 h88 => ?_)
        have sg := sg.p (j := 1) (v := o) (i := 3306 + 10 * l + 1) (by omega) (by omega)
        have fg := fg.p (i := 3306 + 10 * l + 1) (v := o)
        have fr := fr.p (i := 3306 + 10 * l + 1) (v := o) (by omega)
        have hx := hx.p42 (i := 3306 + 10 * l + 1) (v := o)
        rw [← h88] at hx fr sg fg
        refine And.intro (rfl) ?_
        refine ct_202 (by omega) hx (fun h => absurd rfl h) (fun _ mw89 h90 h91 => ?_)
        have sg := sg.M h90
        have fg := fg.M h90
        have fr := fr.M h90
        have hx := h91
        refine And.intro (rfl) ?_
        refine ct_184 (by omega) (by omega) (by omega) (fun mw92 h93 => ?_)
        have sg := sg.p (j := 2) (v := ((p_ln K (q + 1)).2)) (i := 3306 + 10 * l + 2) (by omega) (by omega)
        have fg := fg.p (i := 3306 + 10 * l + 2) (v := ((p_ln K (q + 1)).2))
        have fr := fr.p (i := 3306 + 10 * l + 2) (v := ((p_ln K (q + 1)).2)) (by omega)
        have hx := hx.p42 (i := 3306 + 10 * l + 2) (v := ((p_ln K (q + 1)).2))
        rw [← h93] at hx fr sg fg
        refine And.intro (rfl) ?_
        refine And.intro (rfl) ?_
        refine ct_204 (by omega) hx (wr0.fr fr).a45 (fun h => absurd rfl h) (fun _ k97 h98 h99 h100 mw94 hm hy => ?_) (fun _ h101 mw95 hm hy => ?_)
        · have ek97 := h100
          have bk97 := And.intro h98 h99
          have sg := sg.M hm
          have fg := fg.M hm
          have fr := fr.M hm
          have hx := hy
          refine And.intro (rfl) ?_
          refine ct_184 (by omega) (by omega) (by omega) (fun mw102 h103 => ?_)
          have sg := sg.p (j := 3) (v := k97) (i := 3306 + 10 * l + 3) (by omega) (by omega)
          have fg := fg.p (i := 3306 + 10 * l + 3) (v := k97)
          have fr := fr.p (i := 3306 + 10 * l + 3) (v := k97) (by omega)
          have hx := hx.p42 (i := 3306 + 10 * l + 3) (v := k97)
          rw [← h103] at hx fr sg fg
          refine hQ _ _ (fun k => if k = 1 then o else if k = 2 then (p_ln K (q + 1)).2 else k97) fr hx ?_ ?_ (by simpa using sg)
          · have e1 : 0 = (if o = 6 then 1 else c) := by split <;> omega
            have e2 : 1 = (if o = 7 then 1 else b) := by split <;> omega
            show mFg _ (if o = 6 then 1 else c) (if o = 7 then 1 else b)
            exact fg.cg e1 e2
          · rw [p_bd_r (p_want_y (by omega)), show K (p_ln K (q + 1)).1 - 0 = k97 by omega]
        · have nk := h101
          have sg := sg.M hm
          have fg := fg.M hm
          have fr := fr.M hm
          have hx := hy
          have nz : x_wr (K ((p_ln K (q + 1)).1)) ≠ 0 := by unfold x_wr; omega
          refine And.intro (rfl) ?_
          refine ct_184 (by omega) (by omega) (by omega) (fun mw104 h105 => ?_)
          have sg := sg.p (j := 3) (v := (-1)) (i := 3306 + 10 * l + 3) (by omega) (by omega)
          have fg := fg.p (i := 3306 + 10 * l + 3) (v := (-1))
          have fr := fr.p (i := 3306 + 10 * l + 3) (v := (-1)) (by omega)
          have hx := hx.p42 (i := 3306 + 10 * l + 3) (v := (-1))
          rw [← h105] at hx fr sg fg
          exact hQe _ _ _ _ fr hx ⟨_, _, fg⟩ nz (p_bd_l (p_want_n (fun z => nk (K ((p_ln K (q + 1)).1)) (by omega) (by omega) rfl)))
      · refine And.intro (fun h106 => ?_) (fun h106 => ?_)
        · refine And.intro (⟨rfl, by first | omega | (simp only [mS_iff, eq_self, Int.reduceEq, true_and, and_true, false_and, and_false, and_self, ↓reduceIte]; omega) | (simp only [mS_iff, eq_self, Int.reduceEq, true_and, and_true, false_and, and_false, and_self, ↓reduceIte] at *; omega)⟩) ?_
          have fg := fg.s20 (v := 0) (by omega)
          have fr := fr.s (i := 20) (v := 0) (by omega)
          have hx := hx.s (i := 20) (v := 0) (by omega)
          have sg := sg.s (i := 20) (v := 0)
          obtain ⟨mw107, h108⟩ : ∃ z, z = (mS mw79 41 20 0) := ⟨_, rfl⟩
          rw [← h108] at hx fr fg sg ⊢
          refine And.intro (rfl) ?_
          refine ct_199 (by omega) hx (fun _ => by first | omega | (have := hx.2.2.2.2.2.2.1 rfl; have := this.2.2.1; have := this.1; have := this.2.1; omega)) (fun h => absurd rfl h) (fun _ mw109 h110 h111 => ?_)
          have sg := sg.M h110
          have fg := fg.M h110
          have fr := fr.M h110
          have hx := h111
          refine And.intro (rfl) ?_
          refine ct_184 (by omega) (by omega) (by omega) (fun mw112 h113 => ?_)
          have sg := sg.p (j := 1) (v := o) (i := 3306 + 10 * l + 1) (by omega) (by omega)
          have fg := fg.p (i := 3306 + 10 * l + 1) (v := o)
          have fr := fr.p (i := 3306 + 10 * l + 1) (v := o) (by omega)
          have hx := hx.p42 (i := 3306 + 10 * l + 1) (v := o)
          rw [← h113] at hx fr sg fg
          refine And.intro (rfl) ?_
          refine ct_202 (by omega) hx (fun h => absurd rfl h) (fun _ mw114 h115 h116 => ?_)
          have sg := sg.M h115
          have fg := fg.M h115
          have fr := fr.M h115
          have hx := h116
          refine And.intro (rfl) ?_
          refine ct_184 (by omega) (by omega) (by omega) (fun mw117 h118 => ?_)
          have sg := sg.p (j := 2) (v := ((p_ln K (q + 1)).2)) (i := 3306 + 10 * l + 2) (by omega) (by omega)
          have fg := fg.p (i := 3306 + 10 * l + 2) (v := ((p_ln K (q + 1)).2))
          have fr := fr.p (i := 3306 + 10 * l + 2) (v := ((p_ln K (q + 1)).2)) (by omega)
          have hx := hx.p42 (i := 3306 + 10 * l + 2) (v := ((p_ln K (q + 1)).2))
          rw [← h118] at hx fr sg fg
          refine And.intro (rfl) ?_
          refine And.intro (rfl) ?_
          refine ct_204 (by omega) hx (wr0.fr fr).a45 (fun h => absurd rfl h) (fun _ k122 h123 h124 h125 mw119 hm hy => ?_) (fun _ h126 mw120 hm hy => ?_)
          · have ek122 := h125
            have bk122 := And.intro h123 h124
            have sg := sg.M hm
            have fg := fg.M hm
            have fr := fr.M hm
            have hx := hy
            refine And.intro (rfl) ?_
            refine ct_184 (by omega) (by omega) (by omega) (fun mw127 h128 => ?_)
            have sg := sg.p (j := 3) (v := k122) (i := 3306 + 10 * l + 3) (by omega) (by omega)
            have fg := fg.p (i := 3306 + 10 * l + 3) (v := k122)
            have fr := fr.p (i := 3306 + 10 * l + 3) (v := k122) (by omega)
            have hx := hx.p42 (i := 3306 + 10 * l + 3) (v := k122)
            rw [← h128] at hx fr sg fg
            refine hQ _ _ (fun k => if k = 1 then o else if k = 2 then (p_ln K (q + 1)).2 else k122) fr hx ?_ ?_ (by simpa using sg)
            · have e1 : 0 = (if o = 6 then 1 else c) := by split <;> omega
              have e2 : 0 = (if o = 7 then 1 else b) := by split <;> omega
              show mFg _ (if o = 6 then 1 else c) (if o = 7 then 1 else b)
              exact fg.cg e1 e2
            · rw [p_bd_r (p_want_y (by omega)), show K (p_ln K (q + 1)).1 - 0 = k122 by omega]
          · have nk := h126
            have sg := sg.M hm
            have fg := fg.M hm
            have fr := fr.M hm
            have hx := hy
            have nz : x_wr (K ((p_ln K (q + 1)).1)) ≠ 0 := by unfold x_wr; omega
            refine And.intro (rfl) ?_
            refine ct_184 (by omega) (by omega) (by omega) (fun mw129 h130 => ?_)
            have sg := sg.p (j := 3) (v := (-1)) (i := 3306 + 10 * l + 3) (by omega) (by omega)
            have fg := fg.p (i := 3306 + 10 * l + 3) (v := (-1))
            have fr := fr.p (i := 3306 + 10 * l + 3) (v := (-1)) (by omega)
            have hx := hx.p42 (i := 3306 + 10 * l + 3) (v := (-1))
            rw [← h130] at hx fr sg fg
            exact hQe _ _ _ _ fr hx ⟨_, _, fg⟩ nz (p_bd_l (p_want_n (fun z => nk (K ((p_ln K (q + 1)).1)) (by omega) (by omega) rfl)))
        · refine And.intro (⟨rfl, by first | omega | (simp only [mS_iff, eq_self, Int.reduceEq, true_and, and_true, false_and, and_false, and_self, ↓reduceIte]; omega) | (simp only [mS_iff, eq_self, Int.reduceEq, true_and, and_true, false_and, and_false, and_self, ↓reduceIte] at *; omega)⟩) ?_
          have fg := fg.s20 (v := 1) (by omega)
          have fr := fr.s (i := 20) (v := 1) (by omega)
          have hx := hx.s (i := 20) (v := 1) (by omega)
          have sg := sg.s (i := 20) (v := 1)
          obtain ⟨mw131, h132⟩ : ∃ z, z = (mS mw79 41 20 1) := ⟨_, rfl⟩
          rw [← h132] at hx fr fg sg ⊢
          refine And.intro (rfl) ?_
          refine ct_199 (by omega) hx (fun _ => by first | omega | (have := hx.2.2.2.2.2.2.1 rfl; have := this.2.2.1; have := this.1; have := this.2.1; omega)) (fun h => absurd rfl h) (fun _ mw133 h134 h135 => ?_)
          have sg := sg.M h134
          have fg := fg.M h134
          have fr := fr.M h134
          have hx := h135
          refine And.intro (rfl) ?_
          refine ct_184 (by omega) (by omega) (by omega) (fun mw136 h137 => ?_)
          have sg := sg.p (j := 1) (v := o) (i := 3306 + 10 * l + 1) (by omega) (by omega)
          have fg := fg.p (i := 3306 + 10 * l + 1) (v := o)
          have fr := fr.p (i := 3306 + 10 * l + 1) (v := o) (by omega)
          have hx := hx.p42 (i := 3306 + 10 * l + 1) (v := o)
          rw [← h137] at hx fr sg fg
          refine And.intro (rfl) ?_
          refine ct_202 (by omega) hx (fun h => absurd rfl h) (fun _ mw138 h139 h140 => ?_)
          have sg := sg.M h139
          have fg := fg.M h139
          have fr := fr.M h139
          have hx := h140
          refine And.intro (rfl) ?_
          refine ct_184 (by omega) (by omega) (by omega) (fun mw141 h142 => ?_)
          have sg := sg.p (j := 2) (v := ((p_ln K (q + 1)).2)) (i := 3306 + 10 * l + 2) (by omega) (by omega)
          have fg := fg.p (i := 3306 + 10 * l + 2) (v := ((p_ln K (q + 1)).2))
          have fr := fr.p (i := 3306 + 10 * l + 2) (v := ((p_ln K (q + 1)).2)) (by omega)
          have hx := hx.p42 (i := 3306 + 10 * l + 2) (v := ((p_ln K (q + 1)).2))
          rw [← h142] at hx fr sg fg
          refine And.intro (rfl) ?_
          refine And.intro (rfl) ?_
          refine ct_204 (by omega) hx (wr0.fr fr).a45 (fun h => absurd rfl h) (fun _ k146 h147 h148 h149 mw143 hm hy => ?_) (fun _ h150 mw144 hm hy => ?_)
          · have ek146 := h149
            have bk146 := And.intro h147 h148
            have sg := sg.M hm
            have fg := fg.M hm
            have fr := fr.M hm
            have hx := hy
            refine And.intro (rfl) ?_
            refine ct_184 (by omega) (by omega) (by omega) (fun mw151 h152 => ?_)
            have sg := sg.p (j := 3) (v := k146) (i := 3306 + 10 * l + 3) (by omega) (by omega)
            have fg := fg.p (i := 3306 + 10 * l + 3) (v := k146)
            have fr := fr.p (i := 3306 + 10 * l + 3) (v := k146) (by omega)
            have hx := hx.p42 (i := 3306 + 10 * l + 3) (v := k146)
            rw [← h152] at hx fr sg fg
            refine hQ _ _ (fun k => if k = 1 then o else if k = 2 then (p_ln K (q + 1)).2 else k146) fr hx ?_ ?_ (by simpa using sg)
            · have e1 : 0 = (if o = 6 then 1 else c) := by split <;> omega
              have e2 : 1 = (if o = 7 then 1 else b) := by split <;> omega
              show mFg _ (if o = 6 then 1 else c) (if o = 7 then 1 else b)
              exact fg.cg e1 e2
            · rw [p_bd_r (p_want_y (by omega)), show K (p_ln K (q + 1)).1 - 0 = k146 by omega]
          · have nk := h150
            have sg := sg.M hm
            have fg := fg.M hm
            have fr := fr.M hm
            have hx := hy
            have nz : x_wr (K ((p_ln K (q + 1)).1)) ≠ 0 := by unfold x_wr; omega
            refine And.intro (rfl) ?_
            refine ct_184 (by omega) (by omega) (by omega) (fun mw153 h154 => ?_)
            have sg := sg.p (j := 3) (v := (-1)) (i := 3306 + 10 * l + 3) (by omega) (by omega)
            have fg := fg.p (i := 3306 + 10 * l + 3) (v := (-1))
            have fr := fr.p (i := 3306 + 10 * l + 3) (v := (-1)) (by omega)
            have hx := hx.p42 (i := 3306 + 10 * l + 3) (v := (-1))
            rw [← h154] at hx fr sg fg
            exact hQe _ _ _ _ fr hx ⟨_, _, fg⟩ nz (p_bd_l (p_want_n (fun z => nk (K ((p_ln K (q + 1)).1)) (by omega) (by omega) rfl)))
    · refine And.intro (⟨rfl, by first | omega | (simp only [mS_iff, eq_self, Int.reduceEq, true_and, and_true, false_and, and_false, and_self, ↓reduceIte]; omega) | (simp only [mS_iff, eq_self, Int.reduceEq, true_and, and_true, false_and, and_false, and_self, ↓reduceIte] at *; omega)⟩) ?_
      have fg := fg.s19 (v := 1) (by omega)
      have fr := fr.s (i := 19) (v := 1) (by omega)
      have hx := hx.s (i := 19) (v := 1) (by omega)
      have sg := sg.s (i := 19) (v := 1)
      obtain ⟨mw155, h156⟩ : ∃ z, z = (mS m 41 19 1) := ⟨_, rfl⟩
      rw [← h156] at hx fr fg sg ⊢
      have fb := fg.2.1
      refine And.intro (rfl) ?_
      refine And.intro (fun h157 => ?_) (fun h157 => ?_)
      · refine And.intro (⟨rfl, by first | omega | (simp only [mS_iff, eq_self, Int.reduceEq, true_and, and_true, false_and, and_false, and_self, ↓reduceIte]; omega) | (simp only [mS_iff, eq_self, Int.reduceEq, true_and, and_true, false_and, and_false, and_self, ↓reduceIte] at *; omega)⟩) ?_
        have fg := fg.s20 (v := 1) (by omega)
        have fr := fr.s (i := 20) (v := 1) (by omega)
        have hx := hx.s (i := 20) (v := 1) (by omega)
        have sg := sg.s (i := 20) (v := 1)
        obtain ⟨mw158, h159⟩ : ∃ z, z = (mS mw155 41 20 1) := ⟨_, rfl⟩
        rw [← h159] at hx fr fg sg ⊢
        refine And.intro (rfl) ?_
        refine ct_199 (by omega) hx (fun _ => by first | omega | (have := hx.2.2.2.2.2.2.1 rfl; have := this.2.2.1; have := this.1; have := this.2.1; omega)) (fun h => absurd rfl h) (fun _ mw160 h161 h162 => ?_)
        have sg := sg.M h161
        have fg := fg.M h161
        have fr := fr.M h161
        have hx := h162
        refine And.intro (rfl) ?_
        refine ct_184 (by omega) (by omega) (by omega) (fun mw163 h164 => ?_)
        have sg := sg.p (j := 1) (v := o) (i := 3306 + 10 * l + 1) (by omega) (by omega)
        have fg := fg.p (i := 3306 + 10 * l + 1) (v := o)
        have fr := fr.p (i := 3306 + 10 * l + 1) (v := o) (by omega)
        have hx := hx.p42 (i := 3306 + 10 * l + 1) (v := o)
        rw [← h164] at hx fr sg fg
        refine And.intro (rfl) ?_
        refine ct_202 (by omega) hx (fun h => absurd rfl h) (fun _ mw165 h166 h167 => ?_)
        have sg := sg.M h166
        have fg := fg.M h166
        have fr := fr.M h166
        have hx := h167
        refine And.intro (rfl) ?_
        refine ct_184 (by omega) (by omega) (by omega) (fun mw168 h169 => ?_)
        have sg := sg.p (j := 2) (v := ((p_ln K (q + 1)).2)) (i := 3306 + 10 * l + 2) (by omega) (by omega)
        have fg := fg.p (i := 3306 + 10 * l + 2) (v := ((p_ln K (q + 1)).2))
        have fr := fr.p (i := 3306 + 10 * l + 2) (v := ((p_ln K (q + 1)).2)) (by omega)
        have hx := hx.p42 (i := 3306 + 10 * l + 2) (v := ((p_ln K (q + 1)).2))
        rw [← h169] at hx fr sg fg
        refine And.intro (rfl) ?_
        refine And.intro (rfl) ?_
        refine ct_204 (by omega) hx (wr0.fr fr).a45 (fun h => absurd rfl h) (fun _ k173 h174 h175 h176 mw170 hm hy => ?_) (fun _ h177 mw171 hm hy => ?_)
        · have ek173 := h176
          have bk173 := And.intro h174 h175
          have sg := sg.M hm
          have fg := fg.M hm
          have fr := fr.M hm
          have hx := hy
          refine And.intro (rfl) ?_
          refine ct_184 (by omega) (by omega) (by omega) (fun mw178 h179 => ?_)
          have sg := sg.p (j := 3) (v := k173) (i := 3306 + 10 * l + 3) (by omega) (by omega)
          have fg := fg.p (i := 3306 + 10 * l + 3) (v := k173)
          have fr := fr.p (i := 3306 + 10 * l + 3) (v := k173) (by omega)
          have hx := hx.p42 (i := 3306 + 10 * l + 3) (v := k173)
          rw [← h179] at hx fr sg fg
          refine hQ _ _ (fun k => if k = 1 then o else if k = 2 then (p_ln K (q + 1)).2 else k173) fr hx ?_ ?_ (by simpa using sg)
          · have e1 : 1 = (if o = 6 then 1 else c) := by split <;> omega
            have e2 : 1 = (if o = 7 then 1 else b) := by split <;> omega
            show mFg _ (if o = 6 then 1 else c) (if o = 7 then 1 else b)
            exact fg.cg e1 e2
          · rw [p_bd_r (p_want_y (by omega)), show K (p_ln K (q + 1)).1 - 0 = k173 by omega]
        · have nk := h177
          have sg := sg.M hm
          have fg := fg.M hm
          have fr := fr.M hm
          have hx := hy
          have nz : x_wr (K ((p_ln K (q + 1)).1)) ≠ 0 := by unfold x_wr; omega
          refine And.intro (rfl) ?_
          refine ct_184 (by omega) (by omega) (by omega) (fun mw180 h181 => ?_)
          have sg := sg.p (j := 3) (v := (-1)) (i := 3306 + 10 * l + 3) (by omega) (by omega)
          have fg := fg.p (i := 3306 + 10 * l + 3) (v := (-1))
          have fr := fr.p (i := 3306 + 10 * l + 3) (v := (-1)) (by omega)
          have hx := hx.p42 (i := 3306 + 10 * l + 3) (v := (-1))
          rw [← h181] at hx fr sg fg
          exact hQe _ _ _ _ fr hx ⟨_, _, fg⟩ nz (p_bd_l (p_want_n (fun z => nk (K ((p_ln K (q + 1)).1)) (by omega) (by omega) rfl)))
      · refine And.intro (fun h182 => ?_) (fun h182 => ?_)
        · refine And.intro (⟨rfl, by first | omega | (simp only [mS_iff, eq_self, Int.reduceEq, true_and, and_true, false_and, and_false, and_self, ↓reduceIte]; omega) | (simp only [mS_iff, eq_self, Int.reduceEq, true_and, and_true, false_and, and_false, and_self, ↓reduceIte] at *; omega)⟩) ?_
          have fg := fg.s20 (v := 0) (by omega)
          have fr := fr.s (i := 20) (v := 0) (by omega)
          have hx := hx.s (i := 20) (v := 0) (by omega)
          have sg := sg.s (i := 20) (v := 0)
          obtain ⟨mw183, h184⟩ : ∃ z, z = (mS mw155 41 20 0) := ⟨_, rfl⟩
          rw [← h184] at hx fr fg sg ⊢
          refine And.intro (rfl) ?_
          refine ct_199 (by omega) hx (fun _ => by first | omega | (have := hx.2.2.2.2.2.2.1 rfl; have := this.2.2.1; have := this.1; have := this.2.1; omega)) (fun h => absurd rfl h) (fun _ mw185 h186 h187 => ?_)
          have sg := sg.M h186
          have fg := fg.M h186
          have fr := fr.M h186
          have hx := h187
          refine And.intro (rfl) ?_
          refine ct_184 (by omega) (by omega) (by omega) (fun mw188 h189 => ?_)
          have sg := sg.p (j := 1) (v := o) (i := 3306 + 10 * l + 1) (by omega) (by omega)
          have fg := fg.p (i := 3306 + 10 * l + 1) (v := o)
          have fr := fr.p (i := 3306 + 10 * l + 1) (v := o) (by omega)
          have hx := hx.p42 (i := 3306 + 10 * l + 1) (v := o)
          rw [← h189] at hx fr sg fg
          refine And.intro (rfl) ?_
          refine ct_202 (by omega) hx (fun h => absurd rfl h) (fun _ mw190 h191 h192 => ?_)
          have sg := sg.M h191
          have fg := fg.M h191
          have fr := fr.M h191
          have hx := h192
          refine And.intro (rfl) ?_
          refine ct_184 (by omega) (by omega) (by omega) (fun mw193 h194 => ?_)
          have sg := sg.p (j := 2) (v := ((p_ln K (q + 1)).2)) (i := 3306 + 10 * l + 2) (by omega) (by omega)
          have fg := fg.p (i := 3306 + 10 * l + 2) (v := ((p_ln K (q + 1)).2))
          have fr := fr.p (i := 3306 + 10 * l + 2) (v := ((p_ln K (q + 1)).2)) (by omega)
          have hx := hx.p42 (i := 3306 + 10 * l + 2) (v := ((p_ln K (q + 1)).2))
          rw [← h194] at hx fr sg fg
          refine And.intro (rfl) ?_
          refine And.intro (rfl) ?_
          refine ct_204 (by omega) hx (wr0.fr fr).a45 (fun h => absurd rfl h) (fun _ k198 h199 h200 h201 mw195 hm hy => ?_) (fun _ h202 mw196 hm hy => ?_)
          · have ek198 := h201
            have bk198 := And.intro h199 h200
            have sg := sg.M hm
            have fg := fg.M hm
            have fr := fr.M hm
            have hx := hy
            refine And.intro (rfl) ?_
            refine ct_184 (by omega) (by omega) (by omega) (fun mw203 h204 => ?_)
            have sg := sg.p (j := 3) (v := k198) (i := 3306 + 10 * l + 3) (by omega) (by omega)
            have fg := fg.p (i := 3306 + 10 * l + 3) (v := k198)
            have fr := fr.p (i := 3306 + 10 * l + 3) (v := k198) (by omega)
            have hx := hx.p42 (i := 3306 + 10 * l + 3) (v := k198)
            rw [← h204] at hx fr sg fg
            refine hQ _ _ (fun k => if k = 1 then o else if k = 2 then (p_ln K (q + 1)).2 else k198) fr hx ?_ ?_ (by simpa using sg)
            · have e1 : 1 = (if o = 6 then 1 else c) := by split <;> omega
              have e2 : 0 = (if o = 7 then 1 else b) := by split <;> omega
              show mFg _ (if o = 6 then 1 else c) (if o = 7 then 1 else b)
              exact fg.cg e1 e2
            · rw [p_bd_r (p_want_y (by omega)), show K (p_ln K (q + 1)).1 - 0 = k198 by omega]
          · have nk := h202
            have sg := sg.M hm
            have fg := fg.M hm
            have fr := fr.M hm
            have hx := hy
            have nz : x_wr (K ((p_ln K (q + 1)).1)) ≠ 0 := by unfold x_wr; omega
            refine And.intro (rfl) ?_
            refine ct_184 (by omega) (by omega) (by omega) (fun mw205 h206 => ?_)
            have sg := sg.p (j := 3) (v := (-1)) (i := 3306 + 10 * l + 3) (by omega) (by omega)
            have fg := fg.p (i := 3306 + 10 * l + 3) (v := (-1))
            have fr := fr.p (i := 3306 + 10 * l + 3) (v := (-1)) (by omega)
            have hx := hx.p42 (i := 3306 + 10 * l + 3) (v := (-1))
            rw [← h206] at hx fr sg fg
            exact hQe _ _ _ _ fr hx ⟨_, _, fg⟩ nz (p_bd_l (p_want_n (fun z => nk (K ((p_ln K (q + 1)).1)) (by omega) (by omega) rfl)))
        · refine And.intro (⟨rfl, by first | omega | (simp only [mS_iff, eq_self, Int.reduceEq, true_and, and_true, false_and, and_false, and_self, ↓reduceIte]; omega) | (simp only [mS_iff, eq_self, Int.reduceEq, true_and, and_true, false_and, and_false, and_self, ↓reduceIte] at *; omega)⟩) ?_
          have fg := fg.s20 (v := 1) (by omega)
          have fr := fr.s (i := 20) (v := 1) (by omega)
          have hx := hx.s (i := 20) (v := 1) (by omega)
          have sg := sg.s (i := 20) (v := 1)
          obtain ⟨mw207, h208⟩ : ∃ z, z = (mS mw155 41 20 1) := ⟨_, rfl⟩
          rw [← h208] at hx fr fg sg ⊢
          refine And.intro (rfl) ?_
          refine ct_199 (by omega) hx (fun _ => by first | omega | (have := hx.2.2.2.2.2.2.1 rfl; have := this.2.2.1; have := this.1; have := this.2.1; omega)) (fun h => absurd rfl h) (fun _ mw209 h210 h211 => ?_)
          have sg := sg.M h210
          have fg := fg.M h210
          have fr := fr.M h210
          have hx := h211
          refine And.intro (rfl) ?_
          refine ct_184 (by omega) (by omega) (by omega) (fun mw212 h213 => ?_)
          have sg := sg.p (j := 1) (v := o) (i := 3306 + 10 * l + 1) (by omega) (by omega)
          have fg := fg.p (i := 3306 + 10 * l + 1) (v := o)
          have fr := fr.p (i := 3306 + 10 * l + 1) (v := o) (by omega)
          have hx := hx.p42 (i := 3306 + 10 * l + 1) (v := o)
          rw [← h213] at hx fr sg fg
          refine And.intro (rfl) ?_
          refine ct_202 (by omega) hx (fun h => absurd rfl h) (fun _ mw214 h215 h216 => ?_)
          have sg := sg.M h215
          have fg := fg.M h215
          have fr := fr.M h215
          have hx := h216
          refine And.intro (rfl) ?_
          refine ct_184 (by omega) (by omega) (by omega) (fun mw217 h218 => ?_)
          have sg := sg.p (j := 2) (v := ((p_ln K (q + 1)).2)) (i := 3306 + 10 * l + 2) (by omega) (by omega)
          have fg := fg.p (i := 3306 + 10 * l + 2) (v := ((p_ln K (q + 1)).2))
          have fr := fr.p (i := 3306 + 10 * l + 2) (v := ((p_ln K (q + 1)).2)) (by omega)
          have hx := hx.p42 (i := 3306 + 10 * l + 2) (v := ((p_ln K (q + 1)).2))
          rw [← h218] at hx fr sg fg
          refine And.intro (rfl) ?_
          refine And.intro (rfl) ?_
          refine ct_204 (by omega) hx (wr0.fr fr).a45 (fun h => absurd rfl h) (fun _ k222 h223 h224 h225 mw219 hm hy => ?_) (fun _ h226 mw220 hm hy => ?_)
          · have ek222 := h225
            have bk222 := And.intro h223 h224
            have sg := sg.M hm
            have fg := fg.M hm
            have fr := fr.M hm
            have hx := hy
            refine And.intro (rfl) ?_
            refine ct_184 (by omega) (by omega) (by omega) (fun mw227 h228 => ?_)
            have sg := sg.p (j := 3) (v := k222) (i := 3306 + 10 * l + 3) (by omega) (by omega)
            have fg := fg.p (i := 3306 + 10 * l + 3) (v := k222)
            have fr := fr.p (i := 3306 + 10 * l + 3) (v := k222) (by omega)
            have hx := hx.p42 (i := 3306 + 10 * l + 3) (v := k222)
            rw [← h228] at hx fr sg fg
            refine hQ _ _ (fun k => if k = 1 then o else if k = 2 then (p_ln K (q + 1)).2 else k222) fr hx ?_ ?_ (by simpa using sg)
            · have e1 : 1 = (if o = 6 then 1 else c) := by split <;> omega
              have e2 : 1 = (if o = 7 then 1 else b) := by split <;> omega
              show mFg _ (if o = 6 then 1 else c) (if o = 7 then 1 else b)
              exact fg.cg e1 e2
            · rw [p_bd_r (p_want_y (by omega)), show K (p_ln K (q + 1)).1 - 0 = k222 by omega]
          · have nk := h226
            have sg := sg.M hm
            have fg := fg.M hm
            have fr := fr.M hm
            have hx := hy
            have nz : x_wr (K ((p_ln K (q + 1)).1)) ≠ 0 := by unfold x_wr; omega
            refine And.intro (rfl) ?_
            refine ct_184 (by omega) (by omega) (by omega) (fun mw229 h230 => ?_)
            have sg := sg.p (j := 3) (v := (-1)) (i := 3306 + 10 * l + 3) (by omega) (by omega)
            have fg := fg.p (i := 3306 + 10 * l + 3) (v := (-1))
            have fr := fr.p (i := 3306 + 10 * l + 3) (v := (-1)) (by omega)
            have hx := hx.p42 (i := 3306 + 10 * l + 3) (v := (-1))
            rw [← h230] at hx fr sg fg
            exact hQe _ _ _ _ fr hx ⟨_, _, fg⟩ nz (p_bd_l (p_want_n (fun z => nk (K ((p_ln K (q + 1)).1)) (by omega) (by omega) rfl)))
theorem lp_209f {d : Nat} {m : aM} {Q : aO → aM → Prop} {n : Int} {K A V E : Int → Int} {N q f p l c b o : Int} (hd : 4 ≤ d) {mb : aM} (wr0 : mWr mb) (hl : 0 ≤ l ∧ l ≤ 5) (fr : fr_Y (3306 + 10 * l) (3316 + 10 * l) mb m) (fg : mFg m c b) (hx : mTx m n K A V E N q f p) (nz : f ≠ 0) (hQ : ∀ m', fr_Y (3306 + 10 * l) (3316 + 10 * l) mb m' → mTx m' n K A V E N q f p → (∃ c' b', mFg m' c' b') → Q (.inl none) m') : am_WP am_G (am_wpc am_G am_T d) [] cd_209 Q 66 [aR 41, aI l, aI o] [] m := by
  obtain ⟨fc, fb, fc2, fb2⟩ := id fg
  refine am_go 400 [] (am_wpc_cm _ _ _) wf_209 ?_
  refine And.intro (rfl) ?_
  refine And.intro (fun h1 => ?_) (fun h1 => ?_)
  · refine And.intro (⟨rfl, by first | omega | (simp only [mS_iff, eq_self, Int.reduceEq, true_and, and_true, false_and, and_false, and_self, ↓reduceIte]; omega) | (simp only [mS_iff, eq_self, Int.reduceEq, true_and, and_true, false_and, and_false, and_self, ↓reduceIte] at *; omega)⟩) ?_
    have fg := fg.s19 (v := 1) (by omega)
    have fr := fr.s (i := 19) (v := 1) (by omega)
    have hx := hx.s (i := 19) (v := 1) (by omega)
    obtain ⟨mw2, h3⟩ : ∃ z, z = (mS m 41 19 1) := ⟨_, rfl⟩
    rw [← h3] at hx fr fg ⊢
    have fb := fg.2.1
    refine And.intro (rfl) ?_
    refine And.intro (fun h4 => ?_) (fun h4 => ?_)
    · refine And.intro (⟨rfl, by first | omega | (simp only [mS_iff, eq_self, Int.reduceEq, true_and, and_true, false_and, and_false, and_self, ↓reduceIte]; omega) | (simp only [mS_iff, eq_self, Int.reduceEq, true_and, and_true, false_and, and_false, and_self, ↓reduceIte] at *; omega)⟩) ?_
      have fg := fg.s20 (v := 1) (by omega)
      have fr := fr.s (i := 20) (v := 1) (by omega)
      have hx := hx.s (i := 20) (v := 1) (by omega)
      obtain ⟨mw5, h6⟩ : ∃ z, z = (mS mw2 41 20 1) := ⟨_, rfl⟩
      rw [← h6] at hx fr fg ⊢
      refine And.intro (rfl) ?_
      refine ct_199 (by omega) hx (fun h => absurd h nz) (fun _ => ?_) (fun h => absurd h nz)
      refine And.intro (rfl) ?_
      refine ct_184 (by omega) (by omega) (by omega) (fun mw7 h8 => ?_)
      have fg := fg.p (i := 3306 + 10 * l + 1) (v := o)
      have fr := fr.p (i := 3306 + 10 * l + 1) (v := o) (by omega)
      have hx := hx.p42 (i := 3306 + 10 * l + 1) (v := o)
      rw [← h8] at hx fr fg
      refine And.intro (rfl) ?_
      refine ct_202 (by omega) hx (fun _ => ?_) (fun h => absurd h nz)
      refine And.intro (rfl) ?_
      refine ct_184 (by omega) (by omega) (by omega) (fun mw12 h13 => ?_)
      have fg := fg.p (i := 3306 + 10 * l + 2) (v := 0)
      have fr := fr.p (i := 3306 + 10 * l + 2) (v := 0) (by omega)
      have hx := hx.p42 (i := 3306 + 10 * l + 2) (v := 0)
      rw [← h13] at hx fr fg
      refine And.intro (rfl) ?_
      refine And.intro (rfl) ?_
      refine ct_204 (by omega) hx (wr0.fr fr).a45 (fun _ k17 mw16 hm hy => ?_) (fun h => absurd h nz) (fun h => absurd h nz)
      have fg := fg.M hm
      have fr := fr.M hm
      have hx := hy
      refine And.intro (rfl) ?_
      refine ct_184 (by omega) (by omega) (by omega) (fun mw22 h23 => ?_)
      have fg := fg.p (i := 3306 + 10 * l + 3) (v := k17)
      have fr := fr.p (i := 3306 + 10 * l + 3) (v := k17) (by omega)
      have hx := hx.p42 (i := 3306 + 10 * l + 3) (v := k17)
      rw [← h23] at hx fr fg
      exact hQ _ fr hx ⟨_, _, fg⟩
    · refine And.intro (fun h24 => ?_) (fun h24 => ?_)
      · refine And.intro (⟨rfl, by first | omega | (simp only [mS_iff, eq_self, Int.reduceEq, true_and, and_true, false_and, and_false, and_self, ↓reduceIte]; omega) | (simp only [mS_iff, eq_self, Int.reduceEq, true_and, and_true, false_and, and_false, and_self, ↓reduceIte] at *; omega)⟩) ?_
        have fg := fg.s20 (v := 0) (by omega)
        have fr := fr.s (i := 20) (v := 0) (by omega)
        have hx := hx.s (i := 20) (v := 0) (by omega)
        obtain ⟨mw25, h26⟩ : ∃ z, z = (mS mw2 41 20 0) := ⟨_, rfl⟩
        rw [← h26] at hx fr fg ⊢
        refine And.intro (rfl) ?_
        refine ct_199 (by omega) hx (fun h => absurd h nz) (fun _ => ?_) (fun h => absurd h nz)
        refine And.intro (rfl) ?_
        refine ct_184 (by omega) (by omega) (by omega) (fun mw27 h28 => ?_)
        have fg := fg.p (i := 3306 + 10 * l + 1) (v := o)
        have fr := fr.p (i := 3306 + 10 * l + 1) (v := o) (by omega)
        have hx := hx.p42 (i := 3306 + 10 * l + 1) (v := o)
        rw [← h28] at hx fr fg
        refine And.intro (rfl) ?_
        refine ct_202 (by omega) hx (fun _ => ?_) (fun h => absurd h nz)
        refine And.intro (rfl) ?_
        refine ct_184 (by omega) (by omega) (by omega) (fun mw32 h33 => ?_)
        have fg := fg.p (i := 3306 + 10 * l + 2) (v := 0)
        have fr := fr.p (i := 3306 + 10 * l + 2) (v := 0) (by omega)
        have hx := hx.p42 (i := 3306 + 10 * l + 2) (v := 0)
        rw [← h33] at hx fr fg
        refine And.intro (rfl) ?_
        refine And.intro (rfl) ?_
        refine ct_204 (by omega) hx (wr0.fr fr).a45 (fun _ k37 mw36 hm hy => ?_) (fun h => absurd h nz) (fun h => absurd h nz)
        have fg := fg.M hm
        have fr := fr.M hm
        have hx := hy
        refine And.intro (rfl) ?_
        refine ct_184 (by omega) (by omega) (by omega) (fun mw42 h43 => ?_)
        have fg := fg.p (i := 3306 + 10 * l + 3) (v := k37)
        have fr := fr.p (i := 3306 + 10 * l + 3) (v := k37) (by omega)
        have hx := hx.p42 (i := 3306 + 10 * l + 3) (v := k37)
        rw [← h43] at hx fr fg
        exact hQ _ fr hx ⟨_, _, fg⟩
      · refine And.intro (⟨rfl, by first | omega | (simp only [mS_iff, eq_self, Int.reduceEq, true_and, and_true, false_and, and_false, and_self, ↓reduceIte]; omega) | (simp only [mS_iff, eq_self, Int.reduceEq, true_and, and_true, false_and, and_false, and_self, ↓reduceIte] at *; omega)⟩) ?_
        have fg := fg.s20 (v := 1) (by omega)
        have fr := fr.s (i := 20) (v := 1) (by omega)
        have hx := hx.s (i := 20) (v := 1) (by omega)
        obtain ⟨mw44, h45⟩ : ∃ z, z = (mS mw2 41 20 1) := ⟨_, rfl⟩
        rw [← h45] at hx fr fg ⊢
        refine And.intro (rfl) ?_
        refine ct_199 (by omega) hx (fun h => absurd h nz) (fun _ => ?_) (fun h => absurd h nz)
        refine And.intro (rfl) ?_
        refine ct_184 (by omega) (by omega) (by omega) (fun mw46 h47 => ?_)
        have fg := fg.p (i := 3306 + 10 * l + 1) (v := o)
        have fr := fr.p (i := 3306 + 10 * l + 1) (v := o) (by omega)
        have hx := hx.p42 (i := 3306 + 10 * l + 1) (v := o)
        rw [← h47] at hx fr fg
        refine And.intro (rfl) ?_
        refine ct_202 (by omega) hx (fun _ => ?_) (fun h => absurd h nz)
        refine And.intro (rfl) ?_
        refine ct_184 (by omega) (by omega) (by omega) (fun mw51 h52 => ?_)
        have fg := fg.p (i := 3306 + 10 * l + 2) (v := 0)
        have fr := fr.p (i := 3306 + 10 * l + 2) (v := 0) (by omega)
        have hx := hx.p42 (i := 3306 + 10 * l + 2) (v := 0)
        rw [← h52] at hx fr fg
        refine And.intro (rfl) ?_
        refine And.intro (rfl) ?_
        refine ct_204 (by omega) hx (wr0.fr fr).a45 (fun _ k56 mw55 hm hy => ?_) (fun h => absurd h nz) (fun h => absurd h nz)
        have fg := fg.M hm
        have fr := fr.M hm
        have hx := hy
        refine And.intro (rfl) ?_
        refine ct_184 (by omega) (by omega) (by omega) (fun mw61 h62 => ?_)
        have fg := fg.p (i := 3306 + 10 * l + 3) (v := k56)
        have fr := fr.p (i := 3306 + 10 * l + 3) (v := k56) (by omega)
        have hx := hx.p42 (i := 3306 + 10 * l + 3) (v := k56)
        rw [← h62] at hx fr fg
        exact hQ _ fr hx ⟨_, _, fg⟩
  · refine And.intro (fun h63 => ?_) (fun h63 => ?_)
    · refine And.intro (⟨rfl, by first | omega | (simp only [mS_iff, eq_self, Int.reduceEq, true_and, and_true, false_and, and_false, and_self, ↓reduceIte]; omega) | (simp only [mS_iff, eq_self, Int.reduceEq, true_and, and_true, false_and, and_false, and_self, ↓reduceIte] at *; omega)⟩) ?_
      have fg := fg.s19 (v := 0) (by omega)
      have fr := fr.s (i := 19) (v := 0) (by omega)
      have hx := hx.s (i := 19) (v := 0) (by omega)
      obtain ⟨mw64, h65⟩ : ∃ z, z = (mS m 41 19 0) := ⟨_, rfl⟩
      rw [← h65] at hx fr fg ⊢
      have fb := fg.2.1
      refine And.intro (rfl) ?_
      refine And.intro (fun h66 => ?_) (fun h66 => ?_)
      · refine And.intro (⟨rfl, by first | omega | (simp only [mS_iff, eq_self, Int.reduceEq, true_and, and_true, false_and, and_false, and_self, ↓reduceIte]; omega) | (simp only [mS_iff, eq_self, Int.reduceEq, true_and, and_true, false_and, and_false, and_self, ↓reduceIte] at *; omega)⟩) ?_
        have fg := fg.s20 (v := 1) (by omega)
        have fr := fr.s (i := 20) (v := 1) (by omega)
        have hx := hx.s (i := 20) (v := 1) (by omega)
        obtain ⟨mw67, h68⟩ : ∃ z, z = (mS mw64 41 20 1) := ⟨_, rfl⟩
        rw [← h68] at hx fr fg ⊢
        refine And.intro (rfl) ?_
        refine ct_199 (by omega) hx (fun h => absurd h nz) (fun _ => ?_) (fun h => absurd h nz)
        refine And.intro (rfl) ?_
        refine ct_184 (by omega) (by omega) (by omega) (fun mw69 h70 => ?_)
        have fg := fg.p (i := 3306 + 10 * l + 1) (v := o)
        have fr := fr.p (i := 3306 + 10 * l + 1) (v := o) (by omega)
        have hx := hx.p42 (i := 3306 + 10 * l + 1) (v := o)
        rw [← h70] at hx fr fg
        refine And.intro (rfl) ?_
        refine ct_202 (by omega) hx (fun _ => ?_) (fun h => absurd h nz)
        refine And.intro (rfl) ?_
        refine ct_184 (by omega) (by omega) (by omega) (fun mw74 h75 => ?_)
        have fg := fg.p (i := 3306 + 10 * l + 2) (v := 0)
        have fr := fr.p (i := 3306 + 10 * l + 2) (v := 0) (by omega)
        have hx := hx.p42 (i := 3306 + 10 * l + 2) (v := 0)
        rw [← h75] at hx fr fg
        refine And.intro (rfl) ?_
        refine And.intro (rfl) ?_
        refine ct_204 (by omega) hx (wr0.fr fr).a45 (fun _ k79 mw78 hm hy => ?_) (fun h => absurd h nz) (fun h => absurd h nz)
        have fg := fg.M hm
        have fr := fr.M hm
        have hx := hy
        refine And.intro (rfl) ?_
        refine ct_184 (by omega) (by omega) (by omega) (fun mw84 h85 => ?_)
        have fg := fg.p (i := 3306 + 10 * l + 3) (v := k79)
        have fr := fr.p (i := 3306 + 10 * l + 3) (v := k79) (by omega)
        have hx := hx.p42 (i := 3306 + 10 * l + 3) (v := k79)
        rw [← h85] at hx fr fg
        exact hQ _ fr hx ⟨_, _, fg⟩
      · refine And.intro (fun h86 => ?_) (fun h86 => ?_)
        · refine And.intro (⟨rfl, by first | omega | (simp only [mS_iff, eq_self, Int.reduceEq, true_and, and_true, false_and, and_false, and_self, ↓reduceIte]; omega) | (simp only [mS_iff, eq_self, Int.reduceEq, true_and, and_true, false_and, and_false, and_self, ↓reduceIte] at *; omega)⟩) ?_
          have fg := fg.s20 (v := 0) (by omega)
          have fr := fr.s (i := 20) (v := 0) (by omega)
          have hx := hx.s (i := 20) (v := 0) (by omega)
          obtain ⟨mw87, h88⟩ : ∃ z, z = (mS mw64 41 20 0) := ⟨_, rfl⟩
          rw [← h88] at hx fr fg ⊢
          refine And.intro (rfl) ?_
          refine ct_199 (by omega) hx (fun h => absurd h nz) (fun _ => ?_) (fun h => absurd h nz)
          refine And.intro (rfl) ?_
          refine ct_184 (by omega) (by omega) (by omega) (fun mw89 h90 => ?_)
          have fg := fg.p (i := 3306 + 10 * l + 1) (v := o)
          have fr := fr.p (i := 3306 + 10 * l + 1) (v := o) (by omega)
          have hx := hx.p42 (i := 3306 + 10 * l + 1) (v := o)
          rw [← h90] at hx fr fg
          refine And.intro (rfl) ?_
          refine ct_202 (by omega) hx (fun _ => ?_) (fun h => absurd h nz)
          refine And.intro (rfl) ?_
          refine ct_184 (by omega) (by omega) (by omega) (fun mw94 h95 => ?_)
          have fg := fg.p (i := 3306 + 10 * l + 2) (v := 0)
          have fr := fr.p (i := 3306 + 10 * l + 2) (v := 0) (by omega)
          have hx := hx.p42 (i := 3306 + 10 * l + 2) (v := 0)
          rw [← h95] at hx fr fg
          refine And.intro (rfl) ?_
          refine And.intro (rfl) ?_
          refine ct_204 (by omega) hx (wr0.fr fr).a45 (fun _ k99 mw98 hm hy => ?_) (fun h => absurd h nz) (fun h => absurd h nz)
          have fg := fg.M hm
          have fr := fr.M hm
          have hx := hy
          refine And.intro (rfl) ?_
          refine ct_184 (by omega) (by omega) (by omega) (fun mw104 h105 => ?_)
          have fg := fg.p (i := 3306 + 10 * l + 3) (v := k99)
          have fr := fr.p (i := 3306 + 10 * l + 3) (v := k99) (by omega)
          have hx := hx.p42 (i := 3306 + 10 * l + 3) (v := k99)
          rw [← h105] at hx fr fg
          exact hQ _ fr hx ⟨_, _, fg⟩
        · refine And.intro (⟨rfl, by first | omega | (simp only [mS_iff, eq_self, Int.reduceEq, true_and, and_true, false_and, and_false, and_self, ↓reduceIte]; omega) | (simp only [mS_iff, eq_self, Int.reduceEq, true_and, and_true, false_and, and_false, and_self, ↓reduceIte] at *; omega)⟩) ?_
          have fg := fg.s20 (v := 1) (by omega)
          have fr := fr.s (i := 20) (v := 1) (by omega)
          have hx := hx.s (i := 20) (v := 1) (by omega)
          obtain ⟨mw106, h107⟩ : ∃ z, z = (mS mw64 41 20 1) := ⟨_, rfl⟩
          rw [← h107] at hx fr fg ⊢
          refine And.intro (rfl) ?_
          refine ct_199 (by omega) hx (fun h => absurd h nz) (fun _ => ?_) (fun h => absurd h nz)
          refine And.intro (rfl) ?_
          refine ct_184 (by omega) (by omega) (by omega) (fun mw108 h109 => ?_)
          have fg := fg.p (i := 3306 + 10 * l + 1) (v := o)
          have fr := fr.p (i := 3306 + 10 * l + 1) (v := o) (by omega)
          have hx := hx.p42 (i := 3306 + 10 * l + 1) (v := o)
          rw [← h109] at hx fr fg
          refine And.intro (rfl) ?_
          refine ct_202 (by omega) hx (fun _ => ?_) (fun h => absurd h nz)
          refine And.intro (rfl) ?_
          refine ct_184 (by omega) (by omega) (by omega) (fun mw113 h114 => ?_)
          have fg := fg.p (i := 3306 + 10 * l + 2) (v := 0)
          have fr := fr.p (i := 3306 + 10 * l + 2) (v := 0) (by omega)
          have hx := hx.p42 (i := 3306 + 10 * l + 2) (v := 0)
          rw [← h114] at hx fr fg
          refine And.intro (rfl) ?_
          refine And.intro (rfl) ?_
          refine ct_204 (by omega) hx (wr0.fr fr).a45 (fun _ k118 mw117 hm hy => ?_) (fun h => absurd h nz) (fun h => absurd h nz)
          have fg := fg.M hm
          have fr := fr.M hm
          have hx := hy
          refine And.intro (rfl) ?_
          refine ct_184 (by omega) (by omega) (by omega) (fun mw123 h124 => ?_)
          have fg := fg.p (i := 3306 + 10 * l + 3) (v := k118)
          have fr := fr.p (i := 3306 + 10 * l + 3) (v := k118) (by omega)
          have hx := hx.p42 (i := 3306 + 10 * l + 3) (v := k118)
          rw [← h124] at hx fr fg
          exact hQ _ fr hx ⟨_, _, fg⟩
    · refine And.intro (⟨rfl, by first | omega | (simp only [mS_iff, eq_self, Int.reduceEq, true_and, and_true, false_and, and_false, and_self, ↓reduceIte]; omega) | (simp only [mS_iff, eq_self, Int.reduceEq, true_and, and_true, false_and, and_false, and_self, ↓reduceIte] at *; omega)⟩) ?_
      have fg := fg.s19 (v := 1) (by omega)
      have fr := fr.s (i := 19) (v := 1) (by omega)
      have hx := hx.s (i := 19) (v := 1) (by omega)
      obtain ⟨mw125, h126⟩ : ∃ z, z = (mS m 41 19 1) := ⟨_, rfl⟩
      rw [← h126] at hx fr fg ⊢
      have fb := fg.2.1
      refine And.intro (rfl) ?_
      refine And.intro (fun h127 => ?_) (fun h127 => ?_)
      · refine And.intro (⟨rfl, by first | omega | (simp only [mS_iff, eq_self, Int.reduceEq, true_and, and_true, false_and, and_false, and_self, ↓reduceIte]; omega) | (simp only [mS_iff, eq_self, Int.reduceEq, true_and, and_true, false_and, and_false, and_self, ↓reduceIte] at *; omega)⟩) ?_
        have fg := fg.s20 (v := 1) (by omega)
        have fr := fr.s (i := 20) (v := 1) (by omega)
        have hx := hx.s (i := 20) (v := 1) (by omega)
        obtain ⟨mw128, h129⟩ : ∃ z, z = (mS mw125 41 20 1) := ⟨_, rfl⟩
        rw [← h129] at hx fr fg ⊢
        refine And.intro (rfl) ?_
        refine ct_199 (by omega) hx (fun h => absurd h nz) (fun _ => ?_) (fun h => absurd h nz)
        refine And.intro (rfl) ?_
        refine ct_184 (by omega) (by omega) (by omega) (fun mw130 h131 => ?_)
        have fg := fg.p (i := 3306 + 10 * l + 1) (v := o)
        have fr := fr.p (i := 3306 + 10 * l + 1) (v := o) (by omega)
        have hx := hx.p42 (i := 3306 + 10 * l + 1) (v := o)
        rw [← h131] at hx fr fg
        refine And.intro (rfl) ?_
        refine ct_202 (by omega) hx (fun _ => ?_) (fun h => absurd h nz)
        refine And.intro (rfl) ?_
        refine ct_184 (by omega) (by omega) (by omega) (fun mw135 h136 => ?_)
        have fg := fg.p (i := 3306 + 10 * l + 2) (v := 0)
        have fr := fr.p (i := 3306 + 10 * l + 2) (v := 0) (by omega)
        have hx := hx.p42 (i := 3306 + 10 * l + 2) (v := 0)
        rw [← h136] at hx fr fg
        refine And.intro (rfl) ?_
        refine And.intro (rfl) ?_
        refine ct_204 (by omega) hx (wr0.fr fr).a45 (fun _ k140 mw139 hm hy => ?_) (fun h => absurd h nz) (fun h => absurd h nz)
        have fg := fg.M hm
        have fr := fr.M hm
        have hx := hy
        refine And.intro (rfl) ?_
        refine ct_184 (by omega) (by omega) (by omega) (fun mw145 h146 => ?_)
        have fg := fg.p (i := 3306 + 10 * l + 3) (v := k140)
        have fr := fr.p (i := 3306 + 10 * l + 3) (v := k140) (by omega)
        have hx := hx.p42 (i := 3306 + 10 * l + 3) (v := k140)
        rw [← h146] at hx fr fg
        exact hQ _ fr hx ⟨_, _, fg⟩
      · refine And.intro (fun h147 => ?_) (fun h147 => ?_)
        · refine And.intro (⟨rfl, by first | omega | (simp only [mS_iff, eq_self, Int.reduceEq, true_and, and_true, false_and, and_false, and_self, ↓reduceIte]; omega) | (simp only [mS_iff, eq_self, Int.reduceEq, true_and, and_true, false_and, and_false, and_self, ↓reduceIte] at *; omega)⟩) ?_
          have fg := fg.s20 (v := 0) (by omega)
          have fr := fr.s (i := 20) (v := 0) (by omega)
          have hx := hx.s (i := 20) (v := 0) (by omega)
          obtain ⟨mw148, h149⟩ : ∃ z, z = (mS mw125 41 20 0) := ⟨_, rfl⟩
          rw [← h149] at hx fr fg ⊢
          refine And.intro (rfl) ?_
          refine ct_199 (by omega) hx (fun h => absurd h nz) (fun _ => ?_) (fun h => absurd h nz)
          refine And.intro (rfl) ?_
          refine ct_184 (by omega) (by omega) (by omega) (fun mw150 h151 => ?_)
          have fg := fg.p (i := 3306 + 10 * l + 1) (v := o)
          have fr := fr.p (i := 3306 + 10 * l + 1) (v := o) (by omega)
          have hx := hx.p42 (i := 3306 + 10 * l + 1) (v := o)
          rw [← h151] at hx fr fg
          refine And.intro (rfl) ?_
          refine ct_202 (by omega) hx (fun _ => ?_) (fun h => absurd h nz)
          refine And.intro (rfl) ?_
          refine ct_184 (by omega) (by omega) (by omega) (fun mw155 h156 => ?_)
          have fg := fg.p (i := 3306 + 10 * l + 2) (v := 0)
          have fr := fr.p (i := 3306 + 10 * l + 2) (v := 0) (by omega)
          have hx := hx.p42 (i := 3306 + 10 * l + 2) (v := 0)
          rw [← h156] at hx fr fg
          refine And.intro (rfl) ?_
          refine And.intro (rfl) ?_
          refine ct_204 (by omega) hx (wr0.fr fr).a45 (fun _ k160 mw159 hm hy => ?_) (fun h => absurd h nz) (fun h => absurd h nz)
          have fg := fg.M hm
          have fr := fr.M hm
          have hx := hy
          refine And.intro (rfl) ?_
          refine ct_184 (by omega) (by omega) (by omega) (fun mw165 h166 => ?_)
          have fg := fg.p (i := 3306 + 10 * l + 3) (v := k160)
          have fr := fr.p (i := 3306 + 10 * l + 3) (v := k160) (by omega)
          have hx := hx.p42 (i := 3306 + 10 * l + 3) (v := k160)
          rw [← h166] at hx fr fg
          exact hQ _ fr hx ⟨_, _, fg⟩
        · refine And.intro (⟨rfl, by first | omega | (simp only [mS_iff, eq_self, Int.reduceEq, true_and, and_true, false_and, and_false, and_self, ↓reduceIte]; omega) | (simp only [mS_iff, eq_self, Int.reduceEq, true_and, and_true, false_and, and_false, and_self, ↓reduceIte] at *; omega)⟩) ?_
          have fg := fg.s20 (v := 1) (by omega)
          have fr := fr.s (i := 20) (v := 1) (by omega)
          have hx := hx.s (i := 20) (v := 1) (by omega)
          obtain ⟨mw167, h168⟩ : ∃ z, z = (mS mw125 41 20 1) := ⟨_, rfl⟩
          rw [← h168] at hx fr fg ⊢
          refine And.intro (rfl) ?_
          refine ct_199 (by omega) hx (fun h => absurd h nz) (fun _ => ?_) (fun h => absurd h nz)
          refine And.intro (rfl) ?_
          refine ct_184 (by omega) (by omega) (by omega) (fun mw169 h170 => ?_)
          have fg := fg.p (i := 3306 + 10 * l + 1) (v := o)
          have fr := fr.p (i := 3306 + 10 * l + 1) (v := o) (by omega)
          have hx := hx.p42 (i := 3306 + 10 * l + 1) (v := o)
          rw [← h170] at hx fr fg
          refine And.intro (rfl) ?_
          refine ct_202 (by omega) hx (fun _ => ?_) (fun h => absurd h nz)
          refine And.intro (rfl) ?_
          refine ct_184 (by omega) (by omega) (by omega) (fun mw174 h175 => ?_)
          have fg := fg.p (i := 3306 + 10 * l + 2) (v := 0)
          have fr := fr.p (i := 3306 + 10 * l + 2) (v := 0) (by omega)
          have hx := hx.p42 (i := 3306 + 10 * l + 2) (v := 0)
          rw [← h175] at hx fr fg
          refine And.intro (rfl) ?_
          refine And.intro (rfl) ?_
          refine ct_204 (by omega) hx (wr0.fr fr).a45 (fun _ k179 mw178 hm hy => ?_) (fun h => absurd h nz) (fun h => absurd h nz)
          have fg := fg.M hm
          have fr := fr.M hm
          have hx := hy
          refine And.intro (rfl) ?_
          refine ct_184 (by omega) (by omega) (by omega) (fun mw184 h185 => ?_)
          have fg := fg.p (i := 3306 + 10 * l + 3) (v := k179)
          have fr := fr.p (i := 3306 + 10 * l + 3) (v := k179) (by omega)
          have hx := hx.p42 (i := 3306 + 10 * l + 3) (v := k179)
          rw [← h185] at hx fr fg
          exact hQ _ fr hx ⟨_, _, fg⟩

theorem ct_209 {d : Nat} {m : aM} {Q : aO → aM → Prop} {n : Int} {K A V E : Int → Int} {N q f p l c b : Int} {u : Int → Int} (hd : 5 ≤ d) (hx : mTx m n K A V E N q f p) (wr0 : mWr m) (hl : 0 ≤ l ∧ l ≤ 5) (sg : mSg m (3306 + 10 * l) 10 u) (fg : mFg m c b) (hQf : f ≠ 0 → ∀ m', fr_Y (3306 + 10 * l) (3316 + 10 * l) m m' → mTx m' n K A V E N q f p → (∃ c' b', mFg m' c' b') → Q (.inl none) m') (hQe : f = 0 → ∀ m' q' f' p', fr_Y (3306 + 10 * l) (3316 + 10 * l) m m' → mTx m' n K A V E N q' f' p' → (∃ c' b', mFg m' c' b') → f' ≠ 0 → p_ord K A c b q = .inl (f', p') → Q (.inl none) m') (hQ : f = 0 → ∀ m' q' g, fr_Y (3306 + 10 * l) (3316 + 10 * l) m m' → mTx m' n K A V E N q' 0 p → mFg m' (if g 1 = 6 then 1 else c) (if g 1 = 7 then 1 else b) → p_ord K A c b q = .inr (q', g) → mSg m' (3306 + 10 * l) 10 (p_up (p_up (p_up u 1 (g 1)) 2 (g 2)) 3 (g 3)) → Q (.inl none) m') : am_wpc am_G am_T d 209 [aR 41, aI l] m Q := by
  have fr := fr_Y.rfl (3306 + 10 * l) (3316 + 10 * l) m
  by_cases f0 : f = 0
  · subst f0
    refine am_in rfl hd (fun d hd => ?_)
    refine am_go 400 [66] (am_wpc_cm _ _ _) wf_209 ?_
    have hx0 := hx
    refine And.intro (rfl) ?_
    refine And.intro (fun h1 => ?_) (fun h1 => ?_)
    · refine And.intro (fun h => absurd h (by decide)) (fun _ => ?_)
      refine And.intro (rfl) ?_
      refine ct_201 (by omega) hx (by omega) (fun mw2 h3 h4 => ?_)
      have sg := sg.M h3
      have fg := fg.M h3
      have fr := fr.M h3
      have hx : mTx mw2 n K A V E N q (x_wr (K q)) (A q) := by unfold x_wr; rw [if_pos rfl, if_pos rfl] at h4; exact h4
      have nz : (x_wr (K q)) ≠ (0 : Int) := by first | omega | (unfold x_wr; omega)
      obtain ⟨fc, fb, fc2, fb2⟩ := id fg
      refine And.intro (fun _ => ?_) (fun h => absurd h (by decide))
      refine And.intro (fun _ => ?_) (fun h => absurd h (by decide))
      exact lp_209f (by omega) wr0 hl fr fg hx nz (fun m' a1 a2 a3 => hQe rfl m' _ _ _ a1 a2 a3 nz (by unfold p_ord; exact p_bd_l (p_want_n (fun z => hx0.k1 (by omega) (w := K q) (by omega) (by omega) rfl))))
    · refine And.intro (rfl) ?_
      refine And.intro (rfl) ?_
      refine ct_200 (by omega) ⟨(wr0.fr fr).a48.1.1, by have := (wr0.fr fr).a48.1.2; omega⟩ (by omega) (fun k5 h6 h7 h8 h9 => ?_) (fun h6 => ?_)
      · have ek5 := hx.ky (wr0.fr fr).a48 (by first | omega | exact hx.kk (by omega) (by omega)) h6 h7 h8 h9
        have bk5 := And.intro h6 h7
        refine And.intro (fun h10 => ?_) (fun h10 => ?_)
        · obtain ⟨fc, fb, fc2, fb2⟩ := id fg
          refine And.intro (fun h11 => ?_) (fun h11 => ?_)
          · refine And.intro (fun h12 => ?_) (fun h12 => ?_)
            · exact lp_209 (by omega) wr0 hl fr fg hx sg (by omega) (by omega) (fun m' q' f' p' a1 a2 a3 a4 a5 => hQe rfl m' q' f' p' a1 a2 a3 a4 a5) (fun m' q' g a1 a2 a3 a4 a5 => hQ rfl m' q' g a1 a2 a3 a4 a5)
            · refine And.intro (rfl) ?_
              refine And.intro (fun h13 => ?_) (fun h13 => ?_)
              · exact lp_209 (by omega) wr0 hl fr fg hx sg (by omega) (by omega) (fun m' q' f' p' a1 a2 a3 a4 a5 => hQe rfl m' q' f' p' a1 a2 a3 a4 a5) (fun m' q' g a1 a2 a3 a4 a5 => hQ rfl m' q' g a1 a2 a3 a4 a5)
              · refine And.intro (rfl) ?_
                refine ct_201 (by omega) hx (by omega) (fun mw14 h15 h16 => ?_)
                have sg := sg.M h15
                have fg := fg.M h15
                have fr := fr.M h15
                have hx : mTx mw14 n K A V E N q 5 (A q) := by rw [if_pos rfl, if_pos rfl, if_neg (by omega)] at h16; exact h16
                have nz : 5 ≠ (0 : Int) := by first | omega | (unfold x_wr; omega)
                exact lp_209f (by omega) wr0 hl fr fg hx nz (fun m' a1 a2 a3 => hQe rfl m' _ _ _ a1 a2 a3 nz (by first | (exfalso; omega) | (unfold p_ord; rw [p_bd_r (p_want_y (by omega)), if_pos (by omega)])))
          · refine And.intro (rfl) ?_
            refine And.intro (fun h17 => ?_) (fun h17 => ?_)
            · refine And.intro (rfl) ?_
              refine ct_201 (by omega) hx (by omega) (fun mw18 h19 h20 => ?_)
              have sg := sg.M h19
              have fg := fg.M h19
              have fr := fr.M h19
              have hx : mTx mw18 n K A V E N q 5 (A q) := by rw [if_pos rfl, if_pos rfl, if_neg (by omega)] at h20; exact h20
              have nz : 5 ≠ (0 : Int) := by first | omega | (unfold x_wr; omega)
              exact lp_209f (by omega) wr0 hl fr fg hx nz (fun m' a1 a2 a3 => hQe rfl m' _ _ _ a1 a2 a3 nz (by first | (exfalso; omega) | (unfold p_ord; rw [p_bd_r (p_want_y (by omega)), if_pos (by omega)])))
            · refine And.intro (fun h21 => ?_) (fun h21 => ?_)
              · exact lp_209 (by omega) wr0 hl fr fg hx sg (by omega) (by omega) (fun m' q' f' p' a1 a2 a3 a4 a5 => hQe rfl m' q' f' p' a1 a2 a3 a4 a5) (fun m' q' g a1 a2 a3 a4 a5 => hQ rfl m' q' g a1 a2 a3 a4 a5)
              · refine And.intro (rfl) ?_
                refine And.intro (fun h22 => ?_) (fun h22 => ?_)
                · exact lp_209 (by omega) wr0 hl fr fg hx sg (by omega) (by omega) (fun m' q' f' p' a1 a2 a3 a4 a5 => hQe rfl m' q' f' p' a1 a2 a3 a4 a5) (fun m' q' g a1 a2 a3 a4 a5 => hQ rfl m' q' g a1 a2 a3 a4 a5)
                · refine And.intro (rfl) ?_
                  refine ct_201 (by omega) hx (by omega) (fun mw23 h24 h25 => ?_)
                  have sg := sg.M h24
                  have fg := fg.M h24
                  have fr := fr.M h24
                  have hx : mTx mw23 n K A V E N q 5 (A q) := by rw [if_pos rfl, if_pos rfl, if_neg (by omega)] at h25; exact h25
                  have nz : 5 ≠ (0 : Int) := by first | omega | (unfold x_wr; omega)
                  exact lp_209f (by omega) wr0 hl fr fg hx nz (fun m' a1 a2 a3 => hQe rfl m' _ _ _ a1 a2 a3 nz (by first | (exfalso; omega) | (unfold p_ord; rw [p_bd_r (p_want_y (by omega)), if_pos (by omega)])))
        · refine And.intro (rfl) ?_
          refine ct_201 (by omega) hx (by omega) (fun mw26 h27 h28 => ?_)
          have sg := sg.M h27
          have fg := fg.M h27
          have fr := fr.M h27
          have hx : mTx mw26 n K A V E N q (x_wr (K q)) (A q) := by unfold x_wr; rw [if_pos rfl, if_pos rfl] at h28; exact h28
          have nz : (x_wr (K q)) ≠ (0 : Int) := by first | omega | (unfold x_wr; omega)
          obtain ⟨fc, fb, fc2, fb2⟩ := id fg
          refine And.intro (fun h29 => ?_) (fun h29 => ?_)
          · refine And.intro (fun h30 => ?_) (fun h30 => ?_)
            · exact lp_209f (by omega) wr0 hl fr fg hx nz (fun m' a1 a2 a3 => hQe rfl m' _ _ _ a1 a2 a3 nz (by first | (exfalso; omega) | (unfold p_ord; rw [p_bd_r (p_want_y (by omega)), if_pos (by omega)])))
            · refine And.intro (rfl) ?_
              refine And.intro (fun h31 => ?_) (fun h31 => ?_)
              · exact lp_209f (by omega) wr0 hl fr fg hx nz (fun m' a1 a2 a3 => hQe rfl m' _ _ _ a1 a2 a3 nz (by first | (exfalso; omega) | (unfold p_ord; rw [p_bd_r (p_want_y (by omega)), if_pos (by omega)])))
              · refine And.intro (rfl) ?_
                refine ct_201 (by omega) hx (by omega) (fun mw32 h33 h34 => ?_)
                have sg := sg.M h33
                have fg := fg.M h33
                have fr := fr.M h33
                have hx : mTx mw32 n K A V E N q (x_wr (K q)) (A q) := by rw [if_neg nz, if_neg nz] at h34; exact h34
                exact lp_209f (by omega) wr0 hl fr fg hx nz (fun m' a1 a2 a3 => hQe rfl m' _ _ _ a1 a2 a3 nz (by first | (exfalso; omega) | (unfold p_ord; rw [p_bd_r (p_want_y (by omega)), if_pos (by omega)])))
          · refine And.intro (rfl) ?_
            refine And.intro (fun h35 => ?_) (fun h35 => ?_)
            · refine And.intro (rfl) ?_
              refine ct_201 (by omega) hx (by omega) (fun mw36 h37 h38 => ?_)
              have sg := sg.M h37
              have fg := fg.M h37
              have fr := fr.M h37
              have hx : mTx mw36 n K A V E N q (x_wr (K q)) (A q) := by rw [if_neg nz, if_neg nz] at h38; exact h38
              exact lp_209f (by omega) wr0 hl fr fg hx nz (fun m' a1 a2 a3 => hQe rfl m' _ _ _ a1 a2 a3 nz (by first | (exfalso; omega) | (unfold p_ord; rw [p_bd_r (p_want_y (by omega)), if_pos (by omega)])))
            · refine And.intro (fun h39 => ?_) (fun h39 => ?_)
              · exact lp_209f (by omega) wr0 hl fr fg hx nz (fun m' a1 a2 a3 => hQe rfl m' _ _ _ a1 a2 a3 nz (by first | (exfalso; omega) | (unfold p_ord; rw [p_bd_r (p_want_y (by omega)), if_pos (by omega)])))
              · refine And.intro (rfl) ?_
                refine And.intro (fun h40 => ?_) (fun h40 => ?_)
                · exact lp_209f (by omega) wr0 hl fr fg hx nz (fun m' a1 a2 a3 => hQe rfl m' _ _ _ a1 a2 a3 nz (by first | (exfalso; omega) | (unfold p_ord; rw [p_bd_r (p_want_y (by omega)), if_pos (by omega)])))
                · refine And.intro (rfl) ?_
                  refine ct_201 (by omega) hx (by omega) (fun mw41 h42 h43 => ?_)
                  have sg := sg.M h42
                  have fg := fg.M h42
                  have fr := fr.M h42
                  have hx : mTx mw41 n K A V E N q (x_wr (K q)) (A q) := by rw [if_neg nz, if_neg nz] at h43; exact h43
                  exact lp_209f (by omega) wr0 hl fr fg hx nz (fun m' a1 a2 a3 => hQe rfl m' _ _ _ a1 a2 a3 nz (by first | (exfalso; omega) | (unfold p_ord; rw [p_bd_r (p_want_y (by omega)), if_pos (by omega)])))
      · have nk := hx.kn (wr0.fr fr).a48 h6
        refine And.intro (fun h => absurd h (by decide)) (fun _ => ?_)
        refine And.intro (rfl) ?_
        refine ct_201 (by omega) hx (by omega) (fun mw44 h45 h46 => ?_)
        have sg := sg.M h45
        have fg := fg.M h45
        have fr := fr.M h45
        have hx : mTx mw44 n K A V E N q (x_wr (K q)) (A q) := by unfold x_wr; rw [if_pos rfl, if_pos rfl] at h46; exact h46
        have nz : (x_wr (K q)) ≠ (0 : Int) := by first | omega | (unfold x_wr; omega)
        obtain ⟨fc, fb, fc2, fb2⟩ := id fg
        refine And.intro (fun _ => ?_) (fun h => absurd h (by decide))
        refine And.intro (fun _ => ?_) (fun h => absurd h (by decide))
        exact lp_209f (by omega) wr0 hl fr fg hx nz (fun m' a1 a2 a3 => hQe rfl m' _ _ _ a1 a2 a3 nz (by unfold p_ord; exact p_bd_l (p_want_n (fun z => nk (K q - 25) (by omega) (by omega) (by omega)))))
  · have nz := f0
    refine am_in rfl hd (fun d hd => ?_)
    refine am_go 400 [66] (am_wpc_cm _ _ _) wf_209 ?_
    have hx0 := hx
    refine And.intro (rfl) ?_
    refine And.intro (fun h1 => ?_) (fun h1 => ?_)
    · refine And.intro (fun h => absurd h (by decide)) (fun _ => ?_)
      refine And.intro (rfl) ?_
      refine ct_201 (by omega) hx (by omega) (fun mw2 h3 h4 => ?_)
      have fg := fg.M h3
      have fr := fr.M h3
      have hx : mTx mw2 n K A V E N q f p := by rw [if_neg nz, if_neg nz] at h4; exact h4
      obtain ⟨fc, fb, fc2, fb2⟩ := id fg
      refine And.intro (fun _ => ?_) (fun h => absurd h (by decide))
      refine And.intro (fun _ => ?_) (fun h => absurd h (by decide))
      exact lp_209f (by omega) wr0 hl fr fg hx nz (fun m' a1 a2 a3 => hQf nz m' a1 a2 a3)
    · refine And.intro (rfl) ?_
      refine And.intro (rfl) ?_
      refine ct_200 (by omega) ⟨(wr0.fr fr).a48.1.1, by have := (wr0.fr fr).a48.1.2; omega⟩ (by omega) (fun k5 h6 h7 h8 h9 => ?_) (fun h6 => ?_)
      · have bk5 := And.intro h6 h7
        refine And.intro (fun h10 => ?_) (fun h10 => ?_)
        · obtain ⟨fc, fb, fc2, fb2⟩ := id fg
          refine And.intro (fun h11 => ?_) (fun h11 => ?_)
          · refine And.intro (fun h12 => ?_) (fun h12 => ?_)
            · exact lp_209f (by omega) wr0 hl fr fg hx nz (fun m' a1 a2 a3 => hQf nz m' a1 a2 a3)
            · refine And.intro (rfl) ?_
              refine And.intro (fun h13 => ?_) (fun h13 => ?_)
              · exact lp_209f (by omega) wr0 hl fr fg hx nz (fun m' a1 a2 a3 => hQf nz m' a1 a2 a3)
              · refine And.intro (rfl) ?_
                refine ct_201 (by omega) hx (by omega) (fun mw14 h15 h16 => ?_)
                have fg := fg.M h15
                have fr := fr.M h15
                have hx : mTx mw14 n K A V E N q f p := by rw [if_neg nz, if_neg nz] at h16; exact h16
                exact lp_209f (by omega) wr0 hl fr fg hx nz (fun m' a1 a2 a3 => hQf nz m' a1 a2 a3)
          · refine And.intro (rfl) ?_
            refine And.intro (fun h17 => ?_) (fun h17 => ?_)
            · refine And.intro (rfl) ?_
              refine ct_201 (by omega) hx (by omega) (fun mw18 h19 h20 => ?_)
              have fg := fg.M h19
              have fr := fr.M h19
              have hx : mTx mw18 n K A V E N q f p := by rw [if_neg nz, if_neg nz] at h20; exact h20
              exact lp_209f (by omega) wr0 hl fr fg hx nz (fun m' a1 a2 a3 => hQf nz m' a1 a2 a3)
            · refine And.intro (fun h21 => ?_) (fun h21 => ?_)
              · exact lp_209f (by omega) wr0 hl fr fg hx nz (fun m' a1 a2 a3 => hQf nz m' a1 a2 a3)
              · refine And.intro (rfl) ?_
                refine And.intro (fun h22 => ?_) (fun h22 => ?_)
                · exact lp_209f (by omega) wr0 hl fr fg hx nz (fun m' a1 a2 a3 => hQf nz m' a1 a2 a3)
                · refine And.intro (rfl) ?_
                  refine ct_201 (by omega) hx (by omega) (fun mw23 h24 h25 => ?_)
                  have fg := fg.M h24
                  have fr := fr.M h24
                  have hx : mTx mw23 n K A V E N q f p := by rw [if_neg nz, if_neg nz] at h25; exact h25
                  exact lp_209f (by omega) wr0 hl fr fg hx nz (fun m' a1 a2 a3 => hQf nz m' a1 a2 a3)
        · refine And.intro (rfl) ?_
          refine ct_201 (by omega) hx (by omega) (fun mw26 h27 h28 => ?_)
          have fg := fg.M h27
          have fr := fr.M h27
          have hx : mTx mw26 n K A V E N q f p := by rw [if_neg nz, if_neg nz] at h28; exact h28
          obtain ⟨fc, fb, fc2, fb2⟩ := id fg
          refine And.intro (fun h29 => ?_) (fun h29 => ?_)
          · refine And.intro (fun h30 => ?_) (fun h30 => ?_)
            · exact lp_209f (by omega) wr0 hl fr fg hx nz (fun m' a1 a2 a3 => hQf nz m' a1 a2 a3)
            · refine And.intro (rfl) ?_
              refine And.intro (fun h31 => ?_) (fun h31 => ?_)
              · exact lp_209f (by omega) wr0 hl fr fg hx nz (fun m' a1 a2 a3 => hQf nz m' a1 a2 a3)
              · refine And.intro (rfl) ?_
                refine ct_201 (by omega) hx (by omega) (fun mw32 h33 h34 => ?_)
                have fg := fg.M h33
                have fr := fr.M h33
                have hx : mTx mw32 n K A V E N q f p := by rw [if_neg nz, if_neg nz] at h34; exact h34
                exact lp_209f (by omega) wr0 hl fr fg hx nz (fun m' a1 a2 a3 => hQf nz m' a1 a2 a3)
          · refine And.intro (rfl) ?_
            refine And.intro (fun h35 => ?_) (fun h35 => ?_)
            · refine And.intro (rfl) ?_
              refine ct_201 (by omega) hx (by omega) (fun mw36 h37 h38 => ?_)
              have fg := fg.M h37
              have fr := fr.M h37
              have hx : mTx mw36 n K A V E N q f p := by rw [if_neg nz, if_neg nz] at h38; exact h38
              exact lp_209f (by omega) wr0 hl fr fg hx nz (fun m' a1 a2 a3 => hQf nz m' a1 a2 a3)
            · refine And.intro (fun h39 => ?_) (fun h39 => ?_)
              · exact lp_209f (by omega) wr0 hl fr fg hx nz (fun m' a1 a2 a3 => hQf nz m' a1 a2 a3)
              · refine And.intro (rfl) ?_
                refine And.intro (fun h40 => ?_) (fun h40 => ?_)
                · exact lp_209f (by omega) wr0 hl fr fg hx nz (fun m' a1 a2 a3 => hQf nz m' a1 a2 a3)
                · refine And.intro (rfl) ?_
                  refine ct_201 (by omega) hx (by omega) (fun mw41 h42 h43 => ?_)
                  have fg := fg.M h42
                  have fr := fr.M h42
                  have hx : mTx mw41 n K A V E N q f p := by rw [if_neg nz, if_neg nz] at h43; exact h43
                  exact lp_209f (by omega) wr0 hl fr fg hx nz (fun m' a1 a2 a3 => hQf nz m' a1 a2 a3)
      · refine And.intro (fun h => absurd h (by decide)) (fun _ => ?_)
        refine And.intro (rfl) ?_
        refine ct_201 (by omega) hx (by omega) (fun mw44 h45 h46 => ?_)
        have fg := fg.M h45
        have fr := fr.M h45
        have hx : mTx mw44 n K A V E N q f p := by rw [if_neg nz, if_neg nz] at h46; exact h46
        obtain ⟨fc, fb, fc2, fb2⟩ := id fg
        refine And.intro (fun _ => ?_) (fun h => absurd h (by decide))
        refine And.intro (fun _ => ?_) (fun h => absurd h (by decide))
        exact lp_209f (by omega) wr0 hl fr fg hx nz (fun m' a1 a2 a3 => hQf nz m' a1 a2 a3)
