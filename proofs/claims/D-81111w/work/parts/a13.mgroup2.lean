/-! needs: a12 -/
/-! CONTRACTS: groups, parts of the reference; by tools/gena13.py -/
set_option maxRecDepth 100000
theorem ct_210 {d : Nat} {m : aM} {Q : aO → aM → Prop} {n : Int} {K A V E : Int → Int} {N q f p l c b : Int} {u : Int → Int} (hd : 6 ≤ d) (hx : mTx m n K A V E N q f p) (wr0 : mWr m) (hl : 0 ≤ l ∧ l ≤ 5) (sg : mSg m (3306 + 10 * l) 10 u) (fg : mFg m c b) {hw : Int} (hQf : f ≠ 0 → ∀ m', fr_Y (3306 + 10 * l) (3316 + 10 * l) m m' → mTx m' n K A V E N q f p → mFg m' c b → Q (.inl none) m') (hQe : f = 0 → ∀ m' q' f' p', fr_Y (3306 + 10 * l) (3316 + 10 * l) m m' → mTx m' n K A V E N q' f' p' → mFg m' c b → f' ≠ 0 → p_grp K A V q = .inl (f', p') → Q (.inl none) m') (hQ : f = 0 → ∀ m' q' g, fr_Y (3306 + 10 * l) (3316 + 10 * l) m m' → mTx m' n K A V E N q' 0 p → mFg m' c b → p_grp K A V q = .inr (q', g) → mSg m' (3306 + 10 * l) 10 (p_up (p_up (p_up (p_up (p_up u 4 hw) 5 (g 5)) 6 (g 6)) 7 (g 7)) 8 (g 8)) → Q (.inl none) m') : am_wpc am_G am_T d 210 [aR 41, aI l, aI hw] m Q := by
  have fr := fr_Y.rfl (3306 + 10 * l) (3316 + 10 * l) m
  by_cases f0 : f = 0
  · subst f0
    refine am_in rfl hd (fun d hd => ?_)
    refine am_go 400 [] (am_wpc_cm _ _ _) wf_210 ?_
    refine And.intro (rfl) ?_
    refine ct_184 (by omega) (by omega) (by omega) (fun mw1 h2 => ?_)
    have sg := sg.p (j := 4) (v := hw) (i := 3306 + 10 * l + 4) (by omega) (by omega)
    have fg := fg.p (i := 3306 + 10 * l + 4) (v := hw)
    have fr := fr.p (i := 3306 + 10 * l + 4) (v := hw) (by omega)
    have hx := hx.p42 (i := 3306 + 10 * l + 4) (v := hw)
    rw [← h2] at hx fr sg fg
    refine And.intro (rfl) ?_
    refine ct_198 (w := 43) (by omega) hx (by omega) (by decide +kernel) (fun _ h3 => ?_) (fun h3 => ?_)
    · refine And.intro (fun h => absurd h (by decide)) (fun _ => ?_)
      refine And.intro (rfl) ?_
      refine ct_199 (by omega) hx (fun _ => by first | omega | (have := hx.2.2.2.2.2.2.1 rfl; have := this.2.2.1; have := this.1; have := this.2.1; omega)) (fun h => absurd rfl h) (fun _ mw4 h5 h6 => ?_)
      have sg := sg.M h5
      have fg := fg.M h5
      have fr := fr.M h5
      have hx := h6
      refine And.intro (rfl) ?_
      refine ct_211 (by omega) hx (wr0.fr fr) hl sg fg (fun h => absurd rfl h) (fun _ mw7 q9 f10 p11 h12 h13 h14 h17 h15 => ?_) (fun _ mw8 q9 g16 h12 h13 h14 h15 h17 => ?_)
      · have fr := fr.trans h12
        have hx := h13
        have nz := h17
        have fg := h14
        refine hQe rfl _ _ _ _ fr hx fg nz ?_
        unfold p_grp
        rw [if_neg (by omega), p_bd_r (p_want_y (by omega))]
        exact h15
      · have fr := fr.trans h12
        have hx := h13
        have fg := h14
        have sg := h17
        refine hQ rfl _ _ g16 fr hx fg ?_ sg
        unfold p_grp
        rw [if_neg (by omega), p_bd_r (p_want_y (by omega))]
        exact h15
    · refine And.intro (fun _ => ?_) (fun h => absurd h (by decide))
      refine And.intro (rfl) ?_
      refine And.intro (fun h => absurd h (by have := (hx.2.2.2.2.2.2.1 rfl).1; omega)) (fun _ => ?_)
      have kn := hx.k2.1
      refine And.intro (rfl) ?_
      refine And.intro (fun h18 => ?_) (fun h18 => ?_)
      · refine And.intro (rfl) ?_
        refine ct_201 (by omega) hx (by omega) (fun mw19 h20 h21 => ?_)
        have sg := sg.M h20
        have fg := fg.M h20
        have fr := fr.M h20
        have hx : mTx mw19 n K A V E N q (x_wr (K q)) (A q) := by unfold x_wr; rw [if_pos rfl, if_pos rfl] at h21; exact h21
        have nz : (x_wr (K q)) ≠ (0 : Int) := by first | omega | (unfold x_wr; omega)
        refine hQe rfl _ _ _ _ fr hx fg nz ?_
        unfold p_grp
        rw [if_neg (by omega)]
        exact p_bd_l (p_want_n (by omega))
      · have kq := hx.k2.1.mpr (by omega)
        have vq := hx.k2.2.1 kq
        refine And.intro (rfl) ?_
        refine am_in rfl (by omega) (fun d hd => ?_)
        refine am_go 400 [] (am_wpc_cm _ _ _) wf_207 ?_
        refine And.intro (rfl) ?_
        refine And.intro (fun h => absurd h (by first | omega | (simp only [mS_iff, eq_self, Int.reduceEq, true_and, and_true, false_and, and_false, and_self, ↓reduceIte]; omega) | (simp only [mS_iff, eq_self, Int.reduceEq, true_and, and_true, false_and, and_false, and_self, ↓reduceIte] at *; omega))) (fun _ => ?_)
        refine And.intro (rfl) ?_
        refine And.intro (fun h22 => ?_) (fun h22 => ?_)
        · replace h22 := am_lc_lt.mp h22
          refine And.intro (rfl) ?_
          refine ct_201 (by omega) hx (by omega) (fun mw23 h24 h25 => ?_)
          have sg := sg.M h24
          have fg := fg.M h24
          have fr := fr.M h24
          have hx : mTx mw23 n K A V E N q 3 (A q) := by rw [if_pos rfl, if_pos rfl, if_neg (by omega)] at h25; exact h25
          have nz : 3 ≠ (0 : Int) := by first | omega | (unfold x_wr; omega)
          refine And.intro (rfl) ?_
          skip
          refine And.intro (rfl) ?_
          refine ct_199 (by omega) hx (fun h => absurd h nz) (fun _ => ?_) (fun h => absurd h nz)
          refine And.intro (rfl) ?_
          refine ct_211 (by omega) hx (wr0.fr fr) hl (fun _ _ _ => Eq.refl _) fg (fun _ mw26 h31 h32 h33 => ?_) (fun h => absurd h nz) (fun h => absurd h nz)
          have fr := fr.trans h31
          have hx := h32
          have fg := h33
          refine hQe rfl _ _ _ _ fr hx fg nz ?_
          unfold p_grp
          rw [if_pos (by omega)]
          exact p_bd_l (by unfold p_num; rw [if_pos (by omega), if_pos (by omega)])
        · replace h22 := am_lc_ge.mp h22
          refine And.intro (rfl) ?_
          refine And.intro (fun h37 => ?_) (fun h37 => ?_)
          · replace h37 := am_lc_le.mp h37
            refine And.intro (rfl) ?_
            have lv : am_l2i (mw1 41 15) = V q := by rw [am_l2i_eq (by omega)]; exact vq
            refine And.intro (rfl) ?_
            refine ct_199 (by omega) hx (fun _ => by first | omega | (have := hx.2.2.2.2.2.2.1 rfl; have := this.2.2.1; have := this.1; have := this.2.1; omega)) (fun h => absurd rfl h) (fun _ mw38 h39 h40 => ?_)
            have sg := sg.M h39
            have fg := fg.M h39
            have fr := fr.M h39
            have hx := h40
            refine And.intro (rfl) ?_
            refine ct_211 (by omega) hx (wr0.fr fr) hl sg fg (fun h => absurd rfl h) (fun _ mw41 q43 f44 p45 h46 h47 h48 h51 h49 => ?_) (fun _ mw42 q43 g50 h46 h47 h48 h49 h51 => ?_)
            · have fr := fr.trans h46
              have hx := h47
              have nz := h51
              have fg := h48
              refine hQe rfl _ _ _ _ fr hx fg nz ?_
              unfold p_grp
              rw [if_pos (by omega)]
              rw [p_bd_r (show p_num K A V 2 0 q = .inr (q + 1, V q) by unfold p_num; rw [if_pos (by omega), if_neg (by omega)]), ← lv]
              exact h49
            · have fr := fr.trans h46
              have hx := h47
              have fg := h48
              have sg := h51
              refine hQ rfl _ _ g50 fr hx fg ?_ sg
              unfold p_grp
              rw [if_pos (by omega)]
              rw [p_bd_r (show p_num K A V 2 0 q = .inr (q + 1, V q) by unfold p_num; rw [if_pos (by omega), if_neg (by omega)]), ← lv]
              exact h49
          · replace h37 := am_lc_gt.mp h37
            refine And.intro (rfl) ?_
            refine ct_201 (by omega) hx (by omega) (fun mw52 h53 h54 => ?_)
            have sg := sg.M h53
            have fg := fg.M h53
            have fr := fr.M h53
            have hx : mTx mw52 n K A V E N q 3 (A q) := by rw [if_pos rfl, if_pos rfl, if_neg (by omega)] at h54; exact h54
            have nz : 3 ≠ (0 : Int) := by first | omega | (unfold x_wr; omega)
            refine And.intro (rfl) ?_
            skip
            refine And.intro (rfl) ?_
            refine ct_199 (by omega) hx (fun h => absurd h nz) (fun _ => ?_) (fun h => absurd h nz)
            refine And.intro (rfl) ?_
            refine ct_211 (by omega) hx (wr0.fr fr) hl (fun _ _ _ => Eq.refl _) fg (fun _ mw55 h60 h61 h62 => ?_) (fun h => absurd h nz) (fun h => absurd h nz)
            have fr := fr.trans h60
            have hx := h61
            have fg := h62
            refine hQe rfl _ _ _ _ fr hx fg nz ?_
            unfold p_grp
            rw [if_pos (by omega)]
            exact p_bd_l (by unfold p_num; rw [if_pos (by omega), if_pos (by omega)])
  · have nz := f0
    refine am_in rfl hd (fun d hd => ?_)
    refine am_go 400 [] (am_wpc_cm _ _ _) wf_210 ?_
    refine And.intro (rfl) ?_
    refine ct_184 (by omega) (by omega) (by omega) (fun mw1 h2 => ?_)
    have fg := fg.p (i := 3306 + 10 * l + 4) (v := hw)
    have fr := fr.p (i := 3306 + 10 * l + 4) (v := hw) (by omega)
    have hx := hx.p42 (i := 3306 + 10 * l + 4) (v := hw)
    rw [← h2] at hx fr fg
    refine And.intro (rfl) ?_
    refine ct_198 (w := 43) (by omega) hx (by omega) (by decide +kernel) (fun h => absurd h nz) (fun _ => ?_)
    refine And.intro (fun _ => ?_) (fun h => absurd h (by decide))
    refine And.intro (rfl) ?_
    refine And.intro (fun _ => ?_) (fun h => absurd h (by have := (hx.2.2.2.2.2.2.2 nz).1; omega))
    refine And.intro (rfl) ?_
    refine ct_201 (by omega) hx (by omega) (fun mw3 h4 h5 => ?_)
    have fg := fg.M h4
    have fr := fr.M h4
    have hx : mTx mw3 n K A V E N q f p := by rw [if_neg nz, if_neg nz] at h5; exact h5
    exact hQf nz _ fr hx fg
theorem ct_215 {d : Nat} {m : aM} {Q : aO → aM → Prop} {n : Int} {K A V E : Int → Int} {N q f p l c b : Int} {u : Int → Int} (hd : 5 ≤ d) (hx : mTx m n K A V E N q f p) (wr0 : mWr m) (hl : 0 ≤ l ∧ l ≤ 5) (sg : mSg m (3306 + 10 * l) 10 u) (fg : mFg m c b) (hQf : f ≠ 0 → ∀ m', fr_Y (3306 + 10 * l) (3316 + 10 * l) m m' → mTx m' n K A V E N q f p → mFg m' c b → Q (.inl none) m') (hQe : f = 0 → ∀ m' q' f' p', fr_Y (3306 + 10 * l) (3316 + 10 * l) m m' → mTx m' n K A V E N q' f' p' → mFg m' c b → f' ≠ 0 → p_part K A q = .inl (f', p') → Q (.inl none) m') (hQ : f = 0 → ∀ m' q' g, fr_Y (3306 + 10 * l) (3316 + 10 * l) m m' → mTx m' n K A V E N q' 0 p → mFg m' c b → p_part K A q = .inr (q', g) → mSg m' (3306 + 10 * l) 10 (p_up u 9 g) → (1 ≤ g ∧ g ≤ 4) → Q (.inl none) m') (hQ0 : f = 0 → ∀ m', fr_Y (3306 + 10 * l) (3316 + 10 * l) m m' → mTx m' n K A V E N q 0 p → mFg m' c b → p_part K A q = .inr (q, 0) → mSg m' (3306 + 10 * l) 10 u → Q (.inl none) m') : am_wpc am_G am_T d 215 [aR 41, aI l] m Q := by
  have fr := fr_Y.rfl (3306 + 10 * l) (3316 + 10 * l) m
  by_cases f0 : f = 0
  · subst f0
    refine am_in rfl hd (fun d hd => ?_)
    refine am_go 400 [] (am_wpc_cm _ _ _) wf_215 ?_
    refine And.intro (rfl) ?_
    refine ct_198 (w := 47) (by omega) hx (by omega) (by decide +kernel) (fun _ h1 => ?_) (fun h1 => ?_)
    · refine And.intro (fun h => absurd h (by decide)) (fun _ => ?_)
      refine And.intro (rfl) ?_
      refine ct_199 (by omega) hx (fun _ => by first | omega | (have := hx.2.2.2.2.2.2.1 rfl; have := this.2.2.1; have := this.1; have := this.2.1; omega)) (fun h => absurd rfl h) (fun _ mw2 h3 h4 => ?_)
      have sg := sg.M h3
      have fg := fg.M h3
      have fr := fr.M h3
      have hx := h4
      refine And.intro (rfl) ?_
      refine And.intro (rfl) ?_
      refine ct_204 (by omega) hx (wr0.fr fr).a49 (fun h => absurd rfl h) (fun _ k8 h9 h10 h11 mw5 hm hy => ?_) (fun _ h12 mw6 hm hy => ?_)
      · have ek8 := h11
        have bk8 := And.intro h9 h10
        have sg := sg.M hm
        have fg := fg.M hm
        have fr := fr.M hm
        have hx := hy
        refine And.intro (rfl) ?_
        refine ct_184 (by omega) (by omega) (by omega) (fun mw13 h14 => ?_)
        have sg := sg.p (j := 9) (v := k8) (i := 3306 + 10 * l + 9) (by omega) (by omega)
        have fg := fg.p (i := 3306 + 10 * l + 9) (v := k8)
        have fr := fr.p (i := 3306 + 10 * l + 9) (v := k8) (by omega)
        have hx := hx.p42 (i := 3306 + 10 * l + 9) (v := k8)
        rw [← h14] at hx fr sg fg
        refine hQ rfl _ _ k8 fr hx fg ?_ sg (by omega)
        unfold p_part
        rw [if_pos (by omega)]
        by_cases z : k8 = 1
        · rw [if_pos z] at ek8
          rw [if_pos (by omega), z, show q + 2 = q + 1 + 1 by omega]
        · rw [if_neg z] at ek8
          rw [if_neg (by omega), p_bd_r (p_want_y (by omega)), show 2 + (K (q + 1) - 48) = k8 by omega]
      · have nk := h12
        have sg := sg.M hm
        have fg := fg.M hm
        have fr := fr.M hm
        have hx := hy
        have nz : x_wr (K (q + 1)) ≠ 0 := by unfold x_wr; omega
        refine And.intro (rfl) ?_
        refine ct_184 (by omega) (by omega) (by omega) (fun mw15 h16 => ?_)
        have sg := sg.p (j := 9) (v := (-1)) (i := 3306 + 10 * l + 9) (by omega) (by omega)
        have fg := fg.p (i := 3306 + 10 * l + 9) (v := (-1))
        have fr := fr.p (i := 3306 + 10 * l + 9) (v := (-1)) (by omega)
        have hx := hx.p42 (i := 3306 + 10 * l + 9) (v := (-1))
        rw [← h16] at hx fr sg fg
        refine hQe rfl _ _ _ _ fr hx fg nz ?_
        have n1 := nk 1 (by omega) (by omega)
        have n2 := nk 2 (by omega) (by omega)
        have n3 := nk 3 (by omega) (by omega)
        have n4 := nk 4 (by omega) (by omega)
        simp at n1 n2 n3 n4
        unfold p_part
        rw [if_pos (by omega), if_neg (by omega), p_bd_l (p_want_n (by omega))]
    · refine And.intro (fun _ => ?_) (fun h => absurd h (by decide))
      refine hQ0 rfl _ fr hx fg ?_ sg
      unfold p_part
      rw [if_neg (by omega)]
  · have nz := f0
    refine am_in rfl hd (fun d hd => ?_)
    refine am_go 400 [] (am_wpc_cm _ _ _) wf_215 ?_
    refine And.intro (rfl) ?_
    refine ct_198 (w := 47) (by omega) hx (by omega) (by decide +kernel) (fun h => absurd h nz) (fun _ => ?_)
    refine And.intro (fun _ => ?_) (fun h => absurd h (by decide))
    exact hQf nz _ fr hx fg
