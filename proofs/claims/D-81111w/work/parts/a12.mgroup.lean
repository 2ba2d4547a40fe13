/-! needs: a11 -/
/-! CONTRACTS: groups, ordinaries, parts of the reference; by tools/gena12.py -/
set_option maxRecDepth 100000
theorem mWr.a48b {m : aM} (h : mWr m) : mAr m 48 0 4 (fun k => 25 + k) := ⟨⟨h.2.2.2.2.1.1, by have := h.2.2.2.2.1.2; omega⟩, by omega, fun k a b => ⟨h.1.2.2.2.1 k a (by omega), by dsimp only; omega, by dsimp only; omega⟩, fun k a b => by omega, fun i j _ _ _ _ e => by dsimp only at e; omega⟩
theorem mTx.ky {m : aM} {n : Int} {K A V E : Int → Int} {N q p a l c k : Int} {W : Int → Int} (hx : mTx m n K A V E N q 0 p) (hA : mAr m a l c W) (hk : m 41 13 = 1) (k0 : 0 ≤ k) (k1 : k < c) (e : m a k = m 41 15) (nz : m 41 15 ≠ 0) : K q = W k ∧ l ≤ k := by
  obtain ⟨a1, a2, a3, a4, a5⟩ := hA
  have kl : l ≤ k := by
    by_cases z : l ≤ k
    · exact z
    · have := a4 k k0 (by omega); omega
  have z5 := a3 k kl k1
  exact ⟨((hx.2.2.2.2.2.2.1 rfl).2.2.1.2.2.2.2.1 _ z5.2.1 z5.2.2).mpr ⟨hk, by omega⟩, kl⟩
theorem mTx.kn {m : aM} {n : Int} {K A V E : Int → Int} {N q p a l c : Int} {W : Int → Int} (hx : mTx m n K A V E N q 0 p) (hA : mAr m a l c W) (h : ∀ k, 0 ≤ k → k < c → ¬ (m a k = m 41 15 ∧ m 41 15 ≠ 0)) : ∀ k, l ≤ k → k < c → K q ≠ W k := fun k z2 z3 z4 => by
  obtain ⟨a1, a2, a3, a4, a5⟩ := hA
  have z5 := a3 k z2 z3
  have z6 := ((hx.2.2.2.2.2.2.1 rfl).2.2.1.2.2.2.2.1 _ z5.2.1 z5.2.2).mp z4
  have z8 := s_cd_ne z5.2
  exact h k (by omega) z3 ⟨by omega, by omega⟩
theorem mTx.k1 {m : aM} {n : Int} {K A V E : Int → Int} {N q p : Int} (hx : mTx m n K A V E N q 0 p) (h : m 41 13 ≠ 1) {w : Int} (a : 0 ≤ w) (b : w < 67) : K q ≠ w := fun z => h (((hx.2.2.2.2.2.2.1 rfl).2.2.1.2.2.2.2.1 w a b).mp z).1
theorem mTx.kk {m : aM} {n : Int} {K A V E : Int → Int} {N q p : Int} (hx : mTx m n K A V E N q 0 p) (a : 0 ≤ K q) (b : K q < 67) : m 41 13 = 1 := (((hx.2.2.2.2.2.2.1 rfl).2.2.1.2.2.2.2.1 (K q) a b).mp rfl).1
theorem mTx.k2 {m : aM} {n : Int} {K A V E : Int → Int} {N q p : Int} (hx : mTx m n K A V E N q 0 p) : (K q = 70 ↔ m 41 13 = 2) ∧ (K q = 70 → m 41 15 = V q) ∧ (K q = 71 ↔ m 41 13 = 0) ∧ (K q = 72 ↔ m 41 13 = 4) := by
  have h := (hx.2.2.2.2.2.2.1 rfl).2.2.1
  exact ⟨h.2.2.1, h.2.2.2.1, h.2.1, h.1⟩
theorem mTx.kw {m : aM} {n : Int} {K A V E : Int → Int} {N q p : Int} (hx : mTx m n K A V E N q 0 p) : m 41 13 = 1 → K q = 73 ∨ (0 ≤ K q ∧ K q < 67) := (hx.2.2.2.2.2.2.1 rfl).2.2.1.2.2.2.2.2.2.1
theorem mTx.s {m : aM} {n : Int} {K A V E : Int → Int} {N q f p i v : Int} (h : mTx m n K A V E N q f p) (hi : 18 < i) : mTx (mS m 41 i v) n K A V E N q f p := by
  have e : ∀ j, j ≤ 18 → mS m 41 i v 41 j = m 41 j := fun j x => by rw [mS_iff, if_neg (by omega)]
  unfold mTx
  rw [e 3 (by omega), e 16 (by omega), e 17 (by omega), e 13 (by omega), e 15 (by omega), e 14 (by omega), e 12 (by omega), e 18 (by omega)]
  exact h
theorem fr_Y.s {a b i v : Int} {x y : aM} (h : fr_Y a b x y) (hi : 12 ≤ i ∧ i ≤ 20) : fr_Y a b x (mS y 41 i v) := fun r j u w => by rw [mS_iff, if_neg (by omega)]; exact h r j u w
theorem mSg.s {m : aM} {a s i v : Int} {u : Int → Int} (h : mSg m a s u) : mSg (mS m 41 i v) a s u := h
theorem mFg.s19 {m : aM} {c b v : Int} (h : mFg m c b) (hv : v = 0 ∨ v = 1) : mFg (mS m 41 19 v) v b := ⟨rfl, h.2.1, hv, h.2.2.2⟩
theorem mFg.s20 {m : aM} {c b v : Int} (h : mFg m c b) (hv : v = 0 ∨ v = 1) : mFg (mS m 41 20 v) c v := ⟨h.1, rfl, h.2.2.1, hv⟩
theorem ct_184 {d : Nat} {m : aM} {Q : aO → aM → Prop} {l j v : Int} (hd : 1 ≤ d) (hl : 0 ≤ l ∧ l ≤ 5) (hj : 0 ≤ j ∧ j ≤ 9) (hQ : ∀ m', m' = mS m 42 (3306 + 10 * l + j) v → Q (.inl none) m') : am_wpc am_G am_T d 184 [aR 41, aI 50, aI l, aI j, aI v] m Q := by
  refine am_in rfl hd (fun d hd => ?_)
  refine am_go 400 [] (am_wpc_cm _ _ _) wf_184 ?_
  refine And.intro (rfl) ?_
  refine And.intro (show -2147483648 ≤ 66 * 50 ∧ 66 * 50 ≤ 2147483647 by first | omega | (simp only [mS_iff, eq_self, Int.reduceEq, true_and, and_true, false_and, and_false, and_self, ↓reduceIte]; omega) | (simp only [mS_iff, eq_self, Int.reduceEq, true_and, and_true, false_and, and_false, and_self, ↓reduceIte] at *; omega)) ?_
  refine And.intro (show -2147483648 ≤ 3300 + 6 ∧ 3300 + 6 ≤ 2147483647 by first | omega | (simp only [mS_iff, eq_self, Int.reduceEq, true_and, and_true, false_and, and_false, and_self, ↓reduceIte]; omega) | (simp only [mS_iff, eq_self, Int.reduceEq, true_and, and_true, false_and, and_false, and_self, ↓reduceIte] at *; omega)) ?_
  refine And.intro (show -2147483648 ≤ 10 * l ∧ 10 * l ≤ 2147483647 by first | omega | (simp only [mS_iff, eq_self, Int.reduceEq, true_and, and_true, false_and, and_false, and_self, ↓reduceIte]; omega) | (simp only [mS_iff, eq_self, Int.reduceEq, true_and, and_true, false_and, and_false, and_self, ↓reduceIte] at *; omega)) ?_
  refine And.intro (show -2147483648 ≤ 3306 + (10 * l) ∧ 3306 + (10 * l) ≤ 2147483647 by first | omega | (simp only [mS_iff, eq_self, Int.reduceEq, true_and, and_true, false_and, and_false, and_self, ↓reduceIte]; omega) | (simp only [mS_iff, eq_self, Int.reduceEq, true_and, and_true, false_and, and_false, and_self, ↓reduceIte] at *; omega)) ?_
  refine And.intro (show -2147483648 ≤ (3306 + (10 * l)) + j ∧ (3306 + (10 * l)) + j ≤ 2147483647 by first | omega | (simp only [mS_iff, eq_self, Int.reduceEq, true_and, and_true, false_and, and_false, and_self, ↓reduceIte]; omega) | (simp only [mS_iff, eq_self, Int.reduceEq, true_and, and_true, false_and, and_false, and_self, ↓reduceIte] at *; omega)) ?_
  refine And.intro (⟨rfl, by first | omega | (simp only [mS_iff, eq_self, Int.reduceEq, true_and, and_true, false_and, and_false, and_self, ↓reduceIte]; omega) | (simp only [mS_iff, eq_self, Int.reduceEq, true_and, and_true, false_and, and_false, and_self, ↓reduceIte] at *; omega)⟩) ?_
  exact hQ _ (by rw [show (66 * 50 + 6 + 10 * l + j : Int) = 3306 + 10 * l + j by omega])
theorem ct_211 {d : Nat} {m : aM} {Q : aO → aM → Prop} {n : Int} {K A V E : Int → Int} {N q f p l c b : Int} {u : Int → Int} (hd : 5 ≤ d) (hx : mTx m n K A V E N q f p) (wr0 : mWr m) (hl : 0 ≤ l ∧ l ≤ 5) (sg : mSg m (3306 + 10 * l) 10 u) (fg : mFg m c b) {nb : Int} (hQf : f ≠ 0 → ∀ m', fr_Y (3306 + 10 * l) (3316 + 10 * l) m m' → mTx m' n K A V E N q f p → mFg m' c b → Q (.inl none) m') (hQe : f = 0 → ∀ m' q' f' p', fr_Y (3306 + 10 * l) (3316 + 10 * l) m m' → mTx m' n K A V E N q' f' p' → mFg m' c b → f' ≠ 0 → p_th K A nb q = .inl (f', p') → Q (.inl none) m') (hQ : f = 0 → ∀ m' q' g, fr_Y (3306 + 10 * l) (3316 + 10 * l) m m' → mTx m' n K A V E N q' 0 p → mFg m' c b → p_th K A nb q = .inr (q', g) → mSg m' (3306 + 10 * l) 10 (p_up (p_up (p_up (p_up u 5 (g 5)) 6 (g 6)) 7 (g 7)) 8 (g 8)) → Q (.inl none) m') : am_wpc am_G am_T d 211 [aR 41, aI l, aI nb] m Q := by
  have fr := fr_Y.rfl (3306 + 10 * l) (3316 + 10 * l) m
  by_cases f0 : f = 0
  · subst f0
    refine am_in rfl hd (fun d hd => ?_)
    refine am_go 400 [] (am_wpc_cm _ _ _) wf_211 ?_
    refine And.intro (rfl) ?_
    refine And.intro (rfl) ?_
    refine ct_204 (by omega) hx (wr0.fr fr).a46 (fun h => absurd rfl h) (fun _ k4 h5 h6 h7 mw1 hm hy => ?_) (fun _ h8 mw2 hm hy => ?_)
    · have ek4 := h7
      have bk4 := And.intro h5 h6
      have sg := sg.M hm
      have fg := fg.M hm
      have fr := fr.M hm
      have hx := hy
      refine ct_212 (by omega) (fun v9 h10 => ?_)
      refine And.intro (rfl) ?_
      refine And.intro (rfl) ?_
      refine ct_213 (by omega) hx (wr0.fr fr).a47 (fun _ k11 h12 h13 h14 => ?_) (fun h12 => ?_)
      · have ek11 := h14
        have bk11 := And.intro h12 h13
        refine And.intro (fun h => absurd h (by decide)) (fun _ => ?_)
        refine And.intro (rfl) ?_
        refine And.intro (rfl) ?_
        refine ct_200 (by omega) ⟨(wr0.fr fr).a47.1.1, by have := (wr0.fr fr).a47.1.2; omega⟩ (by omega) (fun k15 h16 h17 h18 h19 => ?_) (fun h16 => absurd ek11 (hx.kn (wr0.fr fr).a47 h16 _ bk11.1 bk11.2))
        have ek15 := hx.ky (wr0.fr fr).a47 (by first | omega | exact hx.kk (by omega) (by omega)) h16 h17 h18 h19
        have bk15 := And.intro h16 h17
        refine ct_214 (by omega) (by omega) (by omega) (fun h20 => ?_) (fun h20 => ?_)
        · refine And.intro (fun _ => ?_) (fun h => absurd h (by decide))
          refine And.intro (rfl) ?_
          refine ct_199 (by omega) hx (fun _ => by first | omega | (have := hx.2.2.2.2.2.2.1 rfl; have := this.2.2.1; have := this.1; have := this.2.1; omega)) (fun h => absurd rfl h) (fun _ mw21 h22 h23 => ?_)
          have sg := sg.M h22
          have fg := fg.M h22
          have fr := fr.M h22
          have hx := h23
          refine And.intro (rfl) ?_
          refine ct_184 (by omega) (by omega) (by omega) (fun mw24 h25 => ?_)
          have sg := sg.p (j := 5) (v := nb) (i := 3306 + 10 * l + 5) (by omega) (by omega)
          have fg := fg.p (i := 3306 + 10 * l + 5) (v := nb)
          have fr := fr.p (i := 3306 + 10 * l + 5) (v := nb) (by omega)
          have hx := hx.p42 (i := 3306 + 10 * l + 5) (v := nb)
          rw [← h25] at hx fr sg fg
          refine And.intro (rfl) ?_
          refine ct_184 (by omega) (by omega) (by omega) (fun mw26 h27 => ?_)
          have sg := sg.p (j := 6) (v := k4) (i := 3306 + 10 * l + 6) (by omega) (by omega)
          have fg := fg.p (i := 3306 + 10 * l + 6) (v := k4)
          have fr := fr.p (i := 3306 + 10 * l + 6) (v := k4) (by omega)
          have hx := hx.p42 (i := 3306 + 10 * l + 6) (v := k4)
          rw [← h27] at hx fr sg fg
          refine And.intro (rfl) ?_
          refine ct_184 (by omega) (by omega) (by omega) (fun mw28 h29 => ?_)
          have sg := sg.p (j := 7) (v := k15) (i := 3306 + 10 * l + 7) (by omega) (by omega)
          have fg := fg.p (i := 3306 + 10 * l + 7) (v := k15)
          have fr := fr.p (i := 3306 + 10 * l + 7) (v := k15) (by omega)
          have hx := hx.p42 (i := 3306 + 10 * l + 7) (v := k15)
          rw [← h29] at hx fr sg fg
          refine And.intro (rfl) ?_
          refine And.intro (rfl) ?_
          refine ct_204 (by omega) hx (wr0.fr fr).a45 (fun h => absurd rfl h) (fun _ k33 h34 h35 h36 mw30 hm hy => ?_) (fun _ h37 mw31 hm hy => ?_)
          · have ek33 := h36
            have bk33 := And.intro h34 h35
            have sg := sg.M hm
            have fg := fg.M hm
            have fr := fr.M hm
            have hx := hy
            refine And.intro (rfl) ?_
            refine ct_184 (by omega) (by omega) (by omega) (fun mw38 h39 => ?_)
            have sg := sg.p (j := 8) (v := k33) (i := 3306 + 10 * l + 8) (by omega) (by omega)
            have fg := fg.p (i := 3306 + 10 * l + 8) (v := k33)
            have fr := fr.p (i := 3306 + 10 * l + 8) (v := k33) (by omega)
            have hx := hx.p42 (i := 3306 + 10 * l + 8) (v := k33)
            rw [← h39] at hx fr sg fg
            refine hQ rfl _ _ (fun k => if k = 5 then nb else if k = 6 then k4 else if k = 7 then k15 else k33) fr hx fg ?_ (by simpa using sg)
            unfold p_th
            rw [p_bd_r (p_want_y (by omega))]
            have ew : (1 : Int) + (K (q + 1) - 21) = k15 := by omega
            have et : K q - 9 = k4 := by omega
            rw [p_bd_r (p_att_y (by omega) (by rw [ew, et]; exact h20)), ew, et]
            rw [p_bd_r (p_want_y (by omega))]
            rw [show K ((q + 1) + 1) - 0 = k33 by omega]
          · have nk := h37
            have sg := sg.M hm
            have fg := fg.M hm
            have fr := fr.M hm
            have hx := hy
            have nz : x_wr (K ((q + 1) + 1)) ≠ 0 := by unfold x_wr; omega
            refine And.intro (rfl) ?_
            refine ct_184 (by omega) (by omega) (by omega) (fun mw40 h41 => ?_)
            have sg := sg.p (j := 8) (v := (-1)) (i := 3306 + 10 * l + 8) (by omega) (by omega)
            have fg := fg.p (i := 3306 + 10 * l + 8) (v := (-1))
            have fr := fr.p (i := 3306 + 10 * l + 8) (v := (-1)) (by omega)
            have hx := hx.p42 (i := 3306 + 10 * l + 8) (v := (-1))
            rw [← h41] at hx fr sg fg
            refine hQe rfl _ _ _ _ fr hx fg nz ?_
            unfold p_th
            rw [p_bd_r (p_want_y (by omega))]
            have ew : (1 : Int) + (K (q + 1) - 21) = k15 := by omega
            have et : K q - 9 = k4 := by omega
            rw [p_bd_r (p_att_y (by omega) (by rw [ew, et]; exact h20)), ew, et]
            exact p_bd_l (p_want_n (fun z => nk (K ((q + 1) + 1) - 0) (by omega) (by omega) (by omega)))
        · refine And.intro (fun h => absurd h (by decide)) (fun _ => ?_)
          refine And.intro (rfl) ?_
          refine ct_201 (by omega) hx (by omega) (fun mw42 h43 h44 => ?_)
          have sg := sg.M h43
          have fg := fg.M h43
          have fr := fr.M h43
          have hx : mTx mw42 n K A V E N (q + 1) 4 (A (q + 1)) := by rw [if_pos rfl, if_pos rfl, if_neg (by omega)] at h44; exact h44
          have nz : 4 ≠ (0 : Int) := by first | omega | (unfold x_wr; omega)
          refine And.intro (rfl) ?_
          refine ct_199 (by omega) hx (fun h => absurd h nz) (fun _ => ?_) (fun h => absurd h nz)
          refine And.intro (rfl) ?_
          refine ct_184 (by omega) (by omega) (by omega) (fun mw45 h46 => ?_)
          have sg := sg.p (j := 5) (v := nb) (i := 3306 + 10 * l + 5) (by omega) (by omega)
          have fg := fg.p (i := 3306 + 10 * l + 5) (v := nb)
          have fr := fr.p (i := 3306 + 10 * l + 5) (v := nb) (by omega)
          have hx := hx.p42 (i := 3306 + 10 * l + 5) (v := nb)
          rw [← h46] at hx fr sg fg
          refine And.intro (rfl) ?_
          refine ct_184 (by omega) (by omega) (by omega) (fun mw47 h48 => ?_)
          have sg := sg.p (j := 6) (v := k4) (i := 3306 + 10 * l + 6) (by omega) (by omega)
          have fg := fg.p (i := 3306 + 10 * l + 6) (v := k4)
          have fr := fr.p (i := 3306 + 10 * l + 6) (v := k4) (by omega)
          have hx := hx.p42 (i := 3306 + 10 * l + 6) (v := k4)
          rw [← h48] at hx fr sg fg
          refine And.intro (rfl) ?_
          refine ct_184 (by omega) (by omega) (by omega) (fun mw49 h50 => ?_)
          have sg := sg.p (j := 7) (v := k15) (i := 3306 + 10 * l + 7) (by omega) (by omega)
          have fg := fg.p (i := 3306 + 10 * l + 7) (v := k15)
          have fr := fr.p (i := 3306 + 10 * l + 7) (v := k15) (by omega)
          have hx := hx.p42 (i := 3306 + 10 * l + 7) (v := k15)
          rw [← h50] at hx fr sg fg
          refine And.intro (rfl) ?_
          refine And.intro (rfl) ?_
          refine ct_204 (by omega) hx (wr0.fr fr).a45 (fun _ k54 mw53 hm hy => ?_) (fun h => absurd h nz) (fun h => absurd h nz)
          have sg := sg.M hm
          have fg := fg.M hm
          have fr := fr.M hm
          have hx := hy
          refine And.intro (rfl) ?_
          refine ct_184 (by omega) (by omega) (by omega) (fun mw59 h60 => ?_)
          have sg := sg.p (j := 8) (v := k54) (i := 3306 + 10 * l + 8) (by omega) (by omega)
          have fg := fg.p (i := 3306 + 10 * l + 8) (v := k54)
          have fr := fr.p (i := 3306 + 10 * l + 8) (v := k54) (by omega)
          have hx := hx.p42 (i := 3306 + 10 * l + 8) (v := k54)
          rw [← h60] at hx fr sg fg
          refine hQe rfl _ _ _ _ fr hx fg nz ?_
          unfold p_th
          rw [p_bd_r (p_want_y (by omega))]
          have ew : (1 : Int) + (K (q + 1) - 21) = k15 := by omega
          have et : K q - 9 = k4 := by omega
          exact p_bd_l (p_att_e (by omega) (by rw [ew, et]; exact h20))
      · have na : ∀ k, _ → _ → K (q + 1) ≠ _ := fun k a b c => h12 ⟨rfl, k, a, b, c⟩
        refine And.intro (fun _ => ?_) (fun h => absurd h (by decide))
        refine And.intro (rfl) ?_
        refine ct_184 (by omega) (by omega) (by omega) (fun mw61 h62 => ?_)
        have sg := sg.p (j := 5) (v := nb) (i := 3306 + 10 * l + 5) (by omega) (by omega)
        have fg := fg.p (i := 3306 + 10 * l + 5) (v := nb)
        have fr := fr.p (i := 3306 + 10 * l + 5) (v := nb) (by omega)
        have hx := hx.p42 (i := 3306 + 10 * l + 5) (v := nb)
        rw [← h62] at hx fr sg fg
        refine And.intro (rfl) ?_
        refine ct_184 (by omega) (by omega) (by omega) (fun mw63 h64 => ?_)
        have sg := sg.p (j := 6) (v := k4) (i := 3306 + 10 * l + 6) (by omega) (by omega)
        have fg := fg.p (i := 3306 + 10 * l + 6) (v := k4)
        have fr := fr.p (i := 3306 + 10 * l + 6) (v := k4) (by omega)
        have hx := hx.p42 (i := 3306 + 10 * l + 6) (v := k4)
        rw [← h64] at hx fr sg fg
        refine And.intro (rfl) ?_
        refine ct_184 (by omega) (by omega) (by omega) (fun mw65 h66 => ?_)
        have sg := sg.p (j := 7) (v := v9) (i := 3306 + 10 * l + 7) (by omega) (by omega)
        have fg := fg.p (i := 3306 + 10 * l + 7) (v := v9)
        have fr := fr.p (i := 3306 + 10 * l + 7) (v := v9) (by omega)
        have hx := hx.p42 (i := 3306 + 10 * l + 7) (v := v9)
        rw [← h66] at hx fr sg fg
        refine And.intro (rfl) ?_
        refine And.intro (rfl) ?_
        refine ct_204 (by omega) hx (wr0.fr fr).a45 (fun h => absurd rfl h) (fun _ k70 h71 h72 h73 mw67 hm hy => ?_) (fun _ h74 mw68 hm hy => ?_)
        · have ek70 := h73
          have bk70 := And.intro h71 h72
          have sg := sg.M hm
          have fg := fg.M hm
          have fr := fr.M hm
          have hx := hy
          refine And.intro (rfl) ?_
          refine ct_184 (by omega) (by omega) (by omega) (fun mw75 h76 => ?_)
          have sg := sg.p (j := 8) (v := k70) (i := 3306 + 10 * l + 8) (by omega) (by omega)
          have fg := fg.p (i := 3306 + 10 * l + 8) (v := k70)
          have fr := fr.p (i := 3306 + 10 * l + 8) (v := k70) (by omega)
          have hx := hx.p42 (i := 3306 + 10 * l + 8) (v := k70)
          rw [← h76] at hx fr sg fg
          refine hQ rfl _ _ (fun k => if k = 5 then nb else if k = 6 then k4 else if k = 7 then v9 else k70) fr hx fg ?_ (by simpa using sg)
          unfold p_th
          rw [p_bd_r (p_want_y (by omega))]
          rw [p_bd_r (p_att_n (fun z => na (K (q + 1) - 20) (by omega) (by omega) (by omega))), show K q - 9 = k4 by omega, ← h10]
          rw [p_bd_r (p_want_y (by omega))]
          rw [show K (q + 1) - 0 = k70 by omega]
        · have nk := h74
          have sg := sg.M hm
          have fg := fg.M hm
          have fr := fr.M hm
          have hx := hy
          have nz : x_wr (K (q + 1)) ≠ 0 := by unfold x_wr; omega
          refine And.intro (rfl) ?_
          refine ct_184 (by omega) (by omega) (by omega) (fun mw77 h78 => ?_)
          have sg := sg.p (j := 8) (v := (-1)) (i := 3306 + 10 * l + 8) (by omega) (by omega)
          have fg := fg.p (i := 3306 + 10 * l + 8) (v := (-1))
          have fr := fr.p (i := 3306 + 10 * l + 8) (v := (-1)) (by omega)
          have hx := hx.p42 (i := 3306 + 10 * l + 8) (v := (-1))
          rw [← h78] at hx fr sg fg
          refine hQe rfl _ _ _ _ fr hx fg nz ?_
          unfold p_th
          rw [p_bd_r (p_want_y (by omega))]
          rw [p_bd_r (p_att_n (fun z => na (K (q + 1) - 20) (by omega) (by omega) (by omega))), show K q - 9 = k4 by omega, ← h10]
          exact p_bd_l (p_want_n (fun z => nk (K (q + 1) - 0) (by omega) (by omega) (by omega)))
    · have nk := h8
      have sg := sg.M hm
      have fg := fg.M hm
      have fr := fr.M hm
      have hx := hy
      have nz : x_wr (K q) ≠ 0 := by unfold x_wr; omega
      refine ct_212 (by omega) (fun v79 h80 => ?_)
      refine And.intro (rfl) ?_
      refine And.intro (rfl) ?_
      refine ct_213 (by omega) hx (wr0.fr fr).a47 (fun h => absurd h nz) (fun _ => ?_)
      refine And.intro (fun _ => ?_) (fun h => absurd h (by decide))
      refine And.intro (rfl) ?_
      refine ct_184 (by omega) (by omega) (by omega) (fun mw85 h86 => ?_)
      have sg := sg.p (j := 5) (v := nb) (i := 3306 + 10 * l + 5) (by omega) (by omega)
      have fg := fg.p (i := 3306 + 10 * l + 5) (v := nb)
      have fr := fr.p (i := 3306 + 10 * l + 5) (v := nb) (by omega)
      have hx := hx.p42 (i := 3306 + 10 * l + 5) (v := nb)
      rw [← h86] at hx fr sg fg
      refine And.intro (rfl) ?_
      refine ct_184 (by omega) (by omega) (by omega) (fun mw87 h88 => ?_)
      have sg := sg.p (j := 6) (v := (-1)) (i := 3306 + 10 * l + 6) (by omega) (by omega)
      have fg := fg.p (i := 3306 + 10 * l + 6) (v := (-1))
      have fr := fr.p (i := 3306 + 10 * l + 6) (v := (-1)) (by omega)
      have hx := hx.p42 (i := 3306 + 10 * l + 6) (v := (-1))
      rw [← h88] at hx fr sg fg
      refine And.intro (rfl) ?_
      refine ct_184 (by omega) (by omega) (by omega) (fun mw89 h90 => ?_)
      have sg := sg.p (j := 7) (v := v79) (i := 3306 + 10 * l + 7) (by omega) (by omega)
      have fg := fg.p (i := 3306 + 10 * l + 7) (v := v79)
      have fr := fr.p (i := 3306 + 10 * l + 7) (v := v79) (by omega)
      have hx := hx.p42 (i := 3306 + 10 * l + 7) (v := v79)
      rw [← h90] at hx fr sg fg
      refine And.intro (rfl) ?_
      refine And.intro (rfl) ?_
      refine ct_204 (by omega) hx (wr0.fr fr).a45 (fun _ k94 mw93 hm hy => ?_) (fun h => absurd h nz) (fun h => absurd h nz)
      have sg := sg.M hm
      have fg := fg.M hm
      have fr := fr.M hm
      have hx := hy
      refine And.intro (rfl) ?_
      refine ct_184 (by omega) (by omega) (by omega) (fun mw99 h100 => ?_)
      have sg := sg.p (j := 8) (v := k94) (i := 3306 + 10 * l + 8) (by omega) (by omega)
      have fg := fg.p (i := 3306 + 10 * l + 8) (v := k94)
      have fr := fr.p (i := 3306 + 10 * l + 8) (v := k94) (by omega)
      have hx := hx.p42 (i := 3306 + 10 * l + 8) (v := k94)
      rw [← h100] at hx fr sg fg
      refine hQe rfl _ _ _ _ fr hx fg nz ?_
      unfold p_th
      exact p_bd_l (p_want_n (fun z => nk (K q - 9) (by omega) (by omega) (by omega)))
  · have nz := f0
    refine am_in rfl hd (fun d hd => ?_)
    refine am_go 400 [] (am_wpc_cm _ _ _) wf_211 ?_
    refine And.intro (rfl) ?_
    refine And.intro (rfl) ?_
    refine ct_204 (by omega) hx (wr0.fr fr).a46 (fun _ k4 mw3 hm hy => ?_) (fun h => absurd h nz) (fun h => absurd h nz)
    have fg := fg.M hm
    have fr := fr.M hm
    have hx := hy
    refine ct_212 (by omega) (fun v9 h10 => ?_)
    refine And.intro (rfl) ?_
    refine And.intro (rfl) ?_
    refine ct_213 (by omega) hx (wr0.fr fr).a47 (fun h => absurd h nz) (fun _ => ?_)
    refine And.intro (fun _ => ?_) (fun h => absurd h (by decide))
    refine And.intro (rfl) ?_
    refine ct_184 (by omega) (by omega) (by omega) (fun mw15 h16 => ?_)
    have fg := fg.p (i := 3306 + 10 * l + 5) (v := nb)
    have fr := fr.p (i := 3306 + 10 * l + 5) (v := nb) (by omega)
    have hx := hx.p42 (i := 3306 + 10 * l + 5) (v := nb)
    rw [← h16] at hx fr fg
    refine And.intro (rfl) ?_
    refine ct_184 (by omega) (by omega) (by omega) (fun mw17 h18 => ?_)
    have fg := fg.p (i := 3306 + 10 * l + 6) (v := k4)
    have fr := fr.p (i := 3306 + 10 * l + 6) (v := k4) (by omega)
    have hx := hx.p42 (i := 3306 + 10 * l + 6) (v := k4)
    rw [← h18] at hx fr fg
    refine And.intro (rfl) ?_
    refine ct_184 (by omega) (by omega) (by omega) (fun mw19 h20 => ?_)
    have fg := fg.p (i := 3306 + 10 * l + 7) (v := v9)
    have fr := fr.p (i := 3306 + 10 * l + 7) (v := v9) (by omega)
    have hx := hx.p42 (i := 3306 + 10 * l + 7) (v := v9)
    rw [← h20] at hx fr fg
    refine And.intro (rfl) ?_
    refine And.intro (rfl) ?_
    refine ct_204 (by omega) hx (wr0.fr fr).a45 (fun _ k24 mw23 hm hy => ?_) (fun h => absurd h nz) (fun h => absurd h nz)
    have fg := fg.M hm
    have fr := fr.M hm
    have hx := hy
    refine And.intro (rfl) ?_
    refine ct_184 (by omega) (by omega) (by omega) (fun mw29 h30 => ?_)
    have fg := fg.p (i := 3306 + 10 * l + 8) (v := k24)
    have fr := fr.p (i := 3306 + 10 * l + 8) (v := k24) (by omega)
    have hx := hx.p42 (i := 3306 + 10 * l + 8) (v := k24)
    rw [← h30] at hx fr fg
    exact hQf nz _ fr hx fg
