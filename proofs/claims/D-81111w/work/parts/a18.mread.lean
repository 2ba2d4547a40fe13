/-! needs: a17 -/
/-! CONTRACTS: reading arms, of the reference; by tools/gena18.py -/
set_option maxRecDepth 100000
set_option maxHeartbeats 8000000
section
variable {K A V : Int → Int} {n : Nat} {ls : List (Int → Int)} {c b q : Int}
theorem p_lay_nb (h : ¬ p_beg K q) : p_lay K A V c b q = .inl (x_wr (K q), A q) := by
  unfold p_beg at h
  unfold p_lay p_lay1
  rw [if_neg (by omega), if_neg (by omega), if_neg (by omega), if_neg (by omega)]; rfl
theorem p_ls7 (h : K q = 144) (l : ls.length ≠ 6) : p_lays K A V (n + 1) ls c b q = p_bd (p_lay K A V c b (q + 1)) (fun q l => p_lays K A V n (ls ++ [l]) (if l 1 = 6 then 1 else c) (if l 1 = 7 then 1 else b) q) := by
  by_cases g : p_beg K (q + 1)
  · exact p_ls6 h g l
  · rw [p_ls3 h g, p_bd_l (p_lay_nb g)]
end
/-- what the reference has read -/
def mRd (m : aM) (x : Int → Int) (ls : List (Int → Int)) : Prop := mSg m 3300 5 x ∧ ∀ k : Nat, k < 6 → mSg m (3306 + 10 * (k : Int)) 10 (ls.getD k l_no)
theorem mRd.M {m m' : aM} {x : Int → Int} {ls : List (Int → Int)} (h : mRd m x ls) (g : fr_M m m') : mRd m' x ls := ⟨h.1.M g, fun k hk => (h.2 k hk).M g⟩
theorem mRd.push {m m' : aM} {x l : Int → Int} {ls : List (Int → Int)} {i : Int} (h : mRd m x ls) (f : fr_Y (3306 + 10 * i) (3316 + 10 * i) m m') (hi : i = ls.length) (h6 : ls.length < 6) (g : mSg m' (3306 + 10 * i) 10 l) : mRd m' x (ls ++ [l]) := by
  refine ⟨h.1.Y f (by omega), fun k hk => ?_⟩
  by_cases e : k = ls.length
  · subst e
    rw [List.getD_eq_getElem?_getD, List.getElem?_append_right (by omega)]
    simp only [Nat.sub_self, List.getElem?_cons_zero, Option.getD_some]
    rw [← hi]; exact g
  · have e2 : (ls ++ [l]).getD k l_no = ls.getD k l_no := by
      by_cases z : k < ls.length
      · rw [List.getD_eq_getElem?_getD, List.getElem?_append_left z, ← List.getD_eq_getElem?_getD]
      · rw [List.getD_eq_getElem?_getD, List.getElem?_eq_none (by simp; omega), List.getD_eq_getElem?_getD, List.getElem?_eq_none (by omega)]
    rw [e2]
    exact (h.2 k hk).Y f (by omega)
theorem ct_192 {d : Nat} {m : aM} {Q : aO → aM → Prop} {nn : Int} {K A V E : Int → Int} {N p : Int} {n0 : Nat} (hd : 8 ≤ d) (hn : m 41 3 = nn ∧ 0 ≤ nn ∧ nn ≤ 1200) (hb : ∀ k, 0 ≤ k → k < nn → 0 ≤ m 43 k ∧ m 43 k ≤ 255) (hlx : x_lx (m 43) nn K A V E N) (hn0 : N ≤ (n0 : Int)) (wr0 : mWr m) (hQe0 : ∀ m' q' f' p', fr_Y 3300 3366 m m' → mTx m' nn K A V E N q' f' p' → f' ≠ 0 → p_read K A V n0 = .inl (f', p') → Q (.inl none) m') (hQ0 : ∀ m' q' x w ls p', fr_Y 3300 3366 m m' → mTx m' nn K A V E N q' 0 p' → p_read K A V n0 = .inr (q', (w, ls)) → p_raw x w → ls.length ≤ 6 → mRd m' x ls → m' 42 3305 = ls.length → Q (.inl none) m') : am_wpc am_G am_T d 192 [aR 41] m Q := by
  obtain ⟨RES0, eRES0⟩ : ∃ z, z = p_read K A V n0 := ⟨_, rfl⟩
  rw [← eRES0] at hQe0 hQ0
  refine am_in rfl hd (fun d hd => ?_)
  have LP : ∀ (q0 : Int) (x w : Int → Int) (m1 : aM), mTx m1 nn K A V E N q0 0 p → p_field K A V 0 = .inr (q0, w) → p_raw x w → mRd m1 x [] → mFg m1 0 0 → fr_Y 3300 3366 m m1 → am_WP am_G (am_wpc am_G am_T d) [] cd_192 Q 26 [aR 41, aI 0] [] m1 := by
    intro q0 x w m1 hx eF hraw rd0 fg fr
    obtain ⟨RES, eRES⟩ : ∃ z, z = p_lays K A V n0 [] 0 0 q0 := ⟨_, rfl⟩
    have eq1 : p_read K A V n0 = p_bd RES (fun q ls => .inr (q, (w, ls))) := by unfold p_read; rw [p_bd_r eF, eRES]
    have hQ : ∀ m' q' ls p', fr_Y 3300 3366 m m' → mTx m' nn K A V E N q' 0 p' → RES = .inr (q', ls) → ls.length ≤ 6 → mRd m' x ls → m' 42 3305 = ls.length → Q (.inl none) m' := fun m' q' ls p' a b c e f g => hQ0 m' q' x w ls p' a b (by rw [eRES0, eq1, p_bd_r c]) hraw e f g
    have hQe : ∀ m' q' f' p', fr_Y 3300 3366 m m' → mTx m' nn K A V E N q' f' p' → f' ≠ 0 → RES = .inl (f', p') → Q (.inl none) m' := fun m' q' f' p' a b c e => hQe0 m' q' f' p' a b c (by rw [eRES0, eq1, p_bd_l e])
    have K26 : ∀ (Nm : Nat), ∀ (i : Int) (ms : Int) (c : Int) (b : Int) (q : Int) (f : Int) (p : Int) (n : Nat) (ls : List (Int → Int)), ∀ (mw : aM), (ms).toNat = Nm → ((f = 0 ∧ ms = (n : Int) ∧ p_lays K A V n ls c b q = RES ∧ N - q ≤ (n : Int)) ∨ (f ≠ 0 ∧ ms = 0 ∧ RES = .inl (f, p))) → (mTx mw nn K A V E N q f p) → ((f = 0 → i = (ls.length : Int)) ∧ ls.length ≤ 6 ∧ 0 ≤ i ∧ i ≤ 6) → (mFg mw c b) → (f = 0 → mRd mw x ls) → (fr_Y 3300 3366 m mw) → am_WP am_G (am_wpc am_G am_T d) [] cd_192 Q 26 [aR 41, aI i] [] mw := by
      intro Nm
      induction Nm using Nat.strongRecOn with
      | _ Nm ih26 =>
        intro i ms c b q f p n ls mw hN hS0 hx hi0 fg rd fr
        refine am_go 400 [26] (am_wpc_cm _ _ _) wf_192 ?_
        rcases hS0 with ⟨f0, hms, hS, hnq⟩ | ⟨nz, hms, hE⟩
        · subst f0
          have hqN := hx.2.2.2.1
          obtain ⟨n1, en⟩ : ∃ k, n = k + 1 := ⟨n - 1, by omega⟩
          subst en
          have rd := rd rfl
          have hi : i = (ls.length : Int) ∧ ls.length ≤ 6 := ⟨hi0.1 rfl, hi0.2.1⟩
          refine And.intro (rfl) ?_
          refine ct_206 (by omega) hx (by unfold x_sg; omega) (fun _ h1 => ?_) (fun h1 => ?_)
          · have kq : K q = 144 := by omega
            refine And.intro (fun h => absurd h (by decide)) (fun _ => ?_)
            refine And.intro (rfl) ?_
            refine ct_199 (by omega) hx (fun _ => by first | omega | (have := hx.2.2.2.2.2.2.1 rfl; have := this.2.2.1; have := this.1; have := this.2.1; omega)) (fun h => absurd rfl h) (fun _ mw2 h3 h4 => ?_)
            have rd := rd.M h3
            have fg := fg.M h3
            have fr := fr.M h3
            have hx := h4
            refine And.intro (fun h5 => ?_) (fun h5 => ?_)
            · refine And.intro (rfl) ?_
              refine ct_208 (by omega) hx (wr0.fr fr) (by omega) (show mSg _ (3306 + 10 * i) 10 l_no by have := rd.2 ls.length (by omega); rw [List.getD_eq_getElem?_getD, List.getElem?_eq_none (by omega), ← hi.1] at this; exact this) fg rfl (fun h => absurd rfl h) (fun _ mw6 q8 f9 p10 h11 h12 h13 h15 eL => ?_) (fun _ mw7 q8 lw h11 h12 h13 eL h15 => ?_)
              · have fr := fr.trans (h11.wd (by omega) (by omega))
                have hx := h12
                have nz := h15
                obtain ⟨c2, b2, fg⟩ := h13
                refine And.intro (show -2147483648 ≤ i + 1 ∧ i + 1 ≤ 2147483647 by first | omega | (simp only [mS_iff, eq_self, Int.reduceEq, true_and, and_true, false_and, and_false, and_self, ↓reduceIte]; omega) | (simp only [mS_iff, eq_self, Int.reduceEq, true_and, and_true, false_and, and_false, and_self, ↓reduceIte] at *; omega)) ?_
                refine ih26 _ ?_ _ (0) (c2) (b2) (q8) (f9) (p10) (0) (ls) _ (Eq.refl _) ?_ ?_ ?_ ?_ ?_ ?_
                · omega
                · refine Or.inr ⟨nz, rfl, ?_⟩
                  first
                    | (rw [← hS, p_ls7 (by omega) (by omega)]; exact p_bd_l eL)
                    | (rw [← hS]; exact p_ls4 (by omega) (by unfold p_beg; omega) (by omega) (by omega))
                    | (rw [← hS]; exact p_ls5 (by omega) (by unfold p_beg; omega) (by omega) (by omega))
                    | (rw [← hS]; exact p_ls3 (by omega) (by unfold p_beg; omega))
                · exact hx
                · exact ⟨fun z => absurd z nz, by omega⟩
                · exact fg
                · exact fun z => absurd z nz
                · exact fr
              · have rd := rd.push h11 hi.1 (by omega) h15
                have fr := fr.trans (h11.wd (by omega) (by omega))
                have hx := h12
                have fg := h13
                refine And.intro (show -2147483648 ≤ i + 1 ∧ i + 1 ≤ 2147483647 by first | omega | (simp only [mS_iff, eq_self, Int.reduceEq, true_and, and_true, false_and, and_false, and_self, ↓reduceIte]; omega) | (simp only [mS_iff, eq_self, Int.reduceEq, true_and, and_true, false_and, and_false, and_self, ↓reduceIte] at *; omega)) ?_
                refine ih26 _ ?_ _ ((n1 : Int)) ((if lw 1 = 6 then 1 else c)) ((if lw 1 = 7 then 1 else b)) (q8) (0) (p) (n1) (ls ++ [lw]) _ (Eq.refl _) ?_ ?_ ?_ ?_ ?_ ?_
                · omega
                · refine Or.inl ⟨rfl, rfl, ?_, by have := p_lay_q eL; omega⟩
                  rw [← hS, p_ls7 (by omega) (by omega), p_bd_r eL]
                · exact hx
                · simp; omega
                · exact fg
                · exact fun _ => rd
                · exact fr
            · have kz := hx.k2
              have vbq := hx.vb
              refine And.intro (rfl) ?_
              refine am_in rfl (by omega) (fun d hd => ?_)
              refine am_go 400 [] (am_wpc_cm _ _ _) wf_207 ?_
              refine And.intro (rfl) ?_
              refine And.intro (fun h16 => ?_) (fun h16 => ?_)
              · have kz := hx.k2
                have vbq := hx.vb
                refine And.intro (rfl) ?_
                refine ct_198 (w := 44) (by omega) hx (by omega) (by decide +kernel) (fun _ h17 => ?_) (fun h17 => ?_)
                · refine And.intro (fun _ => ?_) (fun h => absurd h (by decide))
                  refine And.intro (rfl) ?_
                  refine ct_201 (by omega) hx (by omega) (fun mw18 h19 h20 => ?_)
                  have rd := rd.M h19
                  have fg := fg.M h19
                  have fr := fr.M h19
                  have hx : mTx mw18 nn K A V E N (q + 1) 5 (A (q + 1)) := by rw [if_pos rfl, if_pos rfl, if_neg (by omega)] at h20; exact h20
                  have nz : 5 ≠ (0 : Int) := by first | omega | (unfold x_wr; omega)
                  refine ih26 _ ?_ _ (0) (c) (b) ((q + 1)) (5) ((A (q + 1))) (0) (ls) _ (Eq.refl _) ?_ ?_ ?_ ?_ ?_ ?_
                  · omega
                  · refine Or.inr ⟨nz, rfl, ?_⟩
                    first
                      | (rw [← hS, p_ls7 (by omega) (by omega)]; exact p_bd_l eL)
                      | (rw [← hS]; exact p_ls4 (by omega) (by unfold p_beg; omega) (by omega) (by omega))
                      | (rw [← hS]; exact p_ls5 (by omega) (by unfold p_beg; omega) (by omega) (by omega))
                      | (rw [← hS]; exact p_ls3 (by omega) (by unfold p_beg; omega))
                  · exact hx
                  · exact ⟨fun z => absurd z nz, by omega⟩
                  · exact fg
                  · exact fun z => absurd z nz
                  · exact fr
                · refine And.intro (fun h => absurd h (by decide)) (fun _ => ?_)
                  refine And.intro (rfl) ?_
                  refine ct_198 (w := 45) (by omega) hx (by omega) (by decide +kernel) (fun _ h21 => ?_) (fun h21 => ?_)
                  · refine And.intro (fun _ => ?_) (fun h => absurd h (by decide))
                    refine And.intro (rfl) ?_
                    refine ct_201 (by omega) hx (by omega) (fun mw22 h23 h24 => ?_)
                    have rd := rd.M h23
                    have fg := fg.M h23
                    have fr := fr.M h23
                    have hx : mTx mw22 nn K A V E N (q + 1) 5 (A (q + 1)) := by rw [if_pos rfl, if_pos rfl, if_neg (by omega)] at h24; exact h24
                    have nz : 5 ≠ (0 : Int) := by first | omega | (unfold x_wr; omega)
                    refine ih26 _ ?_ _ (0) (c) (b) ((q + 1)) (5) ((A (q + 1))) (0) (ls) _ (Eq.refl _) ?_ ?_ ?_ ?_ ?_ ?_
                    · omega
                    · refine Or.inr ⟨nz, rfl, ?_⟩
                      first
                        | (rw [← hS, p_ls7 (by omega) (by omega)]; exact p_bd_l eL)
                        | (rw [← hS]; exact p_ls4 (by omega) (by unfold p_beg; omega) (by omega) (by omega))
                        | (rw [← hS]; exact p_ls5 (by omega) (by unfold p_beg; omega) (by omega) (by omega))
                        | (rw [← hS]; exact p_ls3 (by omega) (by unfold p_beg; omega))
                    · exact hx
                    · exact ⟨fun z => absurd z nz, by omega⟩
                    · exact fg
                    · exact fun z => absurd z nz
                    · exact fr
                  · refine And.intro (fun h => absurd h (by decide)) (fun _ => ?_)
                    refine And.intro (rfl) ?_
                    refine ct_198 (w := 43) (by omega) hx (by omega) (by decide +kernel) (fun _ h25 => ?_) (fun h25 => ?_)
                    · refine And.intro (fun _ => ?_) (fun h => absurd h (by decide))
                      refine And.intro (rfl) ?_
                      refine ct_201 (by omega) hx (by omega) (fun mw26 h27 h28 => ?_)
                      have rd := rd.M h27
                      have fg := fg.M h27
                      have fr := fr.M h27
                      have hx : mTx mw26 nn K A V E N (q + 1) 5 (A (q + 1)) := by rw [if_pos rfl, if_pos rfl, if_neg (by omega)] at h28; exact h28
                      have nz : 5 ≠ (0 : Int) := by first | omega | (unfold x_wr; omega)
                      refine ih26 _ ?_ _ (0) (c) (b) ((q + 1)) (5) ((A (q + 1))) (0) (ls) _ (Eq.refl _) ?_ ?_ ?_ ?_ ?_ ?_
                      · omega
                      · refine Or.inr ⟨nz, rfl, ?_⟩
                        first
                          | (rw [← hS, p_ls7 (by omega) (by omega)]; exact p_bd_l eL)
                          | (rw [← hS]; exact p_ls4 (by omega) (by unfold p_beg; omega) (by omega) (by omega))
                          | (rw [← hS]; exact p_ls5 (by omega) (by unfold p_beg; omega) (by omega) (by omega))
                          | (rw [← hS]; exact p_ls3 (by omega) (by unfold p_beg; omega))
                      · exact hx
                      · exact ⟨fun z => absurd z nz, by omega⟩
                      · exact fg
                      · exact fun z => absurd z nz
                      · exact fr
                    · refine And.intro (fun h => absurd h (by decide)) (fun _ => ?_)
                      refine And.intro (rfl) ?_
                      refine And.intro (fun h29 => ?_) (fun h29 => ?_)
                      · refine And.intro (rfl) ?_
                        refine ct_201 (by omega) hx (by omega) (fun mw30 h31 h32 => ?_)
                        have rd := rd.M h31
                        have fg := fg.M h31
                        have fr := fr.M h31
                        have hx : mTx mw30 nn K A V E N (q + 1) (x_wr (K (q + 1))) (A (q + 1)) := by unfold x_wr; rw [if_pos rfl, if_pos rfl] at h32; exact h32
                        have nz : (x_wr (K (q + 1))) ≠ (0 : Int) := by first | omega | (unfold x_wr; omega)
                        refine ih26 _ ?_ _ (0) (c) (b) ((q + 1)) ((x_wr (K (q + 1)))) ((A (q + 1))) (0) (ls) _ (Eq.refl _) ?_ ?_ ?_ ?_ ?_ ?_
                        · omega
                        · refine Or.inr ⟨nz, rfl, ?_⟩
                          first
                            | (rw [← hS, p_ls7 (by omega) (by omega)]; exact p_bd_l eL)
                            | (rw [← hS]; exact p_ls4 (by omega) (by unfold p_beg; omega) (by omega) (by omega))
                            | (rw [← hS]; exact p_ls5 (by omega) (by unfold p_beg; omega) (by omega) (by omega))
                            | (rw [← hS]; exact p_ls3 (by omega) (by unfold p_beg; omega))
                        · exact hx
                        · exact ⟨fun z => absurd z nz, by omega⟩
                        · exact fg
                        · exact fun z => absurd z nz
                        · exact fr
                      · refine And.intro (rfl) ?_
                        refine ct_201 (by omega) hx (by omega) (fun mw33 h34 h35 => ?_)
                        have rd := rd.M h34
                        have fg := fg.M h34
                        have fr := fr.M h34
                        have hx : mTx mw33 nn K A V E N (q + 1) 5 (A (q + 1)) := by rw [if_pos rfl, if_pos rfl, if_neg (by omega)] at h35; exact h35
                        have nz : 5 ≠ (0 : Int) := by first | omega | (unfold x_wr; omega)
                        refine ih26 _ ?_ _ (0) (c) (b) ((q + 1)) (5) ((A (q + 1))) (0) (ls) _ (Eq.refl _) ?_ ?_ ?_ ?_ ?_ ?_
                        · omega
                        · refine Or.inr ⟨nz, rfl, ?_⟩
                          first
                            | (rw [← hS, p_ls7 (by omega) (by omega)]; exact p_bd_l eL)
                            | (rw [← hS]; exact p_ls4 (by omega) (by unfold p_beg; omega) (by omega) (by omega))
                            | (rw [← hS]; exact p_ls5 (by omega) (by unfold p_beg; omega) (by omega) (by omega))
                            | (rw [← hS]; exact p_ls3 (by omega) (by unfold p_beg; omega))
                        · exact hx
                        · exact ⟨fun z => absurd z nz, by omega⟩
                        · exact fg
                        · exact fun z => absurd z nz
                        · exact fr
              · refine And.intro (rfl) ?_
                refine And.intro (fun h36 => ?_) (fun h36 => ?_)
                · replace h36 := am_lc_lt.mp h36
                  refine And.intro (rfl) ?_
                  refine ct_201 (by omega) hx (by omega) (fun mw37 h38 h39 => ?_)
                  have rd := rd.M h38
                  have fg := fg.M h38
                  have fr := fr.M h38
                  have hx : mTx mw37 nn K A V E N (q + 1) 3 (A (q + 1)) := by rw [if_pos rfl, if_pos rfl, if_neg (by omega)] at h39; exact h39
                  have nz : 3 ≠ (0 : Int) := by first | omega | (unfold x_wr; omega)
                  skip
                  refine And.intro (rfl) ?_
                  refine ct_198 (w := 44) (by omega) hx (by omega) (by decide +kernel) (fun h => absurd h nz) (fun _ => ?_)
                  refine And.intro (fun h => absurd h (by decide)) (fun _ => ?_)
                  refine And.intro (rfl) ?_
                  refine ct_198 (w := 45) (by omega) hx (by omega) (by decide +kernel) (fun h => absurd h nz) (fun _ => ?_)
                  refine And.intro (fun h => absurd h (by decide)) (fun _ => ?_)
                  refine And.intro (rfl) ?_
                  refine ct_198 (w := 43) (by omega) hx (by omega) (by decide +kernel) (fun h => absurd h nz) (fun _ => ?_)
                  refine And.intro (fun h => absurd h (by decide)) (fun _ => ?_)
                  refine And.intro (rfl) ?_
                  refine And.intro (fun h40 => ?_) (fun h40 => ?_)
                  · refine And.intro (rfl) ?_
                    refine ct_201 (by omega) hx (by omega) (fun mw41 h42 h43 => ?_)
                    have rd := rd.M h42
                    have fg := fg.M h42
                    have fr := fr.M h42
                    have hx : mTx mw41 nn K A V E N (q + 1) 3 (A (q + 1)) := by rw [if_neg nz, if_neg nz] at h43; exact h43
                    refine ih26 _ ?_ _ (0) (c) (b) ((q + 1)) (3) ((A (q + 1))) (0) (ls) _ (Eq.refl _) ?_ ?_ ?_ ?_ ?_ ?_
                    · omega
                    · refine Or.inr ⟨nz, rfl, ?_⟩
                      first
                        | (rw [← hS, p_ls7 (by omega) (by omega)]; exact p_bd_l eL)
                        | (rw [← hS]; exact p_ls4 (by omega) (by unfold p_beg; omega) (by omega) (by omega))
                        | (rw [← hS]; exact p_ls5 (by omega) (by unfold p_beg; omega) (by omega) (by omega))
                        | (rw [← hS]; exact p_ls3 (by omega) (by unfold p_beg; omega))
                    · exact hx
                    · exact ⟨fun z => absurd z nz, by omega⟩
                    · exact fg
                    · exact fun z => absurd z nz
                    · exact fr
                  · refine And.intro (rfl) ?_
                    refine ct_201 (by omega) hx (by omega) (fun mw44 h45 h46 => ?_)
                    have rd := rd.M h45
                    have fg := fg.M h45
                    have fr := fr.M h45
                    have hx : mTx mw44 nn K A V E N (q + 1) 3 (A (q + 1)) := by rw [if_neg nz, if_neg nz] at h46; exact h46
                    refine ih26 _ ?_ _ (0) (c) (b) ((q + 1)) (3) ((A (q + 1))) (0) (ls) _ (Eq.refl _) ?_ ?_ ?_ ?_ ?_ ?_
                    · omega
                    · refine Or.inr ⟨nz, rfl, ?_⟩
                      first
                        | (rw [← hS, p_ls7 (by omega) (by omega)]; exact p_bd_l eL)
                        | (rw [← hS]; exact p_ls4 (by omega) (by unfold p_beg; omega) (by omega) (by omega))
                        | (rw [← hS]; exact p_ls5 (by omega) (by unfold p_beg; omega) (by omega) (by omega))
                        | (rw [← hS]; exact p_ls3 (by omega) (by unfold p_beg; omega))
                    · exact hx
                    · exact ⟨fun z => absurd z nz, by omega⟩
                    · exact fg
                    · exact fun z => absurd z nz
                    · exact fr
                · replace h36 := am_lc_ge.mp h36
                  refine And.intro (rfl) ?_
                  refine And.intro (fun h47 => ?_) (fun h47 => ?_)
                  · replace h47 := am_lc_le.mp h47
                    have kz := hx.k2
                    have vbq := hx.vb
                    refine And.intro (rfl) ?_
                    refine ct_198 (w := 44) (by omega) hx (by omega) (by decide +kernel) (fun _ h48 => ?_) (fun h48 => ?_)
                    · refine And.intro (fun _ => ?_) (fun h => absurd h (by decide))
                      refine And.intro (rfl) ?_
                      refine ct_201 (by omega) hx (by omega) (fun mw49 h50 h51 => ?_)
                      have rd := rd.M h50
                      have fg := fg.M h50
                      have fr := fr.M h50
                      have hx : mTx mw49 nn K A V E N (q + 1) 5 (A (q + 1)) := by rw [if_pos rfl, if_pos rfl, if_neg (by omega)] at h51; exact h51
                      have nz : 5 ≠ (0 : Int) := by first | omega | (unfold x_wr; omega)
                      refine ih26 _ ?_ _ (0) (c) (b) ((q + 1)) (5) ((A (q + 1))) (0) (ls) _ (Eq.refl _) ?_ ?_ ?_ ?_ ?_ ?_
                      · omega
                      · refine Or.inr ⟨nz, rfl, ?_⟩
                        first
                          | (rw [← hS, p_ls7 (by omega) (by omega)]; exact p_bd_l eL)
                          | (rw [← hS]; exact p_ls4 (by omega) (by unfold p_beg; omega) (by omega) (by omega))
                          | (rw [← hS]; exact p_ls5 (by omega) (by unfold p_beg; omega) (by omega) (by omega))
                          | (rw [← hS]; exact p_ls3 (by omega) (by unfold p_beg; omega))
                      · exact hx
                      · exact ⟨fun z => absurd z nz, by omega⟩
                      · exact fg
                      · exact fun z => absurd z nz
                      · exact fr
                    · refine And.intro (fun h => absurd h (by decide)) (fun _ => ?_)
                      refine And.intro (rfl) ?_
                      refine ct_198 (w := 45) (by omega) hx (by omega) (by decide +kernel) (fun _ h52 => ?_) (fun h52 => ?_)
                      · refine And.intro (fun _ => ?_) (fun h => absurd h (by decide))
                        refine And.intro (rfl) ?_
                        refine ct_201 (by omega) hx (by omega) (fun mw53 h54 h55 => ?_)
                        have rd := rd.M h54
                        have fg := fg.M h54
                        have fr := fr.M h54
                        have hx : mTx mw53 nn K A V E N (q + 1) 5 (A (q + 1)) := by rw [if_pos rfl, if_pos rfl, if_neg (by omega)] at h55; exact h55
                        have nz : 5 ≠ (0 : Int) := by first | omega | (unfold x_wr; omega)
                        refine ih26 _ ?_ _ (0) (c) (b) ((q + 1)) (5) ((A (q + 1))) (0) (ls) _ (Eq.refl _) ?_ ?_ ?_ ?_ ?_ ?_
                        · omega
                        · refine Or.inr ⟨nz, rfl, ?_⟩
                          first
                            | (rw [← hS, p_ls7 (by omega) (by omega)]; exact p_bd_l eL)
                            | (rw [← hS]; exact p_ls4 (by omega) (by unfold p_beg; omega) (by omega) (by omega))
                            | (rw [← hS]; exact p_ls5 (by omega) (by unfold p_beg; omega) (by omega) (by omega))
                            | (rw [← hS]; exact p_ls3 (by omega) (by unfold p_beg; omega))
                        · exact hx
                        · exact ⟨fun z => absurd z nz, by omega⟩
                        · exact fg
                        · exact fun z => absurd z nz
                        · exact fr
                      · refine And.intro (fun h => absurd h (by decide)) (fun _ => ?_)
                        refine And.intro (rfl) ?_
                        refine ct_198 (w := 43) (by omega) hx (by omega) (by decide +kernel) (fun _ h56 => ?_) (fun h56 => ?_)
                        · refine And.intro (fun _ => ?_) (fun h => absurd h (by decide))
                          refine And.intro (rfl) ?_
                          refine ct_201 (by omega) hx (by omega) (fun mw57 h58 h59 => ?_)
                          have rd := rd.M h58
                          have fg := fg.M h58
                          have fr := fr.M h58
                          have hx : mTx mw57 nn K A V E N (q + 1) 5 (A (q + 1)) := by rw [if_pos rfl, if_pos rfl, if_neg (by omega)] at h59; exact h59
                          have nz : 5 ≠ (0 : Int) := by first | omega | (unfold x_wr; omega)
                          refine ih26 _ ?_ _ (0) (c) (b) ((q + 1)) (5) ((A (q + 1))) (0) (ls) _ (Eq.refl _) ?_ ?_ ?_ ?_ ?_ ?_
                          · omega
                          · refine Or.inr ⟨nz, rfl, ?_⟩
                            first
                              | (rw [← hS, p_ls7 (by omega) (by omega)]; exact p_bd_l eL)
                              | (rw [← hS]; exact p_ls4 (by omega) (by unfold p_beg; omega) (by omega) (by omega))
                              | (rw [← hS]; exact p_ls5 (by omega) (by unfold p_beg; omega) (by omega) (by omega))
                              | (rw [← hS]; exact p_ls3 (by omega) (by unfold p_beg; omega))
                          · exact hx
                          · exact ⟨fun z => absurd z nz, by omega⟩
                          · exact fg
                          · exact fun z => absurd z nz
                          · exact fr
                        · refine And.intro (fun h => absurd h (by decide)) (fun _ => ?_)
                          refine And.intro (rfl) ?_
                          refine And.intro (fun h60 => ?_) (fun h60 => ?_)
                          · refine And.intro (rfl) ?_
                            refine ct_201 (by omega) hx (by omega) (fun mw61 h62 h63 => ?_)
                            have rd := rd.M h62
                            have fg := fg.M h62
                            have fr := fr.M h62
                            have hx : mTx mw61 nn K A V E N (q + 1) (x_wr (K (q + 1))) (A (q + 1)) := by unfold x_wr; rw [if_pos rfl, if_pos rfl] at h63; exact h63
                            have nz : (x_wr (K (q + 1))) ≠ (0 : Int) := by first | omega | (unfold x_wr; omega)
                            refine ih26 _ ?_ _ (0) (c) (b) ((q + 1)) ((x_wr (K (q + 1)))) ((A (q + 1))) (0) (ls) _ (Eq.refl _) ?_ ?_ ?_ ?_ ?_ ?_
                            · omega
                            · refine Or.inr ⟨nz, rfl, ?_⟩
                              first
                                | (rw [← hS, p_ls7 (by omega) (by omega)]; exact p_bd_l eL)
                                | (rw [← hS]; exact p_ls4 (by omega) (by unfold p_beg; omega) (by omega) (by omega))
                                | (rw [← hS]; exact p_ls5 (by omega) (by unfold p_beg; omega) (by omega) (by omega))
                                | (rw [← hS]; exact p_ls3 (by omega) (by unfold p_beg; omega))
                            · exact hx
                            · exact ⟨fun z => absurd z nz, by omega⟩
                            · exact fg
                            · exact fun z => absurd z nz
                            · exact fr
                          · refine And.intro (rfl) ?_
                            refine ct_201 (by omega) hx (by omega) (fun mw64 h65 h66 => ?_)
                            have rd := rd.M h65
                            have fg := fg.M h65
                            have fr := fr.M h65
                            have hx : mTx mw64 nn K A V E N (q + 1) 5 (A (q + 1)) := by rw [if_pos rfl, if_pos rfl, if_neg (by omega)] at h66; exact h66
                            have nz : 5 ≠ (0 : Int) := by first | omega | (unfold x_wr; omega)
                            refine ih26 _ ?_ _ (0) (c) (b) ((q + 1)) (5) ((A (q + 1))) (0) (ls) _ (Eq.refl _) ?_ ?_ ?_ ?_ ?_ ?_
                            · omega
                            · refine Or.inr ⟨nz, rfl, ?_⟩
                              first
                                | (rw [← hS, p_ls7 (by omega) (by omega)]; exact p_bd_l eL)
                                | (rw [← hS]; exact p_ls4 (by omega) (by unfold p_beg; omega) (by omega) (by omega))
                                | (rw [← hS]; exact p_ls5 (by omega) (by unfold p_beg; omega) (by omega) (by omega))
                                | (rw [← hS]; exact p_ls3 (by omega) (by unfold p_beg; omega))
                            · exact hx
                            · exact ⟨fun z => absurd z nz, by omega⟩
                            · exact fg
                            · exact fun z => absurd z nz
                            · exact fr
                  · replace h47 := am_lc_gt.mp h47
                    refine And.intro (rfl) ?_
                    refine ct_201 (by omega) hx (by omega) (fun mw67 h68 h69 => ?_)
                    have rd := rd.M h68
                    have fg := fg.M h68
                    have fr := fr.M h68
                    have hx : mTx mw67 nn K A V E N (q + 1) 3 (A (q + 1)) := by rw [if_pos rfl, if_pos rfl, if_neg (by omega)] at h69; exact h69
                    have nz : 3 ≠ (0 : Int) := by first | omega | (unfold x_wr; omega)
                    skip
                    refine And.intro (rfl) ?_
                    refine ct_198 (w := 44) (by omega) hx (by omega) (by decide +kernel) (fun h => absurd h nz) (fun _ => ?_)
                    refine And.intro (fun h => absurd h (by decide)) (fun _ => ?_)
                    refine And.intro (rfl) ?_
                    refine ct_198 (w := 45) (by omega) hx (by omega) (by decide +kernel) (fun h => absurd h nz) (fun _ => ?_)
                    refine And.intro (fun h => absurd h (by decide)) (fun _ => ?_)
                    refine And.intro (rfl) ?_
                    refine ct_198 (w := 43) (by omega) hx (by omega) (by decide +kernel) (fun h => absurd h nz) (fun _ => ?_)
                    refine And.intro (fun h => absurd h (by decide)) (fun _ => ?_)
                    refine And.intro (rfl) ?_
                    refine And.intro (fun h70 => ?_) (fun h70 => ?_)
                    · refine And.intro (rfl) ?_
                      refine ct_201 (by omega) hx (by omega) (fun mw71 h72 h73 => ?_)
                      have rd := rd.M h72
                      have fg := fg.M h72
                      have fr := fr.M h72
                      have hx : mTx mw71 nn K A V E N (q + 1) 3 (A (q + 1)) := by rw [if_neg nz, if_neg nz] at h73; exact h73
                      refine ih26 _ ?_ _ (0) (c) (b) ((q + 1)) (3) ((A (q + 1))) (0) (ls) _ (Eq.refl _) ?_ ?_ ?_ ?_ ?_ ?_
                      · omega
                      · refine Or.inr ⟨nz, rfl, ?_⟩
                        first
                          | (rw [← hS, p_ls7 (by omega) (by omega)]; exact p_bd_l eL)
                          | (rw [← hS]; exact p_ls4 (by omega) (by unfold p_beg; omega) (by omega) (by omega))
                          | (rw [← hS]; exact p_ls5 (by omega) (by unfold p_beg; omega) (by omega) (by omega))
                          | (rw [← hS]; exact p_ls3 (by omega) (by unfold p_beg; omega))
                      · exact hx
                      · exact ⟨fun z => absurd z nz, by omega⟩
                      · exact fg
                      · exact fun z => absurd z nz
                      · exact fr
                    · refine And.intro (rfl) ?_
                      refine ct_201 (by omega) hx (by omega) (fun mw74 h75 h76 => ?_)
                      have rd := rd.M h75
                      have fg := fg.M h75
                      have fr := fr.M h75
                      have hx : mTx mw74 nn K A V E N (q + 1) 3 (A (q + 1)) := by rw [if_neg nz, if_neg nz] at h76; exact h76
                      refine ih26 _ ?_ _ (0) (c) (b) ((q + 1)) (3) ((A (q + 1))) (0) (ls) _ (Eq.refl _) ?_ ?_ ?_ ?_ ?_ ?_
                      · omega
                      · refine Or.inr ⟨nz, rfl, ?_⟩
                        first
                          | (rw [← hS, p_ls7 (by omega) (by omega)]; exact p_bd_l eL)
                          | (rw [← hS]; exact p_ls4 (by omega) (by unfold p_beg; omega) (by omega) (by omega))
                          | (rw [← hS]; exact p_ls5 (by omega) (by unfold p_beg; omega) (by omega) (by omega))
                          | (rw [← hS]; exact p_ls3 (by omega) (by unfold p_beg; omega))
                      · exact hx
                      · exact ⟨fun z => absurd z nz, by omega⟩
                      · exact fg
                      · exact fun z => absurd z nz
                      · exact fr
          · have kq : K q ≠ 144 := by omega
            refine And.intro (fun _ => ?_) (fun h => absurd h (by decide))
            have kz := hx.k2
            have vbq := hx.vb
            refine And.intro (rfl) ?_
            refine And.intro (fun h77 => ?_) (fun h77 => ?_)
            · refine And.intro (rfl) ?_
              refine And.intro (⟨rfl, by first | omega | (simp only [mS_iff, eq_self, Int.reduceEq, true_and, and_true, false_and, and_false, and_self, ↓reduceIte]; omega) | (simp only [mS_iff, eq_self, Int.reduceEq, true_and, and_true, false_and, and_false, and_self, ↓reduceIte] at *; omega)⟩) ?_
              exact hQ _ _ _ _ (fr.p (by omega)) hx.p42 (by rw [← hS]; exact p_ls1 (by omega)) hi.2 ⟨fun j a b => by rw [mS_iff, if_neg (by omega)]; exact rd.1 j a b, fun k hk j a b => by rw [mS_iff, if_neg (by omega)]; exact rd.2 k hk j a b⟩ (by rw [mS_iff, if_pos ⟨rfl, rfl⟩]; exact hi.1)
            · refine And.intro (rfl) ?_
              refine ct_201 (by omega) hx (by omega) (fun mw78 h79 h80 => ?_)
              have rd := rd.M h79
              have fg := fg.M h79
              have fr := fr.M h79
              have hx : mTx mw78 nn K A V E N q (x_wr (K q)) (A q) := by unfold x_wr; rw [if_pos rfl, if_pos rfl] at h80; exact h80
              have nz : (x_wr (K q)) ≠ (0 : Int) := by first | omega | (unfold x_wr; omega)
              refine And.intro (rfl) ?_
              refine And.intro (⟨rfl, by first | omega | (simp only [mS_iff, eq_self, Int.reduceEq, true_and, and_true, false_and, and_false, and_self, ↓reduceIte]; omega) | (simp only [mS_iff, eq_self, Int.reduceEq, true_and, and_true, false_and, and_false, and_self, ↓reduceIte] at *; omega)⟩) ?_
              refine hQe _ _ _ _ (fr.p (by omega)) hx.p42 nz ?_
              rw [← hS]; exact p_ls2 (by omega) (by omega)
        · skip
          refine And.intro (rfl) ?_
          refine ct_206 (by omega) hx (by unfold x_sg; omega) (fun h => absurd h nz) (fun _ => ?_)
          refine And.intro (fun _ => ?_) (fun h => absurd h (by decide))
          skip
          refine And.intro (rfl) ?_
          refine And.intro (fun h81 => ?_) (fun h81 => ?_)
          · refine And.intro (rfl) ?_
            refine And.intro (⟨rfl, by first | omega | (simp only [mS_iff, eq_self, Int.reduceEq, true_and, and_true, false_and, and_false, and_self, ↓reduceIte]; omega) | (simp only [mS_iff, eq_self, Int.reduceEq, true_and, and_true, false_and, and_false, and_self, ↓reduceIte] at *; omega)⟩) ?_
            exact hQe _ _ _ _ (fr.p (by omega)) hx.p42 nz hE
          · refine And.intro (rfl) ?_
            refine ct_201 (by omega) hx (by omega) (fun mw82 h83 h84 => ?_)
            have fg := fg.M h83
            have fr := fr.M h83
            have hx : mTx mw82 nn K A V E N q f p := by rw [if_neg nz, if_neg nz] at h84; exact h84
            refine And.intro (rfl) ?_
            refine And.intro (⟨rfl, by first | omega | (simp only [mS_iff, eq_self, Int.reduceEq, true_and, and_true, false_and, and_false, and_self, ↓reduceIte]; omega) | (simp only [mS_iff, eq_self, Int.reduceEq, true_and, and_true, false_and, and_false, and_self, ↓reduceIte] at *; omega)⟩) ?_
            exact hQe _ _ _ _ (fr.p (by omega)) hx.p42 nz hE
    refine K26 _ _ (n0) (0) (0) (q0) (0) (p) (n0) ([]) _ (Eq.refl _) ?_ ?_ ?_ ?_ ?_ ?_
    · exact Or.inl ⟨rfl, rfl, eRES.symm, by have := hx.2.2.2.1; omega⟩
    · exact hx
    · simp
    · exact fg
    · exact fun _ => rd0
    · exact fr
  refine am_go 400 [26] (am_wpc_cm _ _ _) wf_192 ?_
  refine And.intro (rfl) ?_
  refine ct_182 (by omega) (by omega) (fun mb1 fb1 sg1 sl1 => ?_)
  refine And.intro (⟨rfl, by first | omega | (simp only [mS_iff, eq_self, Int.reduceEq, true_and, and_true, false_and, and_false, and_self, ↓reduceIte]; omega) | (simp only [mS_iff, eq_self, Int.reduceEq, true_and, and_true, false_and, and_false, and_self, ↓reduceIte] at *; omega)⟩) ?_
  refine And.intro (⟨rfl, by first | omega | (simp only [mS_iff, eq_self, Int.reduceEq, true_and, and_true, false_and, and_false, and_self, ↓reduceIte]; omega) | (simp only [mS_iff, eq_self, Int.reduceEq, true_and, and_true, false_and, and_false, and_self, ↓reduceIte] at *; omega)⟩) ?_
  obtain ⟨mf, ef⟩ : ∃ z, z = (mS (mS mb1 41 19 0) 41 20 0) := ⟨_, rfl⟩
  rw [← ef]
  have fg : mFg mf 0 0 := by rw [ef]; exact ⟨rfl, rfl, Or.inl rfl, Or.inl rfl⟩
  have fe : ∀ r j, (r ≠ 41 ∨ (j ≠ 19 ∧ j ≠ 20)) → mf r j = mb1 r j := fun r j h => by rw [ef, mS_iff, if_neg (by omega), mS_iff, if_neg (by omega)]
  have fr : fr_Y 3300 3366 m mf := fun r j u v => (fe r j (by omega)).trans (fb1 r j (by omega))
  have sg1 : mSg mf 3300 6 p_b6 := fun j a b => by rw [fe 42 _ (by omega)]; exact sg1 j a b
  have sl1 : ∀ l, 0 ≤ l → l < 6 → mSg mf (3306 + 10 * l) 10 l_no := fun l u v j a b => by rw [fe 42 _ (by omega)]; exact sl1 l u v j a b
  have g41 : mf 41 3 = m 41 3 := fr 41 3 (by omega) (by omega)
  have g43 : mf 43 = m 43 := funext fun k => fr 43 k (by omega) (by omega)
  refine And.intro (rfl) ?_
  refine ct_193 (p := p) (by omega) (by rw [g41]; exact hn) (by rw [g43]; exact hb) (by rw [g43]; exact hlx) (fun ms1 fm1 hx => ?_)
  have fg := fg.M fm1
  have fr := fr.M fm1
  have sg1 := sg1.M fm1
  have sl1 := fun l u v => (sl1 l u v).M fm1
  refine And.intro (rfl) ?_
  refine ct_197 (by omega) hx (wr0.fr fr) fg (fun j u v => (sg1 j u (by omega)).trans rfl) (fun mw1 q3 f4 p5 h6 h7 fg h8 eF => ?_) (fun mw2 q3 x w h6 h7 fg eF sx hraw => ?_)
  · have fr := fr.trans (h6.wd (by omega) (by omega))
    have hx := h7
    have nz := h8
    refine am_go 400 [] (am_wpc_cm _ _ _) wf_192 ?_
    refine And.intro (rfl) ?_
    refine ct_206 (by omega) hx (by unfold x_sg; omega) (fun h => absurd h nz) (fun _ => ?_)
    refine And.intro (fun _ => ?_) (fun h => absurd h (by decide))
    refine And.intro (rfl) ?_
    refine And.intro (fun h9 => ?_) (fun h9 => ?_)
    · refine And.intro (rfl) ?_
      refine And.intro (⟨rfl, by first | omega | (simp only [mS_iff, eq_self, Int.reduceEq, true_and, and_true, false_and, and_false, and_self, ↓reduceIte]; omega) | (simp only [mS_iff, eq_self, Int.reduceEq, true_and, and_true, false_and, and_false, and_self, ↓reduceIte] at *; omega)⟩) ?_
      exact hQe0 _ _ _ _ (fr.p (by omega)) hx.p42 nz (by rw [eRES0]; unfold p_read; exact p_bd_l eF)
    · refine And.intro (rfl) ?_
      refine ct_201 (by omega) hx (by omega) (fun mw10 h11 h12 => ?_)
      have fr := fr.M h11
      have hx : mTx mw10 nn K A V E N q3 f4 p5 := by rw [if_neg nz, if_neg nz] at h12; exact h12
      refine And.intro (rfl) ?_
      refine And.intro (⟨rfl, by first | omega | (simp only [mS_iff, eq_self, Int.reduceEq, true_and, and_true, false_and, and_false, and_self, ↓reduceIte]; omega) | (simp only [mS_iff, eq_self, Int.reduceEq, true_and, and_true, false_and, and_false, and_self, ↓reduceIte] at *; omega)⟩) ?_
      exact hQe0 _ _ _ _ (fr.p (by omega)) hx.p42 nz (by rw [eRES0]; unfold p_read; exact p_bd_l eF)
  · have rd : mRd mw2 x [] := ⟨sx, fun k hk => by have := (sl1 k (by omega) (by omega)).Y h6 (by omega); simpa using this⟩
    have fr := fr.trans (h6.wd (by omega) (by omega))
    have hx := h7
    exact LP _ _ _ _ hx eF hraw rd fg fr
