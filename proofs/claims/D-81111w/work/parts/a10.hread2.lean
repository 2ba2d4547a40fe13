/-! needs: a09 -/
/-! CONTRACTS: reading arms, of the house; by tools/gena10.py -/
set_option maxRecDepth 100000
set_option maxHeartbeats 8000000
theorem p_ln_q (K : Int → Int) (q : Int) : q ≤ (p_ln K q).1 := by unfold p_ln; by_cases h : K q = 41 <;> by_cases g : K q = 42 <;> simp [h, g] <;> omega
theorem p_num_q {K A V : Int → Int} {l v q q' n : Int} (h : p_num K A V l v q = .inr (q', n)) : q' = q + 1 := by
  unfold p_num at h
  by_cases a : K q = 70
  · rw [if_pos a] at h
    by_cases b : V q < l ∨ 12 < V q ∨ (v = 1 ∧ V q % 2 = 1)
    · rw [if_pos b] at h; cases h
    · rw [if_neg b] at h; cases h; rfl
  · rw [if_neg a] at h; cases h
theorem p_th_q {K A : Int → Int} {n q q' : Int} {g : Int → Int} (h : p_th K A n q = .inr (q', g)) : q ≤ q' := by
  unfold p_th at h
  obtain ⟨q1, t, h1, h2⟩ := p_bd_i h
  have i1 := p_want_i h1
  obtain ⟨q2, a, h3, h4⟩ := p_bd_i h2
  obtain ⟨q3, c, h5, h6⟩ := p_bd_i h4
  have i3 := p_want_i h5
  have i2 : q1 ≤ q2 := by
    by_cases z : 21 ≤ K q1 ∧ K q1 < 25
    · by_cases y : s_ms t (1 + (K q1 - 21))
      · rw [p_att_y z y] at h3; cases h3; omega
      · rw [p_att_e z y] at h3; cases h3
    · rw [p_att_n z] at h3; cases h3; omega
  cases h6; omega
theorem p_grp_q {K A V : Int → Int} {q q' : Int} {g : Int → Int} (h : p_grp K A V q = .inr (q', g)) : q ≤ q' := by
  unfold p_grp at h
  by_cases z : K q = 70
  · rw [if_pos z] at h
    obtain ⟨q1, n, h1, h2⟩ := p_bd_i h
    have := p_num_q h1
    have := p_th_q h2
    omega
  · rw [if_neg z] at h
    obtain ⟨q1, n, h1, h2⟩ := p_bd_i h
    have := p_want_i h1
    have := p_th_q h2
    omega
theorem p_ord_q {K A : Int → Int} {c b q q' : Int} {o : Int → Int} (h : p_ord K A c b q = .inr (q', o)) : q ≤ q' := by
  unfold p_ord at h
  obtain ⟨q1, x, h1, h2⟩ := p_bd_i h
  have i1 := p_want_i h1
  by_cases z : (x = 6 ∧ c = 1) ∨ (x = 7 ∧ b = 1)
  · rw [if_pos z] at h2; cases h2
  · rw [if_neg z] at h2
    obtain ⟨q2, t, h3, h4⟩ := p_bd_i h2
    have i2 := p_want_i h3
    have i3 := p_ln_q K q1
    cases h4; omega
theorem p_part_q {K A : Int → Int} {q q' p : Int} (h : p_part K A q = .inr (q', p)) : q ≤ q' := by
  unfold p_part at h
  by_cases a : K q = 47
  · rw [if_pos a] at h
    by_cases b : K (q + 1) = 31
    · rw [if_pos b] at h; cases h; omega
    · rw [if_neg b] at h
      obtain ⟨q1, n, h1, h2⟩ := p_bd_i h
      have := p_want_i h1
      cases h2; omega
  · rw [if_neg a] at h; cases h; omega
theorem p_lay1_q {K A V : Int → Int} {c b v q q' : Int} {l : Int → Int} (h : p_lay1 K A V c b v q = .inr (q', l)) : q ≤ q' := by
  unfold p_lay1 at h
  by_cases h1 : K q = 45
  · rw [if_pos h1] at h
    obtain ⟨q1, x, a1, a2⟩ := p_bd_i h
    obtain ⟨q2, y, a3, a4⟩ := p_bd_i a2
    obtain ⟨q3, z, a5, a6⟩ := p_bd_i a4
    have := p_want_i a1; have := p_ord_q a3; have := p_grp_q a5
    cases a6; omega
  · rw [if_neg h1] at h
    by_cases h2 : K q = 43 ∧ 25 ≤ K (q + 1) ∧ K (q + 1) < 33
    · rw [if_pos h2] at h
      obtain ⟨q1, x, a1, a2⟩ := p_bd_i h
      have := p_ord_q a1
      by_cases h3 : K q1 = 46
      · rw [if_pos h3] at a2
        obtain ⟨q2, y, a3, a4⟩ := p_bd_i a2
        have := p_grp_q a3
        cases a4; omega
      · rw [if_neg h3] at a2; cases a2; omega
    · rw [if_neg h2] at h
      by_cases h3 : K q = 43 ∨ K q = 70
      · rw [if_pos h3] at h
        obtain ⟨q1, x, a1, a2⟩ := p_bd_i h
        obtain ⟨q2, y, a3, a4⟩ := p_bd_i a2
        have := p_grp_q a1; have := p_part_q a3
        cases a4; omega
      · rw [if_neg h3] at h; cases h
theorem p_lay_q {K A V : Int → Int} {c b q q' : Int} {l : Int → Int} (h : p_lay K A V c b q = .inr (q', l)) : q ≤ q' := by
  unfold p_lay at h
  by_cases a : K q = 44
  · rw [if_pos a] at h; have := p_lay1_q h; omega
  · rw [if_neg a] at h; exact p_lay1_q h
section
variable {K A V : Int → Int} {n : Nat} {ls : List (Int → Int)} {c b q : Int}
theorem p_ls1 (h : K q = 71) : p_lays K A V (n + 1) ls c b q = .inr (q, ls) := by unfold p_lays; rw [if_pos h]
theorem p_ls2 (h : K q ≠ 71) (g : K q ≠ 144) : p_lays K A V (n + 1) ls c b q = .inl (x_wr (K q), A q) := by unfold p_lays; rw [if_neg h, if_pos g]; rfl
theorem p_ls3 (h : K q = 144) (g : ¬ p_beg K (q + 1)) : p_lays K A V (n + 1) ls c b q = .inl (x_wr (K (q + 1)), A (q + 1)) := by unfold p_lays; rw [if_neg (by omega), if_neg (by omega), if_pos g]; rfl
theorem p_ls4 (h : K q = 144) (g : p_beg K (q + 1)) (l : ls.length = 6) (z : K (q + 1) = 70 ∧ (V (q + 1) < 2 ∨ 12 < V (q + 1))) : p_lays K A V (n + 1) ls c b q = .inl (3, A (q + 1)) := by unfold p_lays; rw [if_neg (by omega), if_neg (by omega), if_neg (fun x => x g), if_pos l, if_pos z]
theorem p_ls5 (h : K q = 144) (g : p_beg K (q + 1)) (l : ls.length = 6) (z : ¬ (K (q + 1) = 70 ∧ (V (q + 1) < 2 ∨ 12 < V (q + 1)))) : p_lays K A V (n + 1) ls c b q = .inl (5, A (q + 1)) := by unfold p_lays; rw [if_neg (by omega), if_neg (by omega), if_neg (fun x => x g), if_pos l, if_neg z]
theorem p_ls6 (h : K q = 144) (g : p_beg K (q + 1)) (l : ls.length ≠ 6) : p_lays K A V (n + 1) ls c b q = p_bd (p_lay K A V c b (q + 1)) (fun q l => p_lays K A V n (ls ++ [l]) (if l 1 = 6 then 1 else c) (if l 1 = 7 then 1 else b) q) := by
  rw [p_lays, if_neg (by omega), if_neg (by omega), if_neg (fun x => x g), if_neg l]
end
theorem hLs.stl {c s : Int} {m m' : aM} {lo i r : Int} {e : Nat → Int} {ls : List (Int → Int)} (h : hLs m lo e ls) (f : fr_P c s m m') (hl : 14 ≤ lo) (hi : i = (ls.length : Int)) : hLs (mS m' 3 i r) lo e ls := by
  have h' := h.fr f hl
  refine ⟨h'.1, by rw [mS_a _ _ _ _ (by omega)]; exact h'.2.1, h'.2.2.1, fun k hk => ?_⟩
  have q0 := h.mo (j := 0) (k := k) (by omega) (by omega)
  have := h.1
  rw [mS_iff, if_neg (by omega)]
  exact (h'.2.2.2 k hk).keep (fun x u v => ⟨mS_a _ _ _ _ (by omega), fun _ => funext fun j => mS_a _ _ _ _ (by omega)⟩)
theorem hTx.p3 {m : aM} {K A V : Int → Int} {N q f p i r : Int} (h : hTx m K A V N q f p) : hTx (mS m 3 i r) K A V N q f p := h.keep (fun y j a b => mS_a _ _ _ _ (by omega))
theorem p_lay_c {m : aM} {lo hi r : Int} {l : Int → Int} (g : hLay m lo hi r l 0) (h14 : 14 ≤ lo) : (m r 1 = 0 → l 1 = -1) ∧ (m r 1 ≠ 0 → m (m r 1) (-1) = 8 ∧ m (m r 1) 0 = l 1 ∧ 0 ≤ l 1 ∧ l 1 ≤ 7 ∧ 14 ≤ m r 1 ∧ m r 1 ≤ hi) := by
  obtain ⟨g1, g2, g3, g4, g5, g6, g7⟩ := g
  rcases g5 with ⟨x, y⟩ | ⟨x1, x2, x3, x4, x5, x6, x7, x8⟩
  · exact ⟨fun _ => by have := y.1; simpa using this, fun z => absurd x z⟩
  · refine ⟨fun z => by omega, fun _ => ⟨x3, by simpa using x5, ?_, ?_, by omega, x2⟩⟩
    · have := x4.1; simpa using this
    · have := x4.2.1; simpa using this
theorem ct_45 {d : Nat} {m : aM} {Q : aO → aM → Prop} {K A V : Int → Int} {N p : Int} {n0 : Nat} (hd : 8 ≤ d) (hT : xT K A V N) (hx : hTx m K A V N 0 0 p) (hn0 : N ≤ (n0 : Int)) (h0 : 77 ≤ m 0 0 ∧ m 0 0 + 45 ≤ amC ∧ 0 ≤ m 0 1 ∧ m 0 1 + 700 ≤ amS) (tz0 : m 3 (-1) = 45 ∧ m 3 (-2) = 6) (hQe0 : ∀ m' q' f' p', fr_R 40 600 m m' → hTx m' K A V N q' f' p' → f' ≠ 0 → p_read K A V n0 = .inl (f', p') → Q (.inl (some (aR 0))) m') (hQ0 : ∀ m' r q' w ls, fr_R 40 600 m m' → p_read K A V n0 = .inr (q', (w, ls)) → hArms m' (m 0 0 + 1) (m' 0 0) r (p_row w (p_set ls)) → Q (.inl (some (aR r))) m') : am_wpc am_G am_T d 45 [aR 1, aR 13] m Q := by
  obtain ⟨RES0, eRES0⟩ : ∃ z, z = p_read K A V n0 := ⟨_, rfl⟩
  rw [← eRES0] at hQe0 hQ0
  refine am_in rfl hd (fun d hd => ?_)
  have LP : ∀ (fd q0 : Int) (w : Int → Int) (m1 : aM), hTx m1 K A V N q0 0 p → p_field K A V 0 = .inr (q0, w) → hFld m1 (m 0 0 + 1) (m1 0 0) fd w → fr_R 2 30 m m1 → (m1 3 (-1) = 45 ∧ m1 3 (-2) = 6) → am_WP am_G (am_wpc am_G am_T d) [] cd_45 Q 10 [aR 1, aR 13, aR fd, aI 0, aI 0, aU, aU] [] m1 := by
    intro fd q0 w m1 hx eF hF0 hR0 tz1
    have okw := p_field_ok eF
    have q00 := hx.2.2.1
    obtain ⟨RES, eRES⟩ : ∃ z, z = p_lays K A V n0 [] 0 0 q0 := ⟨_, rfl⟩
    have eq1 : p_read K A V n0 = p_bd RES (fun q ls => .inr (q, (w, ls))) := by unfold p_read; rw [p_bd_r eF, eRES]
    have hQ : ∀ m' r q' ls, fr_R 40 600 m m' → RES = .inr (q', ls) → hArms m' (m 0 0 + 1) (m' 0 0) r (p_row w (p_set ls)) → Q (.inl (some (aR r))) m' := fun m' r q' ls a b c => hQ0 m' r q' w ls a (by rw [eRES0, eq1, p_bd_r b]) c
    have hQe : ∀ m' q' f' p', fr_R 40 600 m m' → hTx m' K A V N q' f' p' → f' ≠ 0 → RES = .inl (f', p') → Q (.inl (some (aR 0))) m' := fun m' q' f' p' a b c e => hQe0 m' q' f' p' a b c (by rw [eRES0, eq1, p_bd_l e])
    have hlo : 77 ≤ m 0 0 := h0.1
    have r1 := hR0.1
    have r2 := hR0.2.1
    have fin : ∀ (m' : aM) {i : Int} {mw mu : aM}, i ≤ 6 → fr_R (2 + 5 * i) (30 + 80 * i) m mw → fr_P 0 0 mw mu → m' 0 0 = mu 0 0 + 2 → (mu 0 1 ≤ m' 0 1 ∧ m' 0 1 ≤ mu 0 1 + 20) → (∀ x j, x ≠ 0 → x ≤ m 0 0 → m' x j = mu x j) → (∀ j, j ≠ 0 → j ≠ 1 → m' 0 j = mu 0 j) → fr_R 40 600 m m' := fun m' {i mw mu} hi hR fr a1 a2 a3 a4 => by
      obtain ⟨g1, g2, g3, g4⟩ := hR.P fr
      exact ⟨by omega, by omega, fun x j x0 x1 x2 x3 => (a3 x j x0 x1).trans (g3 x j x0 x1 x2 x3), fun j x y => (a4 j x y).trans (g4 j x y)⟩
    have K10 : ∀ (Nm : Nat), ∀ (i : Int) (t : Int) (z5 : aV) (z6 : aV) (ms : Int) (c : Int) (b : Int) (q : Int) (f : Int) (p : Int) (n : Nat) (ls : List (Int → Int)) (e : Nat → Int), ∀ (mw : aM), (ms).toNat = Nm → ((f = 0 ∧ ms = (n : Int) ∧ p_lays K A V n ls c b q = RES ∧ N - q ≤ (n : Int)) ∨ (f ≠ 0 ∧ ms = 0 ∧ RES = .inl (f, p))) → (hTx mw K A V N q f p) → ((f = 0 → i = (ls.length : Int)) ∧ ls.length ≤ 6 ∧ 0 ≤ i ∧ i ≤ 6) → (((c = 0 ∨ c = 1) ∧ (b = 0 ∨ b = 1)) ∧ (f = 0 → t = p_tb c b)) → (hLs mw (m 0 0) e ls) → (hFld mw (m 0 0 + 1) (mw 0 0) fd w) → (mw 3 (-1) = 45 ∧ mw 3 (-2) = 6) → (fr_R (2 + 5 * i + (if f = 0 then 0 else 5)) (30 + 80 * i + (if f = 0 then 0 else 80)) m mw) → am_WP am_G (am_wpc am_G am_T d) [] cd_45 Q 10 [aR 1, aR 13, aR fd, aI i, aI t, z5, z6] [] mw := by
      intro Nm
      induction Nm using Nat.strongRecOn with
      | _ Nm ih10 =>
        intro i t z5 z6 ms c b q f p n ls e mw hN hS0 hx hi0 hcb hL hF tz hR
        have fr := fr_P.rfl mw
        have cn := fr.1
        have cs := fr.2.1
        have K76 : ∀ (v5 : Int) (n1 : Nat), ∀ (mu : aM), ((v5 = 0 ∧ ¬ p_beg K (q + 1)) ∨ (v5 = 1 ∧ p_beg K (q + 1))) → (fr_P 0 0 mw mu) → (hTx mu K A V N (q + 1) 0 p) → (K q = 144) → (i = (ls.length : Int) ∧ ls.length ≤ 6) → (p_lays K A V (n1 + 1) ls c b q = RES) → (ms = (n1 : Int) + 1) → (N - q ≤ (n1 : Int) + 1) → (t = p_tb c b) → (fr_R (2 + 5 * i) (30 + 80 * i) m mw) → am_WP am_G (am_wpc am_G am_T d) [] cd_45 Q 76 [aR 1, aR 13, aR fd, aI i, aI t, aI v5, z6] [] mu := by
          intro v5 n1 mu hv fr hx hK hi hS hms hnq htb hR
          have cn := fr.1
          have cs := fr.2.1
          have rr1 := hR.1
          have rr2 := hR.2.1
          have hqN := hx.2.2.1
          subst htb
          refine am_go 400 [10, 76, 241] (am_wpc_cm _ _ _) wf_45 ?_
          refine And.intro (rfl) ?_
          refine And.intro (fun h => absurd h (by have := hx.2.2.2.1; have := hx.2.2.2.2.1; omega)) (fun _ => ?_)
          refine And.intro (fun h1 => ?_) (fun h1 => ?_)
          · have ax : mu 16 (mu 13 5) = A (q + 1) := by rw [hx.2.1]; exact (hx.1 _ hx.2.2.1.1 hx.2.2.1.2).2.1
            have ay : mu 17 (mu 13 5) = V (q + 1) := by rw [hx.2.1]; exact (hx.1 _ hx.2.2.1.1 hx.2.2.1.2).2.2
            have gb : p_beg K (q + 1) := by rcases hv with z | z
                                            · omega
                                            · exact z.2
            refine And.intro (fun h2 => ?_) (fun h2 => ?_)
            · refine And.intro (rfl) ?_
              refine And.intro (fun h => absurd h (by have := hx.2.2.2.1; have := hx.2.2.2.2.1; omega)) (fun _ => ?_)
              have gb : p_beg K (q + 1) := by rcases hv with z | z
                                              · omega
                                              · exact z.2
              refine And.intro (rfl) ?_
              refine ct_49 (by omega) hT hx hcb.1 (by omega) (fun mw3 r5 q6 f7 p8 h9 h10 h11 h13 h14 tr7 h12 => ?_) (fun mw4 r5 q6 lw h9 h10 eL gL => ?_)
              · have eL := h12
                have fr1 := fr.trans h9
                have hx := h10
                have nz := h11
                have cn := fr1.1
                have cs := fr1.2.1
                refine And.intro (⟨rfl, by omega, by omega, Or.inr ⟨by omega, tr7⟩⟩) ?_
                have e3 : (mS mw3 3 i r5) 3 i = r5 := by rw [mS_iff, if_pos ⟨rfl, rfl⟩]
                have e4 : (mS mw3 3 i r5) r5 (-1) = 7 := by rw [mS_a _ _ _ _ (by omega)]; exact tr7
                have e5 : (mS mw3 3 i r5) r5 1 = mw3 r5 1 := mS_a _ _ _ _ (by omega)
                refine And.intro (rfl) ?_
                refine And.intro (⟨rfl, by first | omega | (simp only [mS_iff, eq_self, Int.reduceEq, true_and, and_true, false_and, and_false, and_self, ↓reduceIte]; omega) | (simp only [mS_iff, eq_self, Int.reduceEq, true_and, and_true, false_and, and_false, and_self, ↓reduceIte] at *; omega)⟩) ?_
                refine And.intro (by rw [e3]; exact e4) ?_
                have e6 : (mS mw3 3 i r5) ((mS mw3 3 i r5) 3 i) 1 = mw3 r5 1 := by rw [e3]; exact e5
                refine And.intro (rfl) ?_
                refine And.intro (fun _ => ?_) (fun h => absurd h (by have := hx.2.2.2.1; have := hx.2.2.2.2.1; have e9 : (mS mw3 3 i r5) 13 6 = mw3 13 6 := mS_a _ _ _ _ (by omega); omega))
                skip
                refine And.intro (show -2147483648 ≤ i + 1 ∧ i + 1 ≤ 2147483647 by first | omega | (simp only [mS_iff, eq_self, Int.reduceEq, true_and, and_true, false_and, and_false, and_self, ↓reduceIte]; omega) | (simp only [mS_iff, eq_self, Int.reduceEq, true_and, and_true, false_and, and_false, and_self, ↓reduceIte] at *; omega)) ?_
                refine ih10 _ ?_ _ _ _ _ (0) (c) (b) (q6) (f7) (p8) (0) (ls) (e) _ (Eq.refl _) ?_ ?_ ?_ ?_ ?_ ?_ ?_ ?_
                · omega
                · refine Or.inr ⟨nz, rfl, ?_⟩
                  first
                    | (rw [← hS]; exact p_ls2 (by omega) (by omega))
                    | (rw [← hS]; exact p_ls3 (by omega) gb)
                    | (rw [← hS]; exact p_ls4 (by omega) gb (by omega) (by omega))
                    | (rw [← hS]; exact p_ls5 (by omega) gb (by omega) (by omega))
                    | (rw [← hS, p_ls6 (by omega) gb (by omega)]; exact p_bd_l eL)
                · exact hx.p3
                · exact ⟨fun z => absurd z nz, by omega⟩
                · exact ⟨hcb.1, fun z => absurd z nz⟩
                · exact hL.stl fr1 (by omega) hi.1
                · exact (hF.fr fr1 (by omega)).put (by omega)
                · exact ⟨by rw [mS_iff, if_neg (by omega), fr1.2.2.1 3 _ (by omega) (by omega) (by omega)]; exact tz.1, by rw [mS_iff, if_neg (by omega), fr1.2.2.1 3 _ (by omega) (by omega) (by omega)]; exact tz.2⟩
                · exact (((hR.P fr1).put (by omega)).mono (by rw [if_neg nz]; omega) (by rw [if_neg nz]; omega))
              · have gL := gL.wd (lo' := mw 0 0 + 1) (hi' := mw4 0 0) (by omega) (by omega)
                have tr7 := gL.2.1
                have fr1 := fr.trans h9
                have hx := h10
                have cn := fr1.1
                have cs := fr1.2.1
                have lc := p_lay_c gL (by omega)
                have gr1 := gL.1
                refine And.intro (⟨rfl, by omega, by omega, Or.inr ⟨by omega, tr7⟩⟩) ?_
                have e3 : (mS mw4 3 i r5) 3 i = r5 := by rw [mS_iff, if_pos ⟨rfl, rfl⟩]
                have e4 : (mS mw4 3 i r5) r5 (-1) = 7 := by rw [mS_a _ _ _ _ (by omega)]; exact tr7
                have e5 : (mS mw4 3 i r5) r5 1 = mw4 r5 1 := mS_a _ _ _ _ (by omega)
                refine And.intro (rfl) ?_
                refine And.intro (⟨rfl, by first | omega | (simp only [mS_iff, eq_self, Int.reduceEq, true_and, and_true, false_and, and_false, and_self, ↓reduceIte]; omega) | (simp only [mS_iff, eq_self, Int.reduceEq, true_and, and_true, false_and, and_false, and_self, ↓reduceIte] at *; omega)⟩) ?_
                refine And.intro (by rw [e3]; exact e4) ?_
                have e6 : (mS mw4 3 i r5) ((mS mw4 3 i r5) 3 i) 1 = mw4 r5 1 := by rw [e3]; exact e5
                refine And.intro (rfl) ?_
                refine And.intro (fun h => absurd h (by have := hx.2.2.2.1; have := hx.2.2.2.2.1; have e9 : (mS mw4 3 i r5) 13 6 = mw4 13 6 := mS_a _ _ _ _ (by omega); omega)) (fun _ => ?_)
                refine And.intro (by rw [e6]; intro z; have := (lc.2 (by omega)).2.2.2.2.1; omega) ?_
                refine And.intro (fun h15 => ?_) (fun h15 => ?_)
                · replace h15 : ((mS mw4 3 i r5) ((mS mw4 3 i r5) 3 i) 1) = 0 := h15
                  have n7 : lw 1 < 6 := by first | omega | (have := lc.1 (by rw [← e6]; assumption); omega)
                  refine And.intro (show -2147483648 ≤ i + 1 ∧ i + 1 ≤ 2147483647 by first | omega | (simp only [mS_iff, eq_self, Int.reduceEq, true_and, and_true, false_and, and_false, and_self, ↓reduceIte]; omega) | (simp only [mS_iff, eq_self, Int.reduceEq, true_and, and_true, false_and, and_false, and_self, ↓reduceIte] at *; omega)) ?_
                  refine ih10 _ ?_ _ _ _ _ ((n1 : Int)) ((if lw 1 = 6 then 1 else c)) ((if lw 1 = 7 then 1 else b)) (q6) (0) (p) (n1) (ls ++ [lw]) (fun k => if k ≤ ls.length then e k else mw4 0 0) _ (Eq.refl _) ?_ ?_ ?_ ?_ ?_ ?_ ?_ ?_
                  · omega
                  · refine Or.inl ⟨rfl, rfl, ?_, by have := p_lay_q eL; omega⟩
                    rw [← hS, p_ls6 (by omega) gb (by omega), p_bd_r eL]
                  · exact hx.p3
                  · simp; omega
                  · refine ⟨⟨by by_cases h : lw 1 = 6 <;> simp [h, hcb.1.1], by by_cases h : lw 1 = 7 <;> simp [h, hcb.1.2]⟩, fun _ => ?_⟩
                    first
                      | rw [p_tb_0 hcb.1.1 hcb.1.2, if_neg (by omega), if_neg (by omega)]
                      | (rw [e8]; exact p_tb_s hcb.1.1 hcb.1.2 (by omega))
                  · exact hL.push fr1 (by omega) gL hi.1
                  · exact (hF.fr fr1 (by omega)).put (by omega)
                  · exact ⟨by rw [mS_iff, if_neg (by omega), fr1.2.2.1 3 _ (by omega) (by omega) (by omega)]; exact tz.1, by rw [mS_iff, if_neg (by omega), fr1.2.2.1 3 _ (by omega) (by omega) (by omega)]; exact tz.2⟩
                  · exact (((hR.P fr1).put (by omega)).mono (by simp; omega) (by simp; omega))
                · replace h15 : ((mS mw4 3 i r5) ((mS mw4 3 i r5) 3 i) 1) ≠ 0 := h15
                  have n8 : mw4 r5 1 ≠ 0 := by rw [← e6]; assumption
                  have l8 := lc.2 n8
                  have e7 : (mS mw4 3 i r5) ((mS mw4 3 i r5) ((mS mw4 3 i r5) 3 i) 1) (-1) = 8 := by rw [e6, mS_a _ _ _ _ (by omega)]; exact l8.1
                  have e8 : (mS mw4 3 i r5) ((mS mw4 3 i r5) ((mS mw4 3 i r5) 3 i) 1) 0 = lw 1 := by rw [e6, mS_a _ _ _ _ (by omega)]; exact l8.2.1
                  refine And.intro (e7) ?_
                  refine And.intro (fun h16 => ?_) (fun h16 => ?_)
                  · replace h16 : ((mS mw4 3 i r5) ((mS mw4 3 i r5) ((mS mw4 3 i r5) 3 i) 1) 0) < 6 := h16
                    have n7 : lw 1 < 6 := by first | omega | (have := lc.1 (by rw [← e6]; assumption); omega)
                    refine And.intro (show -2147483648 ≤ i + 1 ∧ i + 1 ≤ 2147483647 by first | omega | (simp only [mS_iff, eq_self, Int.reduceEq, true_and, and_true, false_and, and_false, and_self, ↓reduceIte]; omega) | (simp only [mS_iff, eq_self, Int.reduceEq, true_and, and_true, false_and, and_false, and_self, ↓reduceIte] at *; omega)) ?_
                    refine ih10 _ ?_ _ _ _ _ ((n1 : Int)) ((if lw 1 = 6 then 1 else c)) ((if lw 1 = 7 then 1 else b)) (q6) (0) (p) (n1) (ls ++ [lw]) (fun k => if k ≤ ls.length then e k else mw4 0 0) _ (Eq.refl _) ?_ ?_ ?_ ?_ ?_ ?_ ?_ ?_
                    · omega
                    · refine Or.inl ⟨rfl, rfl, ?_, by have := p_lay_q eL; omega⟩
                      rw [← hS, p_ls6 (by omega) gb (by omega), p_bd_r eL]
                    · exact hx.p3
                    · simp; omega
                    · refine ⟨⟨by by_cases h : lw 1 = 6 <;> simp [h, hcb.1.1], by by_cases h : lw 1 = 7 <;> simp [h, hcb.1.2]⟩, fun _ => ?_⟩
                      first
                        | rw [p_tb_0 hcb.1.1 hcb.1.2, if_neg (by omega), if_neg (by omega)]
                        | (rw [e8]; exact p_tb_s hcb.1.1 hcb.1.2 (by omega))
                    · exact hL.push fr1 (by omega) gL hi.1
                    · exact (hF.fr fr1 (by omega)).put (by omega)
                    · exact ⟨by rw [mS_iff, if_neg (by omega), fr1.2.2.1 3 _ (by omega) (by omega) (by omega)]; exact tz.1, by rw [mS_iff, if_neg (by omega), fr1.2.2.1 3 _ (by omega) (by omega) (by omega)]; exact tz.2⟩
                    · exact (((hR.P fr1).put (by omega)).mono (by simp; omega) (by simp; omega))
                  · replace h16 : ((mS mw4 3 i r5) ((mS mw4 3 i r5) ((mS mw4 3 i r5) 3 i) 1) 0) ≥ 6 := h16
                    refine And.intro (e7) ?_
                    refine And.intro (show -2147483648 ≤ i + 1 ∧ i + 1 ≤ 2147483647 by first | omega | (simp only [mS_iff, eq_self, Int.reduceEq, true_and, and_true, false_and, and_false, and_self, ↓reduceIte]; omega) | (simp only [mS_iff, eq_self, Int.reduceEq, true_and, and_true, false_and, and_false, and_self, ↓reduceIte] at *; omega)) ?_
                    refine ih10 _ ?_ _ _ _ _ ((n1 : Int)) ((if lw 1 = 6 then 1 else c)) ((if lw 1 = 7 then 1 else b)) (q6) (0) (p) (n1) (ls ++ [lw]) (fun k => if k ≤ ls.length then e k else mw4 0 0) _ (Eq.refl _) ?_ ?_ ?_ ?_ ?_ ?_ ?_ ?_
                    · omega
                    · refine Or.inl ⟨rfl, rfl, ?_, by have := p_lay_q eL; omega⟩
                      rw [← hS, p_ls6 (by omega) gb (by omega), p_bd_r eL]
                    · exact hx.p3
                    · simp; omega
                    · refine ⟨⟨by by_cases h : lw 1 = 6 <;> simp [h, hcb.1.1], by by_cases h : lw 1 = 7 <;> simp [h, hcb.1.2]⟩, fun _ => ?_⟩
                      first
                        | rw [p_tb_0 hcb.1.1 hcb.1.2, if_neg (by omega), if_neg (by omega)]
                        | (rw [e8]; exact p_tb_s hcb.1.1 hcb.1.2 (by omega))
                    · exact hL.push fr1 (by omega) gL hi.1
                    · exact (hF.fr fr1 (by omega)).put (by omega)
                    · exact ⟨by rw [mS_iff, if_neg (by omega), fr1.2.2.1 3 _ (by omega) (by omega) (by omega)]; exact tz.1, by rw [mS_iff, if_neg (by omega), fr1.2.2.1 3 _ (by omega) (by omega) (by omega)]; exact tz.2⟩
                    · exact (((hR.P fr1).put (by omega)).mono (by simp; omega) (by simp; omega))
            · refine And.intro (rfl) ?_
              refine ct_158 (by omega) hT hx (fun _ h17 => ?_) (fun h17 => ?_)
              · have k1 := h17
                refine And.intro (fun h => absurd h (by decide)) (fun _ => ?_)
                refine And.intro (rfl) ?_
                refine And.intro (rfl) ?_
                refine And.intro (⟨rfl, by have := hx.2.1; have := hx.2.2.1; have := hT.1; omega⟩) ?_
                refine And.intro (fun h18 => ?_) (fun h18 => ?_)
                · refine And.intro (fun h => absurd h (by decide)) (fun _ => ?_)
                  refine And.intro (rfl) ?_
                  refine And.intro (rfl) ?_
                  refine And.intro (⟨rfl, by have := hx.2.1; have := hx.2.2.1; have := hT.1; omega⟩) ?_
                  refine And.intro (rfl) ?_
                  refine ct_156 (by omega) hT hx (by omega) (fun mw19 h20 h21 => ?_)
                  have fr := fr.trans (fr_t.P h20)
                  have hx : hTx mw19 K A V N (q + 1) 3 (A (q + 1)) := by rw [if_pos rfl, if_pos rfl, ax] at h21; exact h21
                  have nz : (3 : Int) ≠ 0 := by omega
                  have cn := fr.1
                  have cs := fr.2.1
                  refine And.intro (rfl) ?_
                  refine And.intro (fun _ => ?_) (fun h => absurd h (by have := hx.2.2.2.1; have := hx.2.2.2.2.1; omega))
                  refine ih10 _ ?_ _ _ _ _ (0) (c) (b) ((q + 1)) (3) ((A (q + 1))) (0) (ls) (e) _ (Eq.refl _) ?_ ?_ ?_ ?_ ?_ ?_ ?_ ?_
                  · omega
                  · refine Or.inr ⟨nz, rfl, ?_⟩
                    first
                      | (rw [← hS]; exact p_ls2 (by omega) (by omega))
                      | (rw [← hS]; exact p_ls3 (by omega) gb)
                      | (rw [← hS]; exact p_ls4 (by omega) gb (by omega) (by omega))
                      | (rw [← hS]; exact p_ls5 (by omega) gb (by omega) (by omega))
                      | (rw [← hS, p_ls6 (by omega) gb (by omega)]; exact p_bd_l eL)
                  · exact hx
                  · exact ⟨fun z => absurd z nz, by omega⟩
                  · exact ⟨hcb.1, fun z => absurd z nz⟩
                  · exact hL.fr fr (by omega)
                  · exact hF.fr fr (by omega)
                  · exact ⟨by rw [fr.2.2.1 3 _ (by omega) (by omega) (by omega)]; exact tz.1, by rw [fr.2.2.1 3 _ (by omega) (by omega) (by omega)]; exact tz.2⟩
                  · exact ((hR.P fr).mono (by rw [if_neg nz]; omega) (by rw [if_neg nz]; omega))
                · refine And.intro (rfl) ?_
                  refine And.intro (rfl) ?_
                  refine And.intro (⟨rfl, by have := hx.2.1; have := hx.2.2.1; have := hT.1; omega⟩) ?_
                  refine And.intro (fun h22 => ?_) (fun h22 => ?_)
                  · refine And.intro (fun _ => ?_) (fun h => absurd h (by decide))
                    refine And.intro (rfl) ?_
                    refine And.intro (rfl) ?_
                    refine And.intro (⟨rfl, by have := hx.2.1; have := hx.2.2.1; have := hT.1; omega⟩) ?_
                    refine And.intro (rfl) ?_
                    refine ct_156 (by omega) hT hx (by omega) (fun mw23 h24 h25 => ?_)
                    have fr := fr.trans (fr_t.P h24)
                    have hx : hTx mw23 K A V N (q + 1) 5 (A (q + 1)) := by rw [if_pos rfl, if_pos rfl, ax] at h25; exact h25
                    have nz : (5 : Int) ≠ 0 := by omega
                    have cn := fr.1
                    have cs := fr.2.1
                    refine And.intro (rfl) ?_
                    refine And.intro (fun _ => ?_) (fun h => absurd h (by have := hx.2.2.2.1; have := hx.2.2.2.2.1; omega))
                    refine ih10 _ ?_ _ _ _ _ (0) (c) (b) ((q + 1)) (5) ((A (q + 1))) (0) (ls) (e) _ (Eq.refl _) ?_ ?_ ?_ ?_ ?_ ?_ ?_ ?_
                    · omega
                    · refine Or.inr ⟨nz, rfl, ?_⟩
                      first
                        | (rw [← hS]; exact p_ls2 (by omega) (by omega))
                        | (rw [← hS]; exact p_ls3 (by omega) gb)
                        | (rw [← hS]; exact p_ls4 (by omega) gb (by omega) (by omega))
                        | (rw [← hS]; exact p_ls5 (by omega) gb (by omega) (by omega))
                        | (rw [← hS, p_ls6 (by omega) gb (by omega)]; exact p_bd_l eL)
                    · exact hx
                    · exact ⟨fun z => absurd z nz, by omega⟩
                    · exact ⟨hcb.1, fun z => absurd z nz⟩
                    · exact hL.fr fr (by omega)
                    · exact hF.fr fr (by omega)
                    · exact ⟨by rw [fr.2.2.1 3 _ (by omega) (by omega) (by omega)]; exact tz.1, by rw [fr.2.2.1 3 _ (by omega) (by omega) (by omega)]; exact tz.2⟩
                    · exact ((hR.P fr).mono (by rw [if_neg nz]; omega) (by rw [if_neg nz]; omega))
                  · refine And.intro (fun h => absurd h (by decide)) (fun _ => ?_)
                    refine And.intro (rfl) ?_
                    refine And.intro (rfl) ?_
                    refine And.intro (⟨rfl, by have := hx.2.1; have := hx.2.2.1; have := hT.1; omega⟩) ?_
                    refine And.intro (rfl) ?_
                    refine ct_156 (by omega) hT hx (by omega) (fun mw26 h27 h28 => ?_)
                    have fr := fr.trans (fr_t.P h27)
                    have hx : hTx mw26 K A V N (q + 1) 3 (A (q + 1)) := by rw [if_pos rfl, if_pos rfl, ax] at h28; exact h28
                    have nz : (3 : Int) ≠ 0 := by omega
                    have cn := fr.1
                    have cs := fr.2.1
                    refine And.intro (rfl) ?_
                    refine And.intro (fun _ => ?_) (fun h => absurd h (by have := hx.2.2.2.1; have := hx.2.2.2.2.1; omega))
                    refine ih10 _ ?_ _ _ _ _ (0) (c) (b) ((q + 1)) (3) ((A (q + 1))) (0) (ls) (e) _ (Eq.refl _) ?_ ?_ ?_ ?_ ?_ ?_ ?_ ?_
                    · omega
                    · refine Or.inr ⟨nz, rfl, ?_⟩
                      first
                        | (rw [← hS]; exact p_ls2 (by omega) (by omega))
                        | (rw [← hS]; exact p_ls3 (by omega) gb)
                        | (rw [← hS]; exact p_ls4 (by omega) gb (by omega) (by omega))
                        | (rw [← hS]; exact p_ls5 (by omega) gb (by omega) (by omega))
                        | (rw [← hS, p_ls6 (by omega) gb (by omega)]; exact p_bd_l eL)
                    · exact hx
                    · exact ⟨fun z => absurd z nz, by omega⟩
                    · exact ⟨hcb.1, fun z => absurd z nz⟩
                    · exact hL.fr fr (by omega)
                    · exact hF.fr fr (by omega)
                    · exact ⟨by rw [fr.2.2.1 3 _ (by omega) (by omega) (by omega)]; exact tz.1, by rw [fr.2.2.1 3 _ (by omega) (by omega) (by omega)]; exact tz.2⟩
                    · exact ((hR.P fr).mono (by rw [if_neg nz]; omega) (by rw [if_neg nz]; omega))
              · have g1 := h17
                refine And.intro (fun _ => ?_) (fun h => absurd h (by decide))
                refine And.intro (fun _ => ?_) (fun h => absurd h (by decide))
                refine And.intro (rfl) ?_
                refine And.intro (rfl) ?_
                refine And.intro (⟨rfl, by have := hx.2.1; have := hx.2.2.1; have := hT.1; omega⟩) ?_
                refine And.intro (rfl) ?_
                refine ct_156 (by omega) hT hx (by omega) (fun mw29 h30 h31 => ?_)
                have fr := fr.trans (fr_t.P h30)
                have hx : hTx mw29 K A V N (q + 1) 5 (A (q + 1)) := by rw [if_pos rfl, if_pos rfl, ax] at h31; exact h31
                have nz : (5 : Int) ≠ 0 := by omega
                have cn := fr.1
                have cs := fr.2.1
                refine And.intro (rfl) ?_
                refine And.intro (fun _ => ?_) (fun h => absurd h (by have := hx.2.2.2.1; have := hx.2.2.2.2.1; omega))
                refine ih10 _ ?_ _ _ _ _ (0) (c) (b) ((q + 1)) (5) ((A (q + 1))) (0) (ls) (e) _ (Eq.refl _) ?_ ?_ ?_ ?_ ?_ ?_ ?_ ?_
                · omega
                · refine Or.inr ⟨nz, rfl, ?_⟩
                  first
                    | (rw [← hS]; exact p_ls2 (by omega) (by omega))
                    | (rw [← hS]; exact p_ls3 (by omega) gb)
                    | (rw [← hS]; exact p_ls4 (by omega) gb (by omega) (by omega))
                    | (rw [← hS]; exact p_ls5 (by omega) gb (by omega) (by omega))
                    | (rw [← hS, p_ls6 (by omega) gb (by omega)]; exact p_bd_l eL)
                · exact hx
                · exact ⟨fun z => absurd z nz, by omega⟩
                · exact ⟨hcb.1, fun z => absurd z nz⟩
                · exact hL.fr fr (by omega)
                · exact hF.fr fr (by omega)
                · exact ⟨by rw [fr.2.2.1 3 _ (by omega) (by omega) (by omega)]; exact tz.1, by rw [fr.2.2.1 3 _ (by omega) (by omega) (by omega)]; exact tz.2⟩
                · exact ((hR.P fr).mono (by rw [if_neg nz]; omega) (by rw [if_neg nz]; omega))
          · refine And.intro (rfl) ?_
            refine ct_155 (by omega) hT hx (fun mw32 h33 h34 => ?_)
            have fr := fr.trans (fr_t.P h33)
            have hx : hTx mw32 K A V N (q + 1) (x_wr (K (q + 1))) (A (q + 1)) := h34
            have nz : x_wr (K (q + 1)) ≠ 0 := by unfold x_wr; omega
            have cn := fr.1
            have cs := fr.2.1
            have gb : ¬ p_beg K (q + 1) := by rcases hv with z | z
                                              · exact z.2
                                              · omega
            refine And.intro (rfl) ?_
            refine And.intro (fun _ => ?_) (fun h => absurd h (by have := hx.2.2.2.1; have := hx.2.2.2.2.1; omega))
            refine ih10 _ ?_ _ _ _ _ (0) (c) (b) ((q + 1)) ((x_wr (K (q + 1)))) ((A (q + 1))) (0) (ls) (e) _ (Eq.refl _) ?_ ?_ ?_ ?_ ?_ ?_ ?_ ?_
            · omega
            · refine Or.inr ⟨nz, rfl, ?_⟩
              first
                | (rw [← hS]; exact p_ls2 (by omega) (by omega))
                | (rw [← hS]; exact p_ls3 (by omega) gb)
                | (rw [← hS]; exact p_ls4 (by omega) gb (by omega) (by omega))
                | (rw [← hS]; exact p_ls5 (by omega) gb (by omega) (by omega))
                | (rw [← hS, p_ls6 (by omega) gb (by omega)]; exact p_bd_l eL)
            · exact hx
            · exact ⟨fun z => absurd z nz, by omega⟩
            · exact ⟨hcb.1, fun z => absurd z nz⟩
            · exact hL.fr fr (by omega)
            · exact hF.fr fr (by omega)
            · exact ⟨by rw [fr.2.2.1 3 _ (by omega) (by omega) (by omega)]; exact tz.1, by rw [fr.2.2.1 3 _ (by omega) (by omega) (by omega)]; exact tz.2⟩
            · exact ((hR.P fr).mono (by rw [if_neg nz]; omega) (by rw [if_neg nz]; omega))
        refine am_go 400 [10, 76, 241] (am_wpc_cm _ _ _) wf_45 ?_
        rcases hS0 with ⟨f0, hms, hS, hnq⟩ | ⟨nz, hms, hE⟩
        · subst f0
          have hqN := hx.2.2.1
          obtain ⟨n1, en⟩ : ∃ k, n = k + 1 := ⟨n - 1, by omega⟩
          subst en
          have htb := hcb.2 rfl
          subst htb
          have hR : fr_R (2 + 5 * i) (30 + 80 * i) m mw := by simpa using hR
          have rr1 := hR.1
          have rr2 := hR.2.1
          have hi : i = (ls.length : Int) ∧ ls.length ≤ 6 := ⟨hi0.1 rfl, hi0.2.1⟩
          refine And.intro (rfl) ?_
          refine And.intro (fun h => absurd h (by have := hx.2.2.2.1; have := hx.2.2.2.2.1; omega)) (fun _ => ?_)
          refine And.intro (rfl) ?_
          refine ct_158 (by omega) hT hx (fun _ h35 => ?_) (fun h35 => ?_)
          · have k1 := h35
            refine And.intro (fun _ => ?_) (fun h => absurd h (by decide))
            have eR : RES = .inr (q, ls) := by rw [← hS, p_ls1 (by omega)]
            have fl := hF.fr fr (by omega)
            have hl2 := hL.fr fr (by omega)
            exact lp_45e (by omega) hx hl2 hlo hi.2 fl okw ⟨by rw [fr.2.2.1 3 _ (by omega) (by omega) (by omega)]; exact tz.1, by rw [fr.2.2.1 3 _ (by omega) (by omega) (by omega)]; exact tz.2⟩ hi.1 (by have := hi.2; omega) (fun m' r a1 a2 a3 a4 a5 => hQ m' r q ls (fin m' (by have := hi.2; omega) hR fr a1 a2 a3 a4) eR a5)
          · have g1 := h35
            refine And.intro (fun h => absurd h (by decide)) (fun _ => ?_)
            refine And.intro (rfl) ?_
            refine ct_159 (by omega) hT hx (by omega) (fun h => absurd rfl h) (fun _ h36 mw38 h40 h41 => ?_) (fun _ h36 mw39 h40 h41 => ?_)
            · have fr := fr.trans (fr_t.P h40)
              have hx := h41
              have cn := fr.1
              have cs := fr.2.1
              have k2 := h36
              refine And.intro (rfl) ?_
              refine ct_158 (by omega) hT hx (fun _ h42 => ?_) (fun h42 => ?_)
              · have k3 := h42
                refine And.intro (fun _ => ?_) (fun h => absurd h (by decide))
                refine K76 _ (n1) _ ?_ ?_ ?_ ?_ ?_ ?_ ?_ ?_ ?_ ?_
                · unfold p_beg; omega
                · exact fr
                · exact hx
                · omega
                · exact hi
                · exact hS
                · first | omega | (simp only [mS_iff, eq_self, Int.reduceEq, true_and, and_true, false_and, and_false, and_self, ↓reduceIte] at *; omega)
                · first | omega | (simp only [mS_iff, eq_self, Int.reduceEq, true_and, and_true, false_and, and_false, and_self, ↓reduceIte] at *; omega)
                · exact rfl
                · exact hR
              · have g3 := h42
                refine And.intro (fun h => absurd h (by decide)) (fun _ => ?_)
                refine And.intro (rfl) ?_
                refine ct_158 (by omega) hT hx (fun _ h43 => ?_) (fun h43 => ?_)
                · have k4 := h43
                  refine And.intro (fun _ => ?_) (fun h => absurd h (by decide))
                  refine K76 _ (n1) _ ?_ ?_ ?_ ?_ ?_ ?_ ?_ ?_ ?_ ?_
                  · unfold p_beg; omega
                  · exact fr
                  · exact hx
                  · omega
                  · exact hi
                  · exact hS
                  · first | omega | (simp only [mS_iff, eq_self, Int.reduceEq, true_and, and_true, false_and, and_false, and_self, ↓reduceIte] at *; omega)
                  · first | omega | (simp only [mS_iff, eq_self, Int.reduceEq, true_and, and_true, false_and, and_false, and_self, ↓reduceIte] at *; omega)
                  · exact rfl
                  · exact hR
                · have g4 := h43
                  refine And.intro (fun h => absurd h (by decide)) (fun _ => ?_)
                  refine And.intro (rfl) ?_
                  refine ct_158 (by omega) hT hx (fun _ h44 => ?_) (fun h44 => ?_)
                  · have k5 := h44
                    refine And.intro (fun _ => ?_) (fun h => absurd h (by decide))
                    refine K76 _ (n1) _ ?_ ?_ ?_ ?_ ?_ ?_ ?_ ?_ ?_ ?_
                    · unfold p_beg; omega
                    · exact fr
                    · exact hx
                    · omega
                    · exact hi
                    · exact hS
                    · first | omega | (simp only [mS_iff, eq_self, Int.reduceEq, true_and, and_true, false_and, and_false, and_self, ↓reduceIte] at *; omega)
                    · first | omega | (simp only [mS_iff, eq_self, Int.reduceEq, true_and, and_true, false_and, and_false, and_self, ↓reduceIte] at *; omega)
                    · exact rfl
                    · exact hR
                  · have g5 := h44
                    refine And.intro (fun h => absurd h (by decide)) (fun _ => ?_)
                    refine And.intro (rfl) ?_
                    refine ct_158 (by omega) hT hx (fun _ h45 => ?_) (fun h45 => ?_)
                    · have k6 := h45
                      refine And.intro (fun h => absurd h (by decide)) (fun _ => ?_)
                      refine K76 _ (n1) _ ?_ ?_ ?_ ?_ ?_ ?_ ?_ ?_ ?_ ?_
                      · unfold p_beg; omega
                      · exact fr
                      · exact hx
                      · omega
                      · exact hi
                      · exact hS
                      · first | omega | (simp only [mS_iff, eq_self, Int.reduceEq, true_and, and_true, false_and, and_false, and_self, ↓reduceIte] at *; omega)
                      · first | omega | (simp only [mS_iff, eq_self, Int.reduceEq, true_and, and_true, false_and, and_false, and_self, ↓reduceIte] at *; omega)
                      · exact rfl
                      · exact hR
                    · have g6 := h45
                      refine And.intro (fun _ => ?_) (fun h => absurd h (by decide))
                      refine K76 _ (n1) _ ?_ ?_ ?_ ?_ ?_ ?_ ?_ ?_ ?_ ?_
                      · unfold p_beg; omega
                      · exact fr
                      · exact hx
                      · omega
                      · exact hi
                      · exact hS
                      · first | omega | (simp only [mS_iff, eq_self, Int.reduceEq, true_and, and_true, false_and, and_false, and_self, ↓reduceIte] at *; omega)
                      · first | omega | (simp only [mS_iff, eq_self, Int.reduceEq, true_and, and_true, false_and, and_false, and_self, ↓reduceIte] at *; omega)
                      · exact rfl
                      · exact hR
            · have fr := fr.trans (fr_t.P h40)
              have hx := h41
              have nz : x_wr (K q) ≠ 0 := by unfold x_wr; omega
              have er := h36
              have cn := fr.1
              have cs := fr.2.1
              refine And.intro (rfl) ?_
              refine ct_158 (by omega) hT hx (fun h => absurd h nz) (fun _ => ?_)
              refine And.intro (fun h => absurd h (by decide)) (fun _ => ?_)
              refine And.intro (rfl) ?_
              refine ct_158 (by omega) hT hx (fun h => absurd h nz) (fun _ => ?_)
              refine And.intro (fun h => absurd h (by decide)) (fun _ => ?_)
              refine And.intro (rfl) ?_
              refine ct_158 (by omega) hT hx (fun h => absurd h nz) (fun _ => ?_)
              refine And.intro (fun h => absurd h (by decide)) (fun _ => ?_)
              refine And.intro (rfl) ?_
              refine ct_158 (by omega) hT hx (fun h => absurd h nz) (fun _ => ?_)
              refine And.intro (fun _ => ?_) (fun h => absurd h (by decide))
              refine am_go 400 [10, 76, 241] (am_wpc_cm _ _ _) wf_45 ?_
              refine And.intro (rfl) ?_
              refine And.intro (fun _ => ?_) (fun h => absurd h (by have := hx.2.2.2.1; have := hx.2.2.2.2.1; omega))
              skip
              refine And.intro (fun h46 => ?_) (fun h46 => ?_)
              · refine And.intro (rfl) ?_
                refine And.intro (fun _ => ?_) (fun h => absurd h (by have := hx.2.2.2.1; have := hx.2.2.2.2.1; omega))
                refine ih10 _ ?_ _ _ _ _ (0) (c) (b) (q) ((x_wr (K q))) ((A q)) (0) (ls) (e) _ (Eq.refl _) ?_ ?_ ?_ ?_ ?_ ?_ ?_ ?_
                · omega
                · refine Or.inr ⟨nz, rfl, ?_⟩
                  first
                    | (rw [← hS]; exact p_ls2 (by omega) (by omega))
                    | (rw [← hS]; exact p_ls3 (by omega) gb)
                    | (rw [← hS]; exact p_ls4 (by omega) gb (by omega) (by omega))
                    | (rw [← hS]; exact p_ls5 (by omega) gb (by omega) (by omega))
                    | (rw [← hS, p_ls6 (by omega) gb (by omega)]; exact p_bd_l eL)
                · exact hx
                · exact ⟨fun z => absurd z nz, by omega⟩
                · exact ⟨hcb.1, fun z => absurd z nz⟩
                · exact hL.fr fr (by omega)
                · exact hF.fr fr (by omega)
                · exact ⟨by rw [fr.2.2.1 3 _ (by omega) (by omega) (by omega)]; exact tz.1, by rw [fr.2.2.1 3 _ (by omega) (by omega) (by omega)]; exact tz.2⟩
                · exact ((hR.P fr).mono (by rw [if_neg nz]; omega) (by rw [if_neg nz]; omega))
              · refine And.intro (rfl) ?_
                refine ct_158 (by omega) hT hx (fun h => absurd h nz) (fun _ => ?_)
                refine And.intro (fun _ => ?_) (fun h => absurd h (by decide))
                refine And.intro (fun _ => ?_) (fun h => absurd h (by decide))
                refine And.intro (rfl) ?_
                refine And.intro (rfl) ?_
                refine And.intro (⟨rfl, by have := hx.2.1; have := hx.2.2.1; have := hT.1; omega⟩) ?_
                refine And.intro (rfl) ?_
                refine ct_156 (by omega) hT hx (by omega) (fun mw47 h48 h49 => ?_)
                have fr := fr.trans (fr_t.P h48)
                have hx : hTx mw47 K A V N q (x_wr (K q)) (A q) := by rw [if_neg nz, if_neg nz] at h49; exact h49
                have cn := fr.1
                have cs := fr.2.1
                refine And.intro (rfl) ?_
                refine And.intro (fun _ => ?_) (fun h => absurd h (by have := hx.2.2.2.1; have := hx.2.2.2.2.1; omega))
                refine ih10 _ ?_ _ _ _ _ (0) (c) (b) (q) ((x_wr (K q))) ((A q)) (0) (ls) (e) _ (Eq.refl _) ?_ ?_ ?_ ?_ ?_ ?_ ?_ ?_
                · omega
                · refine Or.inr ⟨nz, rfl, ?_⟩
                  first
                    | (rw [← hS]; exact p_ls2 (by omega) (by omega))
                    | (rw [← hS]; exact p_ls3 (by omega) gb)
                    | (rw [← hS]; exact p_ls4 (by omega) gb (by omega) (by omega))
                    | (rw [← hS]; exact p_ls5 (by omega) gb (by omega) (by omega))
                    | (rw [← hS, p_ls6 (by omega) gb (by omega)]; exact p_bd_l eL)
                · exact hx
                · exact ⟨fun z => absurd z nz, by omega⟩
                · exact ⟨hcb.1, fun z => absurd z nz⟩
                · exact hL.fr fr (by omega)
                · exact hF.fr fr (by omega)
                · exact ⟨by rw [fr.2.2.1 3 _ (by omega) (by omega) (by omega)]; exact tz.1, by rw [fr.2.2.1 3 _ (by omega) (by omega) (by omega)]; exact tz.2⟩
                · exact ((hR.P fr).mono (by rw [if_neg nz]; omega) (by rw [if_neg nz]; omega))
        · have hR : fr_R (2 + 5 * i + 5) (30 + 80 * i + 80) m mw := by simpa [nz] using hR
          refine And.intro (rfl) ?_
          refine And.intro (fun _ => ?_) (fun h => absurd h (by have := hx.2.2.2.1; have := hx.2.2.2.2.1; omega))
          refine am_go 400 [10, 76, 241] (am_wpc_cm _ _ _) wf_45 ?_
          refine And.intro (rfl) ?_
          refine And.intro (fun h => absurd h (by have := hx.2.2.2.1; have := hx.2.2.2.2.1; omega)) (fun _ => ?_)
          exact hQe _ _ _ _ ((hR.P fr).mono (by omega) (by omega)) hx nz hE
    refine K10 _ _ _ _ _ (n0) (0) (0) (q0) (0) (p) (n0) ([]) (fun _ => m 0 0) _ (Eq.refl _) ?_ ?_ ?_ ?_ ?_ ?_ ?_ ?_
    · exact Or.inl ⟨rfl, rfl, eRES.symm, by have := hx.2.2.1; omega⟩
    · exact hx
    · simp
    · simp [p_tb]
    · exact hLs.nil (by omega)
    · exact hF0
    · exact tz1
    · simpa using hR0
  refine am_go 400 [10] (am_wpc_cm _ _ _) wf_45 ?_
  refine ct_46 (by omega) hT hx (by omega) (fun mw1 r3 q4 f5 p6 h7 h8 h9 eF => ?_) (fun mw2 r3 q4 w h7 h8 eF hF => ?_)
  · have fr := h7
    have hx := h8
    have nz := h9
    refine am_go 400 [] (am_wpc_cm _ _ _) wf_45 ?_
    refine And.intro (rfl) ?_
    refine And.intro (fun _ => ?_) (fun h => absurd h (by have := hx.2.2.2.1; have := hx.2.2.2.2.1; omega))
    refine And.intro (rfl) ?_
    refine And.intro (fun h => absurd h (by have := hx.2.2.2.1; have := hx.2.2.2.2.1; omega)) (fun _ => ?_)
    exact hQe0 _ _ _ _ (fr.R.mono (by omega) (by omega)) hx nz (by rw [eRES0]; unfold p_read; exact p_bd_l eF)
  · have fr := h7
    have hx := h8
    exact LP _ _ _ _ hx eF hF fr.R ⟨by rw [fr.2.2.1 3 _ (by omega) (by omega) (by omega)]; exact tz0.1, by rw [fr.2.2.1 3 _ (by omega) (by omega) (by omega)]; exact tz0.2⟩
