/-! needs: a02 -/
/-! CONTRACTS: a field of the house; by tools/gena3.py -/
set_option maxRecDepth 100000
theorem p_f1 {K A V : Int → Int} {q : Int} (h : 0 ≤ K q ∧ K q < 9) : p_field K A V q = .inr (q + 1, fun k => if k = 3 then K q else if k = 4 then -1 else 0) := by unfold p_field; rw [if_pos h]
theorem p_f2 {K A V : Int → Int} {q : Int} (h : K q = 33) (g : 25 ≤ K (q + 1) ∧ K (q + 1) < 29) : p_field K A V q = p_two K A (1 + (K (q + 1) - 25)) (p_ln K (q + 1 + 1)).2 0 (p_ln K (q + 1 + 1)).1 := by unfold p_field; rw [if_neg (by omega), if_pos h, p_bd_r (p_want_y g)]
theorem p_f2e {K A V : Int → Int} {q : Int} (h : K q = 33) (g : ¬ (25 ≤ K (q + 1) ∧ K (q + 1) < 29)) : p_field K A V q = .inl (x_wr (K (q + 1)), A (q + 1)) := by unfold p_field; rw [if_neg (by omega), if_pos h, p_bd_l (p_want_n g)]
theorem p_f3 {K A V : Int → Int} {q : Int} (h : K q = 35) : p_field K A V q = p_two K A 5 0 0 (q + 1) := by unfold p_field; rw [if_neg (by omega), if_neg (by omega), if_pos h]
theorem p_f4e {K A V : Int → Int} {q : Int} (h : ¬ (0 ≤ K q ∧ K q < 9)) (h2 : K q ≠ 33) (h3 : K q ≠ 35) (g : ¬ (36 ≤ K q ∧ K q < 40)) : p_field K A V q = .inl (x_wr (K q), A q) := by unfold p_field; rw [if_neg h, if_neg h2, if_neg h3, p_bd_l (p_want_n g)]
theorem p_f4 {K A V : Int → Int} {q : Int} (g : 36 ≤ K q ∧ K q < 40) : p_field K A V q = p_bar K A V (6 + (K q - 36)) (q + 1) := by unfold p_field; rw [if_neg (by omega), if_neg (by omega), if_neg (by omega), p_bd_r (p_want_y g)]
theorem p_f5 {K A V : Int → Int} {q : Int} (g : 36 ≤ K q ∧ K q < 39) (h : K (q + 1) ≠ 40) : p_field K A V q = p_two K A (6 + (K q - 36)) 0 6 (q + 1) := by rw [p_f4 (by omega)]; unfold p_bar; rw [if_neg (by omega), if_pos (by omega)]
theorem p_f6 {K A V : Int → Int} {q : Int} (g : K q = 39) : p_field K A V q = p_two K A (6 + (K q - 36)) 0 0 (q + 1) := by rw [p_f4 (by omega)]; unfold p_bar; rw [if_neg (by omega), if_neg (by omega)]
theorem p_f7 {K A V : Int → Int} {q : Int} (g : 36 ≤ K q ∧ K q < 39) (h : K (q + 1) = 40) : p_field K A V q = p_bd (p_num K A V 4 1 (q + 1 + 1)) (fun q' n => p_two K A (6 + (K q - 36)) 0 n q') := by rw [p_f4 (by omega)]; unfold p_bar; rw [if_pos (by omega)]
theorem p_num_b {K A V : Int → Int} {l v q q' n : Int} (h : p_num K A V l v q = .inr (q', n)) (hl : 0 ≤ l) : l ≤ n ∧ n ≤ 12 := by
  unfold p_num at h
  by_cases a : K q = 70
  · rw [if_pos a] at h
    by_cases b : V q < l ∨ 12 < V q ∨ (v = 1 ∧ V q % 2 = 1)
    · rw [if_pos b] at h; cases h
    · rw [if_neg b] at h; cases h; omega
  · rw [if_neg a] at h; cases h
theorem p_ln_b (K : Int → Int) (q : Int) : 0 ≤ (p_ln K q).2 ∧ (p_ln K q).2 ≤ 2 := by unfold p_ln; by_cases h : K q = 41 <;> by_cases g : K q = 42 <;> simp [h, g]
theorem ct_46 {d : Nat} {m : aM} {Q : aO → aM → Prop} {K A V : Int → Int} {N q p : Int} (hd : 6 ≤ d) (hT : xT K A V N) (hx : hTx m K A V N q 0 p) (h0 : 77 ≤ m 0 0 ∧ m 0 0 + 2 ≤ amC ∧ 0 ≤ m 0 1 ∧ m 0 1 + 30 ≤ amS) (hQe : ∀ m' r q' f' p', fr_P 2 30 m m' → hTx m' K A V N q' f' p' → f' ≠ 0 → p_field K A V q = .inl (f', p') → Q (.inl (some (aR r))) m') (hQ : ∀ m' r q' w, fr_P 2 30 m m' → hTx m' K A V N q' 0 p → p_field K A V q = .inr (q', w) → hNF m m' r w → Q (.inl (some (aR r))) m') : am_wpc am_G am_T d 46 [aR 13] m Q := by
  have fr := fr_P.rfl m
  have cn := fr.1
  have cs := fr.2.1
  refine am_in rfl hd (fun d hd => ?_)
  refine am_go 400 [129] (am_wpc_cm _ _ _) wf_46 ?_
  refine And.intro (rfl) ?_
  refine ct_153 (by omega) hT hx (by omega) (fun _ h1 => ?_) (fun h1 => ?_)
  · have k1 := h1
    refine And.intro (fun h => absurd h (by decide)) (fun _ => ?_)
    refine And.intro (by first | omega | (simp only [mS_iff, eq_self, Int.reduceEq, true_and, and_true, false_and, and_false, and_self, ↓reduceIte]; omega) | (simp only [mS_iff, eq_self, Int.reduceEq, true_and, and_true, false_and, and_false, and_self, ↓reduceIte] at *; omega)) ?_
    generalize h4 : mN m 5 6 = mw2
    generalize h5 : m 0 0 + 1 = r3
    obtain ⟨n1, n2, n3, n4, n5, n6⟩ := mN_f h4 h5 (by omega)
    have hx := hx.keep (fun x j a b => n5 x j (by have := h0; omega) (by omega))
    have fr := fr_P.rfl mw2
    have cn := fr.1
    have cs := fr.2.1
    refine And.intro (rfl) ?_
    refine ct_154 (by omega) hT hx (by omega) (by omega) (fun h => absurd rfl h) (fun _ h6 mw8 h10 h11 => ?_) (fun _ h6 mw9 h10 h11 => ?_)
    · have fr := fr.trans (fr_t.P h10)
      have hx := h11
      have cn := fr.1
      have cs := fr.2.1
      have k2 := h6
      refine And.intro (show 0 < r3 by first | omega | (simp only [mS_iff, eq_self, Int.reduceEq, true_and, and_true, false_and, and_false, and_self, ↓reduceIte]; omega) | (simp only [mS_iff, eq_self, Int.reduceEq, true_and, and_true, false_and, and_false, and_self, ↓reduceIte] at *; omega)) ?_
      refine ct_164 (by omega) (by omega) (by omega) (by first | exact n3 | (rw [fr.2.2.1 _ _ (by omega) (by omega) (by omega)]; exact n3)) (fun mw12 h13 h14 h15 h16 h17 h18 h19 h20 h21 h22 => ?_)
      obtain ⟨y1, y2, y3, y4⟩ := h13
      obtain ⟨z1, z2, z3, z4⟩ := fr
      have z0 := hx.2.2.1
      have fX : fr_P 2 30 m mw12 := ⟨by omega, by omega, fun x j a b c => by rw [y3 x j a (by omega) (by omega)]; exact (z3 x j a (by omega) c).trans (n5 x j a (by omega)), fun j a b => by rw [y4 j a b]; exact (z4 j a b).trans (n6 j a b)⟩
      have hX : hTx mw12 K A V N _ _ _ := hx.keep (fun x j a b => by rw [y3 x j (by omega) (by omega) (by omega)])
      refine hQ _ _ _ _ fX hX (p_f1 (by omega)) ?_
      exact ⟨⟨by omega, by omega⟩, h15, by rw [h16]; simp, by rw [h17]; simp, by rw [h18]; simp, by rw [h19]; simp, by rw [h20]; simp, ⟨by rw [h21]; omega, by rw [h21]; omega, by rw [h21]; exact h22⟩⟩
    · have fr := fr.trans (fr_t.P h10)
      have hx := h11
      have nz : x_wr (K q) ≠ 0 := by unfold x_wr; omega
      have er := h6
      have cn := fr.1
      have cs := fr.2.1
      refine And.intro (show 0 < r3 by first | omega | (simp only [mS_iff, eq_self, Int.reduceEq, true_and, and_true, false_and, and_false, and_self, ↓reduceIte]; omega) | (simp only [mS_iff, eq_self, Int.reduceEq, true_and, and_true, false_and, and_false, and_self, ↓reduceIte] at *; omega)) ?_
      refine ct_164 (by omega) (by omega) (by omega) (by first | exact n3 | (rw [fr.2.2.1 _ _ (by omega) (by omega) (by omega)]; exact n3)) (fun mw23 h24 h25 h26 h27 h28 h29 h30 h31 h32 h33 => ?_)
      obtain ⟨y1, y2, y3, y4⟩ := h24
      obtain ⟨z1, z2, z3, z4⟩ := fr
      have z0 := hx.2.2.1
      have fX : fr_P 2 30 m mw23 := ⟨by omega, by omega, fun x j a b c => by rw [y3 x j a (by omega) (by omega)]; exact (z3 x j a (by omega) c).trans (n5 x j a (by omega)), fun j a b => by rw [y4 j a b]; exact (z4 j a b).trans (n6 j a b)⟩
      have hX : hTx mw23 K A V N _ _ _ := hx.keep (fun x j a b => by rw [y3 x j (by omega) (by omega) (by omega)])
      exact absurd k1 er
  · have g1 := h1
    refine And.intro (fun _ => ?_) (fun h => absurd h (by decide))
    refine And.intro (rfl) ?_
    refine ct_157 (by omega) hT hx (by omega) (fun _ h34 mw35 h36 h37 => ?_) (fun h34 => ?_)
    · have fr := fr.trans (fr_t.P h36)
      have hx := h37
      have cn := fr.1
      have cs := fr.2.1
      have k2 := h34
      refine And.intro (fun h => absurd h (by decide)) (fun _ => ?_)
      refine And.intro (rfl) ?_
      refine ct_154 (by omega) hT hx (by omega) (by omega) (fun h => absurd rfl h) (fun _ h38 mw40 h42 h43 => ?_) (fun _ h38 mw41 h42 h43 => ?_)
      · have fr := fr.trans (fr_t.P h42)
        have hx := h43
        have cn := fr.1
        have cs := fr.2.1
        have k3 := h38
        refine And.intro (show -2147483648 ≤ 1 + (K (q + 1) - 25) ∧ 1 + (K (q + 1) - 25) ≤ 2147483647 by first | omega | (simp only [mS_iff, eq_self, Int.reduceEq, true_and, and_true, false_and, and_false, and_self, ↓reduceIte]; omega) | (simp only [mS_iff, eq_self, Int.reduceEq, true_and, and_true, false_and, and_false, and_self, ↓reduceIte] at *; omega)) ?_
        refine ct_47 (by omega) hT hx (fun h => absurd rfl h) (fun _ mw44 h45 h46 => ?_)
        have fr := fr.trans (fr_t.P h45)
        have hx := h46
        have cn := fr.1
        have cs := fr.2.1
        have z0 := hx.2.2.1
        have lb := p_ln_b K (q + 1 + 1)
        have e : p_field K A V q = p_two K A (1 + (K (q + 1) - 25)) ((p_ln K ((q + 1) + 1)).2) 0 ((p_ln K ((q + 1) + 1)).1) := by first
          | exact p_f2 k2 k3
          | exact p_f3 (by omega)
          | exact p_f5 (by omega) (by omega)
          | exact p_f6 (by omega)
          | (rw [p_f7 (by omega) (by omega)]; exact p_bd_r en)
        rw [e] at hQ hQe
        skip
        exact lp_46 (by omega) hT hx ⟨by omega, by omega, by first | omega | (have := p_num_b en (by omega); omega)⟩ (by omega) (fun m' r q' f' p' a b c e => hQe m' r q' f' p' ((fr.trans a).mono (by omega) (by omega)) b c e) (fun m' r q' w a b c e => hQ m' r q' w ((fr.trans a).mono (by omega) (by omega)) b c ⟨⟨by have := e.1; omega, e.1.2⟩, e.2.1, e.2.2.1, e.2.2.2.1, e.2.2.2.2.1, e.2.2.2.2.2.1, e.2.2.2.2.2.2.1, by obtain ⟨u1, u2, u3⟩ := e.2.2.2.2.2.2.2; exact ⟨by omega, u2, u3⟩⟩)
      · have fr := fr.trans (fr_t.P h42)
        have hx := h43
        have nz : x_wr (K (q + 1)) ≠ 0 := by unfold x_wr; omega
        have er := h38
        have cn := fr.1
        have cs := fr.2.1
        refine And.intro (show -2147483648 ≤ 1 + 0 ∧ 1 + 0 ≤ 2147483647 by first | omega | (simp only [mS_iff, eq_self, Int.reduceEq, true_and, and_true, false_and, and_false, and_self, ↓reduceIte]; omega) | (simp only [mS_iff, eq_self, Int.reduceEq, true_and, and_true, false_and, and_false, and_self, ↓reduceIte] at *; omega)) ?_
        refine ct_47 (by omega) hT hx (fun _ => ?_) (fun h => absurd h nz)
        have z0 := hx.2.2.1
        have e : p_field K A V q = .inl ((x_wr (K (q + 1))), (A (q + 1))) := by first
          | exact p_f2e k2 (by omega)
          | exact p_f4e (by omega) (by omega) (by omega) (by omega)
          | (rw [p_f7 (by omega) (by omega)]; exact p_bd_l en)
        exact lp_46f (by omega) hT hx nz (by omega) (fun m' r a b => hQe m' r _ _ _ ((fr.trans a).mono (by omega) (by omega)) b nz e)
    · have g2 := h34
      refine And.intro (fun _ => ?_) (fun h => absurd h (by decide))
      refine And.intro (rfl) ?_
      refine ct_157 (by omega) hT hx (by omega) (fun _ h47 mw48 h49 h50 => ?_) (fun h47 => ?_)
      · have fr := fr.trans (fr_t.P h49)
        have hx := h50
        have cn := fr.1
        have cs := fr.2.1
        have k3 := h47
        refine And.intro (fun h => absurd h (by decide)) (fun _ => ?_)
        have z0 := hx.2.2.1
        have lb := p_ln_b K (q + 1 + 1)
        have e : p_field K A V q = p_two K A 5 0 0 (q + 1) := by first
          | exact p_f2 k2 k3
          | exact p_f3 (by omega)
          | exact p_f5 (by omega) (by omega)
          | exact p_f6 (by omega)
          | (rw [p_f7 (by omega) (by omega)]; exact p_bd_r en)
        rw [e] at hQ hQe
        skip
        exact lp_46 (by omega) hT hx ⟨by omega, by omega, by first | omega | (have := p_num_b en (by omega); omega)⟩ (by omega) (fun m' r q' f' p' a b c e => hQe m' r q' f' p' ((fr.trans a).mono (by omega) (by omega)) b c e) (fun m' r q' w a b c e => hQ m' r q' w ((fr.trans a).mono (by omega) (by omega)) b c ⟨⟨by have := e.1; omega, e.1.2⟩, e.2.1, e.2.2.1, e.2.2.2.1, e.2.2.2.2.1, e.2.2.2.2.2.1, e.2.2.2.2.2.2.1, by obtain ⟨u1, u2, u3⟩ := e.2.2.2.2.2.2.2; exact ⟨by omega, u2, u3⟩⟩)
      · have g3 := h47
        refine And.intro (fun _ => ?_) (fun h => absurd h (by decide))
        refine And.intro (rfl) ?_
        refine ct_154 (by omega) hT hx (by omega) (by omega) (fun h => absurd rfl h) (fun _ h51 mw53 h55 h56 => ?_) (fun _ h51 mw54 h55 h56 => ?_)
        · have fr := fr.trans (fr_t.P h55)
          have hx := h56
          have cn := fr.1
          have cs := fr.2.1
          have k4 := h51
          refine And.intro (show -2147483648 ≤ 6 + (K q - 36) ∧ 6 + (K q - 36) ≤ 2147483647 by first | omega | (simp only [mS_iff, eq_self, Int.reduceEq, true_and, and_true, false_and, and_false, and_self, ↓reduceIte]; omega) | (simp only [mS_iff, eq_self, Int.reduceEq, true_and, and_true, false_and, and_false, and_self, ↓reduceIte] at *; omega)) ?_
          refine And.intro (fun h57 => ?_) (fun h57 => ?_)
          · refine And.intro (rfl) ?_
            refine And.intro (fun h => absurd h (by have := hx.2.2.2.1; have := hx.2.2.2.2.1; omega)) (fun _ => ?_)
            refine And.intro (fun h58 => ?_) (fun h58 => ?_)
            · have z0 := hx.2.2.1
              have lb := p_ln_b K (q + 1 + 1)
              have e : p_field K A V q = p_two K A (6 + (K q - 36)) 0 0 (q + 1) := by first
                | exact p_f2 k2 k3
                | exact p_f3 (by omega)
                | exact p_f5 (by omega) (by omega)
                | exact p_f6 (by omega)
                | (rw [p_f7 (by omega) (by omega)]; exact p_bd_r en)
              rw [e] at hQ hQe
              skip
              exact lp_46 (by omega) hT hx ⟨by omega, by omega, by first | omega | (have := p_num_b en (by omega); omega)⟩ (by omega) (fun m' r q' f' p' a b c e => hQe m' r q' f' p' ((fr.trans a).mono (by omega) (by omega)) b c e) (fun m' r q' w a b c e => hQ m' r q' w ((fr.trans a).mono (by omega) (by omega)) b c ⟨⟨by have := e.1; omega, e.1.2⟩, e.2.1, e.2.2.1, e.2.2.2.1, e.2.2.2.2.1, e.2.2.2.2.2.1, e.2.2.2.2.2.2.1, by obtain ⟨u1, u2, u3⟩ := e.2.2.2.2.2.2.2; exact ⟨by omega, u2, u3⟩⟩)
            · refine And.intro (rfl) ?_
              refine ct_157 (by omega) hT hx (by omega) (fun _ h59 mw60 h61 h62 => ?_) (fun h59 => ?_)
              · have fr := fr.trans (fr_t.P h61)
                have hx := h62
                have cn := fr.1
                have cs := fr.2.1
                have k5 := h59
                refine And.intro (fun h => absurd h (by decide)) (fun _ => ?_)
                refine ct_48 (by omega) hT hx (by omega) (by omega) (fun h => absurd rfl h) (fun _ c63 w64 h65 mw66 v67 q68 h69 h70 h71 => ?_) (fun _ q68 v67 h65 mw72 h69 h70 => ?_)
                · have fr := fr.trans (fr_t.P h69)
                  have hx := h70
                  have nz := h71
                  have en := h65
                  have cn := fr.1
                  have cs := fr.2.1
                  have z0 := hx.2.2.1
                  have e : p_field K A V q = .inl (c63, w64) := by first
                    | exact p_f2e k2 (by omega)
                    | exact p_f4e (by omega) (by omega) (by omega) (by omega)
                    | (rw [p_f7 (by omega) (by omega)]; exact p_bd_l en)
                  exact lp_46f (by omega) hT hx nz (by omega) (fun m' r a b => hQe m' r _ _ _ ((fr.trans a).mono (by omega) (by omega)) b nz e)
                · have fr := fr.trans (fr_t.P h69)
                  have hx := h70
                  have en := h65
                  have cn := fr.1
                  have cs := fr.2.1
                  have z0 := hx.2.2.1
                  have lb := p_ln_b K (q + 1 + 1)
                  have e : p_field K A V q = p_two K A (6 + (K q - 36)) 0 v67 q68 := by first
                    | exact p_f2 k2 k3
                    | exact p_f3 (by omega)
                    | exact p_f5 (by omega) (by omega)
                    | exact p_f6 (by omega)
                    | (rw [p_f7 (by omega) (by omega)]; exact p_bd_r en)
                  rw [e] at hQ hQe
                  skip
                  exact lp_46 (by omega) hT hx ⟨by omega, by omega, by first | omega | (have := p_num_b en (by omega); omega)⟩ (by omega) (fun m' r q' f' p' a b c e => hQe m' r q' f' p' ((fr.trans a).mono (by omega) (by omega)) b c e) (fun m' r q' w a b c e => hQ m' r q' w ((fr.trans a).mono (by omega) (by omega)) b c ⟨⟨by have := e.1; omega, e.1.2⟩, e.2.1, e.2.2.1, e.2.2.2.1, e.2.2.2.2.1, e.2.2.2.2.2.1, e.2.2.2.2.2.2.1, by obtain ⟨u1, u2, u3⟩ := e.2.2.2.2.2.2.2; exact ⟨by omega, u2, u3⟩⟩)
              · have g5 := h59
                refine And.intro (fun _ => ?_) (fun h => absurd h (by decide))
                have z0 := hx.2.2.1
                have lb := p_ln_b K (q + 1 + 1)
                have e : p_field K A V q = p_two K A (6 + (K q - 36)) 0 0 (q + 1) := by first
                  | exact p_f2 k2 k3
                  | exact p_f3 (by omega)
                  | exact p_f5 (by omega) (by omega)
                  | exact p_f6 (by omega)
                  | (rw [p_f7 (by omega) (by omega)]; exact p_bd_r en)
                rw [e] at hQ hQe
                skip
                exact lp_46 (by omega) hT hx ⟨by omega, by omega, by first | omega | (have := p_num_b en (by omega); omega)⟩ (by omega) (fun m' r q' f' p' a b c e => hQe m' r q' f' p' ((fr.trans a).mono (by omega) (by omega)) b c e) (fun m' r q' w a b c e => hQ m' r q' w ((fr.trans a).mono (by omega) (by omega)) b c ⟨⟨by have := e.1; omega, e.1.2⟩, e.2.1, e.2.2.1, e.2.2.2.1, e.2.2.2.2.1, e.2.2.2.2.2.1, e.2.2.2.2.2.2.1, by obtain ⟨u1, u2, u3⟩ := e.2.2.2.2.2.2.2; exact ⟨by omega, u2, u3⟩⟩)
          · refine And.intro (rfl) ?_
            refine And.intro (fun h => absurd h (by have := hx.2.2.2.1; have := hx.2.2.2.2.1; omega)) (fun _ => ?_)
            refine And.intro (fun h73 => ?_) (fun h73 => ?_)
            · have z0 := hx.2.2.1
              have lb := p_ln_b K (q + 1 + 1)
              have e : p_field K A V q = p_two K A (6 + (K q - 36)) 0 6 (q + 1) := by first
                | exact p_f2 k2 k3
                | exact p_f3 (by omega)
                | exact p_f5 (by omega) (by omega)
                | exact p_f6 (by omega)
                | (rw [p_f7 (by omega) (by omega)]; exact p_bd_r en)
              rw [e] at hQ hQe
              skip
              exact lp_46 (by omega) hT hx ⟨by omega, by omega, by first | omega | (have := p_num_b en (by omega); omega)⟩ (by omega) (fun m' r q' f' p' a b c e => hQe m' r q' f' p' ((fr.trans a).mono (by omega) (by omega)) b c e) (fun m' r q' w a b c e => hQ m' r q' w ((fr.trans a).mono (by omega) (by omega)) b c ⟨⟨by have := e.1; omega, e.1.2⟩, e.2.1, e.2.2.1, e.2.2.2.1, e.2.2.2.2.1, e.2.2.2.2.2.1, e.2.2.2.2.2.2.1, by obtain ⟨u1, u2, u3⟩ := e.2.2.2.2.2.2.2; exact ⟨by omega, u2, u3⟩⟩)
            · refine And.intro (rfl) ?_
              refine ct_157 (by omega) hT hx (by omega) (fun _ h74 mw75 h76 h77 => ?_) (fun h74 => ?_)
              · have fr := fr.trans (fr_t.P h76)
                have hx := h77
                have cn := fr.1
                have cs := fr.2.1
                have k5 := h74
                refine And.intro (fun h => absurd h (by decide)) (fun _ => ?_)
                refine ct_48 (by omega) hT hx (by omega) (by omega) (fun h => absurd rfl h) (fun _ c78 w79 h80 mw81 v82 q83 h84 h85 h86 => ?_) (fun _ q83 v82 h80 mw87 h84 h85 => ?_)
                · have fr := fr.trans (fr_t.P h84)
                  have hx := h85
                  have nz := h86
                  have en := h80
                  have cn := fr.1
                  have cs := fr.2.1
                  have z0 := hx.2.2.1
                  have e : p_field K A V q = .inl (c78, w79) := by first
                    | exact p_f2e k2 (by omega)
                    | exact p_f4e (by omega) (by omega) (by omega) (by omega)
                    | (rw [p_f7 (by omega) (by omega)]; exact p_bd_l en)
                  exact lp_46f (by omega) hT hx nz (by omega) (fun m' r a b => hQe m' r _ _ _ ((fr.trans a).mono (by omega) (by omega)) b nz e)
                · have fr := fr.trans (fr_t.P h84)
                  have hx := h85
                  have en := h80
                  have cn := fr.1
                  have cs := fr.2.1
                  have z0 := hx.2.2.1
                  have lb := p_ln_b K (q + 1 + 1)
                  have e : p_field K A V q = p_two K A (6 + (K q - 36)) 0 v82 q83 := by first
                    | exact p_f2 k2 k3
                    | exact p_f3 (by omega)
                    | exact p_f5 (by omega) (by omega)
                    | exact p_f6 (by omega)
                    | (rw [p_f7 (by omega) (by omega)]; exact p_bd_r en)
                  rw [e] at hQ hQe
                  skip
                  exact lp_46 (by omega) hT hx ⟨by omega, by omega, by first | omega | (have := p_num_b en (by omega); omega)⟩ (by omega) (fun m' r q' f' p' a b c e => hQe m' r q' f' p' ((fr.trans a).mono (by omega) (by omega)) b c e) (fun m' r q' w a b c e => hQ m' r q' w ((fr.trans a).mono (by omega) (by omega)) b c ⟨⟨by have := e.1; omega, e.1.2⟩, e.2.1, e.2.2.1, e.2.2.2.1, e.2.2.2.2.1, e.2.2.2.2.2.1, e.2.2.2.2.2.2.1, by obtain ⟨u1, u2, u3⟩ := e.2.2.2.2.2.2.2; exact ⟨by omega, u2, u3⟩⟩)
              · have g5 := h74
                refine And.intro (fun _ => ?_) (fun h => absurd h (by decide))
                have z0 := hx.2.2.1
                have lb := p_ln_b K (q + 1 + 1)
                have e : p_field K A V q = p_two K A (6 + (K q - 36)) 0 6 (q + 1) := by first
                  | exact p_f2 k2 k3
                  | exact p_f3 (by omega)
                  | exact p_f5 (by omega) (by omega)
                  | exact p_f6 (by omega)
                  | (rw [p_f7 (by omega) (by omega)]; exact p_bd_r en)
                rw [e] at hQ hQe
                skip
                exact lp_46 (by omega) hT hx ⟨by omega, by omega, by first | omega | (have := p_num_b en (by omega); omega)⟩ (by omega) (fun m' r q' f' p' a b c e => hQe m' r q' f' p' ((fr.trans a).mono (by omega) (by omega)) b c e) (fun m' r q' w a b c e => hQ m' r q' w ((fr.trans a).mono (by omega) (by omega)) b c ⟨⟨by have := e.1; omega, e.1.2⟩, e.2.1, e.2.2.1, e.2.2.2.1, e.2.2.2.2.1, e.2.2.2.2.2.1, e.2.2.2.2.2.2.1, by obtain ⟨u1, u2, u3⟩ := e.2.2.2.2.2.2.2; exact ⟨by omega, u2, u3⟩⟩)
        · have fr := fr.trans (fr_t.P h55)
          have hx := h56
          have nz : x_wr (K q) ≠ 0 := by unfold x_wr; omega
          have er := h51
          have cn := fr.1
          have cs := fr.2.1
          refine And.intro (show -2147483648 ≤ 6 + 0 ∧ 6 + 0 ≤ 2147483647 by first | omega | (simp only [mS_iff, eq_self, Int.reduceEq, true_and, and_true, false_and, and_false, and_self, ↓reduceIte]; omega) | (simp only [mS_iff, eq_self, Int.reduceEq, true_and, and_true, false_and, and_false, and_self, ↓reduceIte] at *; omega)) ?_
          refine And.intro (fun h => absurd h (by decide)) (fun _ => ?_)
          refine And.intro (rfl) ?_
          refine And.intro (fun _ => ?_) (fun h => absurd h (by have := hx.2.2.2.1; have := hx.2.2.2.2.1; omega))
          have z0 := hx.2.2.1
          have e : p_field K A V q = .inl ((x_wr (K q)), (A q)) := by first
            | exact p_f2e k2 (by omega)
            | exact p_f4e (by omega) (by omega) (by omega) (by omega)
            | (rw [p_f7 (by omega) (by omega)]; exact p_bd_l en)
          exact lp_46f (by omega) hT hx nz (by omega) (fun m' r a b => hQe m' r _ _ _ ((fr.trans a).mono (by omega) (by omega)) b nz e)
