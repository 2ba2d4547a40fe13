/-! needs: b14 -/
/-! CONTRACTS: neither, unit of the reference, and the whole parser; by tools/genb15.py -/
set_option maxRecDepth 100000
set_option maxHeartbeats 8000000
theorem mc_287 {L : Int} {K A V E : Int → Int} {N : Int} {n : Nat} (hT : xT K A V N) (ih : ∀ i, i < n → mCP L K A V E N i) : mCa L K A V E N 287 4 4 0 n := by
  intro d m Q dep q f p g0 hd hx w5 hnst hdp h0 hk hmu hQf hQe hQ
  have hb := hx.2.2.2.1
  have hN := hT.1
  obtain ⟨n0, rfl⟩ : ∃ i, n = i + 1 := ⟨n - 1, by omega⟩
  obtain ⟨dk, hdk⟩ : ∃ k, d = k + 1 := ⟨d - 1, by omega⟩
  have fr := fr_G.rfl m
  have cn := fr.1
  refine am_in (k := dk) rfl (by omega) (fun d hd => ?_)
  by_cases nz : f = 0
  · subst nz
    have es : c_x K A V (n0 + 1) 4 dep q (m 41 56) g0 = _ := c_x_4
    refine am_go 400 [] (am_wpc_cm _ _ _) wf_287 ?_
    refine And.intro (rfl) ?_
    refine ct_284_0 (by omega) hx w5 (by omega) (fun h => absurd rfl h) (fun _ h4 mw1 h2 h6 h7 h8 h3 => ?_) (fun _ h4 h5 mw1 h2 h6 h7 h8 h3 => ?_) (fun _ h4 h5 mw1 h2 h6 h7 h8 h3 => ?_)
    · have hn2 := h2.2 41 54 (by omega) (by omega)
      have cn1 := h2.1
      have w5 := w5.G h2
      have fr := fr.trans h2
      have cn := fr.1
      have hx := h3
      have nz : x_wr (K q) ≠ 0 := by unfold x_wr; omega
      have es := es.trans (c_may_w h4)
      refine And.intro (rfl) ?_
      refine ct_198 (w := 51) (by omega) hx (by omega) (by decide +kernel) (fun h => absurd h nz) (fun _ => ?_)
      refine And.intro (fun _ => ?_) (fun h => absurd h (by decide))
      refine And.intro (rfl) ?_
      refine And.intro (fun h => absurd h (by have := (hx.2.2.2.2.2.2.2 nz).1; omega)) (fun _ => ?_)
      skip
      refine And.intro (rfl) ?_
      refine And.intro (show -2147483648 ≤ (mw1 41 55) - 1 ∧ (mw1 41 55) - 1 ≤ 2147483647 by first | omega | (simp only [mS_iff, eq_self, Int.reduceEq, true_and, and_true, false_and, and_false, and_self, ↓reduceIte]; omega) | (simp only [mS_iff, eq_self, Int.reduceEq, true_and, and_true, false_and, and_false, and_self, ↓reduceIte] at *; omega)) ?_
      refine And.intro (rfl) ?_
      obtain ⟨mw9, h10⟩ : ∃ z, z = (mS mw1 41 55 ((mw1 41 55) - 1)) := ⟨_, rfl⟩
      rw [← h10]
      have h11 : fr_G mw1 mw9 := by rw [h10]; exact fr_G.n
      have hx : mTx mw9 L K A V E N q (x_wr (K q)) (A q) := by rw [h10]; exact hx.s (by omega)
      have e55 : mw9 41 55 = ((mw1 41 55) - 1) := by rw [h10, mS_iff, if_pos ⟨rfl, rfl⟩]
      have e53 : mw9 41 53 = mw1 41 53 := by rw [h10, mS_iff, if_neg (by omega)]
      have e56 : mw9 41 56 = mw1 41 56 := by rw [h10, mS_iff, if_neg (by omega)]
      have hn2 := h11.2 41 54 (by omega) (by omega)
      have cn1 := h11.1
      have w5 := w5.G h11
      have fr := fr.trans h11
      have cn := fr.1
      exact hQe rfl _ _ es _ _ _ fr hx nz (by omega) (by omega)
    · have hn2 := h2.2 41 54 (by omega) (by omega)
      have cn1 := h2.1
      have w5 := w5.G h2
      have fr := fr.trans h2
      have cn := fr.1
      have hx := h3
      have nz : (5 : Int) ≠ 0 := by omega
      have es := es.trans (c_may_d h4 (by omega))
      refine And.intro (rfl) ?_
      refine ct_198 (w := 51) (by omega) hx (by omega) (by decide +kernel) (fun h => absurd h nz) (fun _ => ?_)
      refine And.intro (fun _ => ?_) (fun h => absurd h (by decide))
      refine And.intro (rfl) ?_
      refine And.intro (fun h => absurd h (by have := (hx.2.2.2.2.2.2.2 nz).1; omega)) (fun _ => ?_)
      skip
      refine And.intro (rfl) ?_
      refine And.intro (show -2147483648 ≤ (mw1 41 55) - 1 ∧ (mw1 41 55) - 1 ≤ 2147483647 by first | omega | (simp only [mS_iff, eq_self, Int.reduceEq, true_and, and_true, false_and, and_false, and_self, ↓reduceIte]; omega) | (simp only [mS_iff, eq_self, Int.reduceEq, true_and, and_true, false_and, and_false, and_self, ↓reduceIte] at *; omega)) ?_
      refine And.intro (rfl) ?_
      obtain ⟨mw12, h13⟩ : ∃ z, z = (mS mw1 41 55 ((mw1 41 55) - 1)) := ⟨_, rfl⟩
      rw [← h13]
      have h14 : fr_G mw1 mw12 := by rw [h13]; exact fr_G.n
      have hx : mTx mw12 L K A V E N q 5 (A q) := by rw [h13]; exact hx.s (by omega)
      have e55 : mw12 41 55 = ((mw1 41 55) - 1) := by rw [h13, mS_iff, if_pos ⟨rfl, rfl⟩]
      have e53 : mw12 41 53 = mw1 41 53 := by rw [h13, mS_iff, if_neg (by omega)]
      have e56 : mw12 41 56 = mw1 41 56 := by rw [h13, mS_iff, if_neg (by omega)]
      have hn2 := h14.2 41 54 (by omega) (by omega)
      have cn1 := h14.1
      have w5 := w5.G h14
      have fr := fr.trans h14
      have cn := fr.1
      exact hQe rfl _ _ es _ _ _ fr hx nz (by omega) (by omega)
    · have hn2 := h2.2 41 54 (by omega) (by omega)
      have cn1 := h2.1
      have w5 := w5.G h2
      have fr := fr.trans h2
      have cn := fr.1
      have hx := h3
      have bg := h4
      have dg : ¬ 15 ≤ dep := by omega
      have bg1 : K q = 51 ∨ K q = 145 ∨ K q = 70 ∨ K q = 140 ∨ (52 ≤ K q ∧ K q ≤ 65) := bg.1
      have bg2 := bg.2
      have es := es.trans (c_may_y h4 dg)
      refine And.intro (rfl) ?_
      refine ct_198 (w := 51) (by omega) hx (by omega) (by decide +kernel) (fun _ h15 => ?_) (fun h15 => ?_)
      · have ky : K q = 51 := h15
        have es := es.trans (if_pos ky)
        refine And.intro (fun h => absurd h (by decide)) (fun _ => ?_)
        refine And.intro (rfl) ?_
        have ap : mw1 41 14 = A q := (hx.2.2.2.2.2.2.1 rfl).2.2.2.1
        skip
        refine And.intro (rfl) ?_
        refine ct_288 (by omega) hx (by omega) (by omega) (fun h19 mw16 h17 h20 h21 h22 h18 => ?_) (fun h19 mw16 h17 h20 h21 h22 h18 => ?_)
        · have hn2 := h17.2 41 54 (by omega) (by omega)
          have cn1 := h17.1
          have w5 := w5.G h17
          have fr := fr.trans h17
          have cn := fr.1
          have hx := h18
          have es := es.trans (c_pt_y (by omega))
          refine And.intro (rfl) ?_
          refine ct_199 (by omega) hx (fun _ => by omega) (fun h => absurd rfl h) (fun _ mw23 h24 h25 => ?_)
          have hn1 := h24 41 53 (by omega)
          have hn2 := h24 41 54 (by omega)
          have hn3 := h24 41 55 (by omega)
          have hn4 := h24 41 56 (by omega)
          have w5 := w5.M h24
          have fr := fr.M h24
          have cn := fr.1
          have hx := h25
          refine And.intro (rfl) ?_
          refine And.intro (fun _ => ?_) (fun h => absurd h (by have := (hx.2.2.2.2.2.2.1 rfl).1; omega))
          refine And.intro (rfl) ?_
          refine (ih n0 (by omega)).2.2.1 _ _ _ (dep + 1) _ _ _ g0 (by omega) hx w5 (by omega) (by omega) (by omega) (fun _ => by omega) (by omega) (fun h => absurd rfl h) (fun _ c34 pl35 h26 mw27 r28 qe29 h30 h32 h33 h36 h31 => ?_) (fun _ qo39 ko40 g41 h42 mw37 r38 h43 h49 h44 h45 h46 h47 h48 nd50 => ?_)
          · have hn2 := h30.2 41 54 (by omega) (by omega)
            have cn1 := h30.1
            have w5 := w5.G h30
            have fr := fr.trans h30
            have cn := fr.1
            have hx := h32
            have nz := h33
            have ec : c_x K A V n0 4 (dep + 1) (q + 1) (m 41 56 + 1) g0 = .inl (c34, pl35) := by rw [show (m 41 56 + 1) = mw23 41 56 by omega]; exact h26
            have es := es.trans (c_bd_l ec)
            refine And.intro (rfl) ?_
            refine ct_289 (by omega) (by omega) (by omega) (fun mw51 h52 => ?_)
            have hn2 := h52.1 41 54 (by omega) (by omega)
            have w5 := w5.K (fun x u v => funext fun j => h52.1 x j (by omega) (by omega))
            have fr := h52.fr fr (by omega)
            have cn := fr.1
            have hx := h52.tx hx
            have pt1 := h52.2.1
            have pt5 := h52.1 41 55 (by omega) (by omega)
            have pt6 := h52.1 41 56 (by omega) (by omega)
            skip
            refine And.intro (rfl) ?_
            refine And.intro (show -2147483648 ≤ (mw51 41 55) - 1 ∧ (mw51 41 55) - 1 ≤ 2147483647 by first | omega | (simp only [mS_iff, eq_self, Int.reduceEq, true_and, and_true, false_and, and_false, and_self, ↓reduceIte]; omega) | (simp only [mS_iff, eq_self, Int.reduceEq, true_and, and_true, false_and, and_false, and_self, ↓reduceIte] at *; omega)) ?_
            refine And.intro (rfl) ?_
            obtain ⟨mw53, h54⟩ : ∃ z, z = (mS mw51 41 55 ((mw51 41 55) - 1)) := ⟨_, rfl⟩
            rw [← h54]
            have h55 : fr_G mw51 mw53 := by rw [h54]; exact fr_G.n
            have hx : mTx mw53 L K A V E N qe29 c34 pl35 := by rw [h54]; exact hx.s (by omega)
            have e55 : mw53 41 55 = ((mw51 41 55) - 1) := by rw [h54, mS_iff, if_pos ⟨rfl, rfl⟩]
            have e53 : mw53 41 53 = mw51 41 53 := by rw [h54, mS_iff, if_neg (by omega)]
            have e56 : mw53 41 56 = mw51 41 56 := by rw [h54, mS_iff, if_neg (by omega)]
            have hn2 := h55.2 41 54 (by omega) (by omega)
            have cn1 := h55.1
            have w5 := w5.G h55
            have fr := fr.trans h55
            have cn := fr.1
            exact hQe rfl _ _ es _ _ _ fr hx nz (by omega) (by omega)
          · have hn2 := h43.2 41 54 (by omega) (by omega)
            have cn1 := h43.1
            have w5 := w5.G h43
            have fr := fr.trans h43
            have cn := fr.1
            have hx := h49
            have eo : c_x K A V n0 4 (dep + 1) (q + 1) (m 41 56 + 1) g0 = .inr (qo39, ko40, g41) := by rw [show (m 41 56 + 1) = mw23 41 56 by omega]; exact h42
            have es := es.trans (c_bd_r eo)
            have nd3 := nd50
            refine And.intro (rfl) ?_
            refine ct_289 (by omega) (by omega) (by omega) (fun mw56 h57 => ?_)
            have hn2 := h57.1 41 54 (by omega) (by omega)
            have w5 := w5.K (fun x u v => funext fun j => h57.1 x j (by omega) (by omega))
            have fr := h57.fr fr (by omega)
            have cn := fr.1
            have hx := h57.tx hx
            have pt1 := h57.2.1
            have pt5 := h57.1 41 55 (by omega) (by omega)
            have pt6 := h57.1 41 56 (by omega) (by omega)
            have kp := fr_H.rfl mw56
            refine And.intro (rfl) ?_
            refine And.intro (show -2147483648 ≤ (mw56 41 55) - 1 ∧ (mw56 41 55) - 1 ≤ 2147483647 by first | omega | (simp only [mS_iff, eq_self, Int.reduceEq, true_and, and_true, false_and, and_false, and_self, ↓reduceIte]; omega) | (simp only [mS_iff, eq_self, Int.reduceEq, true_and, and_true, false_and, and_false, and_self, ↓reduceIte] at *; omega)) ?_
            refine And.intro (rfl) ?_
            obtain ⟨mw58, h59⟩ : ∃ z, z = (mS mw56 41 55 ((mw56 41 55) - 1)) := ⟨_, rfl⟩
            rw [← h59]
            have h60 : fr_G mw56 mw58 := by rw [h59]; exact fr_G.n
            have hx : mTx mw58 L K A V E N qo39 0 p := by rw [h59]; exact hx.s (by omega)
            have e55 : mw58 41 55 = ((mw56 41 55) - 1) := by rw [h59, mS_iff, if_pos ⟨rfl, rfl⟩]
            have e53 : mw58 41 53 = mw56 41 53 := by rw [h59, mS_iff, if_neg (by omega)]
            have e56 : mw58 41 56 = mw56 41 56 := by rw [h59, mS_iff, if_neg (by omega)]
            have kp := kp.G h60
            have hn2 := h60.2 41 54 (by omega) (by omega)
            have cn1 := h60.1
            have w5 := w5.G h60
            have fr := fr.trans h60
            have cn := fr.1
            exact hQ rfl _ _ _ es _ _ fr hx (by omega) (by omega) (by omega) (by omega) (by omega) ((((mNd_not (lo := m 41 54) (hi := m 41 54 + mw56 41 53) (hi1 := m 41 54 + mw37 41 53) (p1 := ko40 - mw23 41 56) (by omega) h57.2.2.1 (h57.2.2.2.1.trans ap) h57.2.2.2.2.1 ((nd3.cv (by omega) (by omega) rfl).keep (fun x j a b c e => h57.1 x j (by omega) (by omega))) (by omega))).keep (fun x j a b c e => kp.2 x j (by omega) (by omega))).cv rfl (by omega) (by omega))
        · have hn2 := h17.2 41 54 (by omega) (by omega)
          have cn1 := h17.1
          have w5 := w5.G h17
          have fr := fr.trans h17
          have cn := fr.1
          have hx := h18
          have nz : (5 : Int) ≠ 0 := by omega
          have es := es.trans (c_pt_n (by omega))
          refine And.intro (rfl) ?_
          refine ct_199 (by omega) hx (fun h => absurd h nz) (fun _ => ?_) (fun h => absurd h nz)
          refine And.intro (rfl) ?_
          refine And.intro (fun h => absurd h (by have := (hx.2.2.2.2.2.2.2 nz).1; omega)) (fun _ => ?_)
          refine And.intro (rfl) ?_
          refine ct_289 (by omega) (by omega) (by omega) (fun mw61 h62 => ?_)
          have hn2 := h62.1 41 54 (by omega) (by omega)
          have w5 := w5.K (fun x u v => funext fun j => h62.1 x j (by omega) (by omega))
          have fr := h62.fr fr (by omega)
          have cn := fr.1
          have hx := h62.tx hx
          have pt1 := h62.2.1
          have pt5 := h62.1 41 55 (by omega) (by omega)
          have pt6 := h62.1 41 56 (by omega) (by omega)
          skip
          refine And.intro (rfl) ?_
          refine And.intro (show -2147483648 ≤ (mw61 41 55) - 1 ∧ (mw61 41 55) - 1 ≤ 2147483647 by first | omega | (simp only [mS_iff, eq_self, Int.reduceEq, true_and, and_true, false_and, and_false, and_self, ↓reduceIte]; omega) | (simp only [mS_iff, eq_self, Int.reduceEq, true_and, and_true, false_and, and_false, and_self, ↓reduceIte] at *; omega)) ?_
          refine And.intro (rfl) ?_
          obtain ⟨mw63, h64⟩ : ∃ z, z = (mS mw61 41 55 ((mw61 41 55) - 1)) := ⟨_, rfl⟩
          rw [← h64]
          have h65 : fr_G mw61 mw63 := by rw [h64]; exact fr_G.n
          have hx : mTx mw63 L K A V E N q 5 (A q) := by rw [h64]; exact hx.s (by omega)
          have e55 : mw63 41 55 = ((mw61 41 55) - 1) := by rw [h64, mS_iff, if_pos ⟨rfl, rfl⟩]
          have e53 : mw63 41 53 = mw61 41 53 := by rw [h64, mS_iff, if_neg (by omega)]
          have e56 : mw63 41 56 = mw61 41 56 := by rw [h64, mS_iff, if_neg (by omega)]
          have hn2 := h65.2 41 54 (by omega) (by omega)
          have cn1 := h65.1
          have w5 := w5.G h65
          have fr := fr.trans h65
          have cn := fr.1
          exact hQe rfl _ _ es _ _ _ fr hx nz (by omega) (by omega)
      · replace h15 : K q ≠ 51 := fun h => h15 ⟨rfl, h⟩
        have es := es.trans (if_neg h15)
        refine And.intro (fun _ => ?_) (fun h => absurd h (by decide))
        refine And.intro (rfl) ?_
        refine And.intro (fun _ => ?_) (fun h => absurd h (by have := (hx.2.2.2.2.2.2.1 rfl).1; omega))
        refine And.intro (rfl) ?_
        refine am_in (k := dk - 1) rfl (by omega) (fun d hd => ?_)
        refine am_go 400 [] (am_wpc_cm _ _ _) wf_290 ?_
        refine And.intro (rfl) ?_
        refine (ih n0 (by omega)).2.2.2.1 _ _ _ dep _ _ _ g0 (by omega) hx w5 (by omega) (by omega) (by omega) (fun _ => by omega) (by omega) (fun h => absurd rfl h) (fun _ c74 pl75 h66 mw67 r68 qe69 h70 h72 h73 h76 h71 => ?_) (fun _ qo79 ko80 g81 h82 mw77 r78 h83 h89 h84 h85 h86 h87 h88 nd90 => ?_)
        · have hn2 := h70.2 41 54 (by omega) (by omega)
          have cn1 := h70.1
          have w5 := w5.G h70
          have fr := fr.trans h70
          have cn := fr.1
          have hx := h72
          have nz := h73
          have ec : c_x K A V n0 5 dep q (m 41 56) g0 = .inl (c74, pl75) := by rw [show (m 41 56) = mw1 41 56 by omega]; exact h66
          have es := es.trans (c_bd_l ec)
          skip
          refine And.intro (rfl) ?_
          refine ct_206 (by omega) hx (by unfold x_sg; omega) (fun h => absurd h nz) (fun _ => ?_)
          refine And.intro (fun h => absurd h (by decide)) (fun _ => ?_)
          refine And.intro (rfl) ?_
          refine ct_206 (by omega) hx (by unfold x_sg; omega) (fun h => absurd h nz) (fun _ => ?_)
          refine And.intro (fun _ => ?_) (fun h => absurd h (by decide))
          skip
          refine And.intro (rfl) ?_
          refine And.intro (show -2147483648 ≤ (mw67 41 55) - 1 ∧ (mw67 41 55) - 1 ≤ 2147483647 by first | omega | (simp only [mS_iff, eq_self, Int.reduceEq, true_and, and_true, false_and, and_false, and_self, ↓reduceIte]; omega) | (simp only [mS_iff, eq_self, Int.reduceEq, true_and, and_true, false_and, and_false, and_self, ↓reduceIte] at *; omega)) ?_
          refine And.intro (rfl) ?_
          obtain ⟨mw91, h92⟩ : ∃ z, z = (mS mw67 41 55 ((mw67 41 55) - 1)) := ⟨_, rfl⟩
          rw [← h92]
          have h93 : fr_G mw67 mw91 := by rw [h92]; exact fr_G.n
          have hx : mTx mw91 L K A V E N qe69 c74 pl75 := by rw [h92]; exact hx.s (by omega)
          have e55 : mw91 41 55 = ((mw67 41 55) - 1) := by rw [h92, mS_iff, if_pos ⟨rfl, rfl⟩]
          have e53 : mw91 41 53 = mw67 41 53 := by rw [h92, mS_iff, if_neg (by omega)]
          have e56 : mw91 41 56 = mw67 41 56 := by rw [h92, mS_iff, if_neg (by omega)]
          have hn2 := h93.2 41 54 (by omega) (by omega)
          have cn1 := h93.1
          have w5 := w5.G h93
          have fr := fr.trans h93
          have cn := fr.1
          exact hQe rfl _ _ es _ _ _ fr hx nz (by omega) (by omega)
        · have hn2 := h83.2 41 54 (by omega) (by omega)
          have cn1 := h83.1
          have w5 := w5.G h83
          have fr := fr.trans h83
          have cn := fr.1
          have hx := h89
          have eo : c_x K A V n0 5 dep q (m 41 56) g0 = .inr (qo79, ko80, g81) := by rw [show (m 41 56) = mw1 41 56 by omega]; exact h82
          have es := es.trans (c_bd_r eo)
          have nd1 := nd90
          have kl := fr_H.rfl mw77
          refine And.intro (rfl) ?_
          refine ct_206 (by omega) hx (by unfold x_sg; omega) (fun _ h94 => ?_) (fun h94 => ?_)
          · have ky : K qo79 = 160 := h94
            refine And.intro (fun _ => ?_) (fun h => absurd h (by decide))
            refine And.intro (rfl) ?_
            have ap : mw77 41 14 = A qo79 := (hx.2.2.2.2.2.2.1 rfl).2.2.2.1
            have es := es.trans (if_pos (by omega))
            have sv : am_l2i (mw77 41 15) = K qo79 - 100 := by
              have g1 := hx.g (c := 60) (by unfold x_sg; omega)
              have g2 := hx.g (c := 61) (by unfold x_sg; omega)
              rw [am_l2i_eq (by omega)]
              omega
            skip
            refine And.intro (rfl) ?_
            refine And.intro (rfl) ?_
            refine ct_288 (by omega) hx (by omega) (by omega) (fun h98 mw95 h96 h99 h100 h101 h97 => ?_) (fun h98 mw95 h96 h99 h100 h101 h97 => ?_)
            · have kl := kl.G h96
              have hn2 := h96.2 41 54 (by omega) (by omega)
              have cn1 := h96.1
              have w5 := w5.G h96
              have fr := fr.trans h96
              have cn := fr.1
              have hx := h97
              have es := es.trans (c_pt_y (by omega))
              refine And.intro (rfl) ?_
              refine ct_199 (by omega) hx (fun _ => by omega) (fun h => absurd rfl h) (fun _ mw102 h103 h104 => ?_)
              have hn1 := h103 41 53 (by omega)
              have hn2 := h103 41 54 (by omega)
              have hn3 := h103 41 55 (by omega)
              have hn4 := h103 41 56 (by omega)
              have kl := kl.M h103
              have w5 := w5.M h103
              have fr := fr.M h103
              have cn := fr.1
              have hx := h104
              refine And.intro (rfl) ?_
              refine (ih n0 (by omega)).2.2.2.1 _ _ _ dep _ _ _ g0 (by omega) hx w5 (by omega) (by omega) (by omega) (fun _ => by omega) (by omega) (fun h => absurd rfl h) (fun _ c113 pl114 h105 mw106 r107 qe108 h109 h111 h112 h115 h110 => ?_) (fun _ qo118 ko119 g120 h121 mw116 r117 h122 h128 h123 h124 h125 h126 h127 nd129 => ?_)
              · have kl := kl.G h109
                have hn2 := h109.2 41 54 (by omega) (by omega)
                have cn1 := h109.1
                have w5 := w5.G h109
                have fr := fr.trans h109
                have cn := fr.1
                have hx := h111
                have nz := h112
                have ec : c_x K A V n0 5 dep (qo79 + 1) (ko80 + 1) g0 = .inl (c113, pl114) := by rw [show (ko80 + 1) = mw102 41 56 by omega]; exact h105
                have es := es.trans (c_bd_l ec)
                refine And.intro (rfl) ?_
                refine ct_296 (by omega) (by omega) (by omega) (fun mw130 h131 => ?_)
                have kl := kl.P h131
                have hn2 := h131.1 41 54 (by omega) (by omega)
                have w5 := w5.K (fun x u v => funext fun j => h131.1 x j (by omega) (by omega))
                have fr := h131.fr fr (by omega)
                have cn := fr.1
                have hx := h131.tx hx
                have pt1 := h131.2.1
                have pt5 := h131.1 41 55 (by omega) (by omega)
                have pt6 := h131.1 41 56 (by omega) (by omega)
                skip
                refine And.intro (rfl) ?_
                refine And.intro (show -2147483648 ≤ (mw130 41 55) - 1 ∧ (mw130 41 55) - 1 ≤ 2147483647 by first | omega | (simp only [mS_iff, eq_self, Int.reduceEq, true_and, and_true, false_and, and_false, and_self, ↓reduceIte]; omega) | (simp only [mS_iff, eq_self, Int.reduceEq, true_and, and_true, false_and, and_false, and_self, ↓reduceIte] at *; omega)) ?_
                refine And.intro (rfl) ?_
                obtain ⟨mw132, h133⟩ : ∃ z, z = (mS mw130 41 55 ((mw130 41 55) - 1)) := ⟨_, rfl⟩
                rw [← h133]
                have h134 : fr_G mw130 mw132 := by rw [h133]; exact fr_G.n
                have hx : mTx mw132 L K A V E N qe108 c113 pl114 := by rw [h133]; exact hx.s (by omega)
                have e55 : mw132 41 55 = ((mw130 41 55) - 1) := by rw [h133, mS_iff, if_pos ⟨rfl, rfl⟩]
                have e53 : mw132 41 53 = mw130 41 53 := by rw [h133, mS_iff, if_neg (by omega)]
                have e56 : mw132 41 56 = mw130 41 56 := by rw [h133, mS_iff, if_neg (by omega)]
                have kl := kl.G h134
                have hn2 := h134.2 41 54 (by omega) (by omega)
                have cn1 := h134.1
                have w5 := w5.G h134
                have fr := fr.trans h134
                have cn := fr.1
                exact hQe rfl _ _ es _ _ _ fr hx nz (by omega) (by omega)
              · have kl := kl.G h122
                have hn2 := h122.2 41 54 (by omega) (by omega)
                have cn1 := h122.1
                have w5 := w5.G h122
                have fr := fr.trans h122
                have cn := fr.1
                have hx := h128
                have eo : c_x K A V n0 5 dep (qo79 + 1) (ko80 + 1) g0 = .inr (qo118, ko119, g120) := by rw [show (ko80 + 1) = mw102 41 56 by omega]; exact h121
                have es := es.trans (c_bd_r eo)
                have nd2 := nd129
                refine And.intro (rfl) ?_
                refine ct_296 (by omega) (by omega) (by omega) (fun mw135 h136 => ?_)
                have kl := kl.P h136
                have hn2 := h136.1 41 54 (by omega) (by omega)
                have w5 := w5.K (fun x u v => funext fun j => h136.1 x j (by omega) (by omega))
                have fr := h136.fr fr (by omega)
                have cn := fr.1
                have hx := h136.tx hx
                have pt1 := h136.2.1
                have pt5 := h136.1 41 55 (by omega) (by omega)
                have pt6 := h136.1 41 56 (by omega) (by omega)
                have kp := fr_H.rfl mw135
                refine And.intro (rfl) ?_
                refine And.intro (show -2147483648 ≤ (mw135 41 55) - 1 ∧ (mw135 41 55) - 1 ≤ 2147483647 by first | omega | (simp only [mS_iff, eq_self, Int.reduceEq, true_and, and_true, false_and, and_false, and_self, ↓reduceIte]; omega) | (simp only [mS_iff, eq_self, Int.reduceEq, true_and, and_true, false_and, and_false, and_self, ↓reduceIte] at *; omega)) ?_
                refine And.intro (rfl) ?_
                obtain ⟨mw137, h138⟩ : ∃ z, z = (mS mw135 41 55 ((mw135 41 55) - 1)) := ⟨_, rfl⟩
                rw [← h138]
                have h139 : fr_G mw135 mw137 := by rw [h138]; exact fr_G.n
                have hx : mTx mw137 L K A V E N qo118 0 p := by rw [h138]; exact hx.s (by omega)
                have e55 : mw137 41 55 = ((mw135 41 55) - 1) := by rw [h138, mS_iff, if_pos ⟨rfl, rfl⟩]
                have e53 : mw137 41 53 = mw135 41 53 := by rw [h138, mS_iff, if_neg (by omega)]
                have e56 : mw137 41 56 = mw135 41 56 := by rw [h138, mS_iff, if_neg (by omega)]
                have kp := kp.G h139
                have hn2 := h139.2 41 54 (by omega) (by omega)
                have cn1 := h139.1
                have w5 := w5.G h139
                have fr := fr.trans h139
                have cn := fr.1
                exact hQ rfl _ _ _ es _ _ fr hx (by omega) (by omega) (by omega) (by omega) (by omega) ((((mNd_sign (lo := m 41 54) (hi := m 41 54 + mw135 41 53) (hi1 := m 41 54 + mw77 41 53) (p1 := ko80 - mw1 41 56) (hi2 := m 41 54 + mw116 41 53) (p2 := ko119 - mw102 41 56) (by omega) (h136.2.2.1.trans (by omega)) (h136.2.2.2.1.trans ap) (by omega) h136.2.2.2.2.1 h136.2.2.2.2.2 ((nd1.cv (by omega) (by omega) rfl).keep (fun x j a b c e => kl.2 x j (by omega) (by omega))) ((nd2.cv (by omega) (by omega) rfl).keep (fun x j a b c e => h136.1 x j (by omega) (by omega))) (by omega) (by omega))).keep (fun x j a b c e => kp.2 x j (by omega) (by omega))).cv rfl (by omega) (by omega))
            · have kl := kl.G h96
              have hn2 := h96.2 41 54 (by omega) (by omega)
              have cn1 := h96.1
              have w5 := w5.G h96
              have fr := fr.trans h96
              have cn := fr.1
              have hx := h97
              have nz : (5 : Int) ≠ 0 := by omega
              have es := es.trans (c_pt_n (by omega))
              refine And.intro (rfl) ?_
              refine ct_199 (by omega) hx (fun h => absurd h nz) (fun _ => ?_) (fun h => absurd h nz)
              refine And.intro (rfl) ?_
              refine (ih n0 (by omega)).2.2.2.1 _ _ _ dep _ _ _ g0 (by omega) hx w5 (by omega) (by omega) (by omega) (fun _ => by omega) (by omega) (fun _ mw141 r142 h144 h145 h146 => ?_) (fun h => absurd h nz) (fun h => absurd h nz)
              have kl := kl.G h144
              have hn2 := h144.2 41 54 (by omega) (by omega)
              have cn1 := h144.1
              have w5 := w5.G h144
              have fr := fr.trans h144
              have cn := fr.1
              have hx := h146
              refine And.intro (rfl) ?_
              refine ct_296 (by omega) (by omega) (by omega) (fun mw151 h152 => ?_)
              have kl := kl.P h152
              have hn2 := h152.1 41 54 (by omega) (by omega)
              have w5 := w5.K (fun x u v => funext fun j => h152.1 x j (by omega) (by omega))
              have fr := h152.fr fr (by omega)
              have cn := fr.1
              have hx := h152.tx hx
              have pt1 := h152.2.1
              have pt5 := h152.1 41 55 (by omega) (by omega)
              have pt6 := h152.1 41 56 (by omega) (by omega)
              skip
              refine And.intro (rfl) ?_
              refine And.intro (show -2147483648 ≤ (mw151 41 55) - 1 ∧ (mw151 41 55) - 1 ≤ 2147483647 by first | omega | (simp only [mS_iff, eq_self, Int.reduceEq, true_and, and_true, false_and, and_false, and_self, ↓reduceIte]; omega) | (simp only [mS_iff, eq_self, Int.reduceEq, true_and, and_true, false_and, and_false, and_self, ↓reduceIte] at *; omega)) ?_
              refine And.intro (rfl) ?_
              obtain ⟨mw153, h154⟩ : ∃ z, z = (mS mw151 41 55 ((mw151 41 55) - 1)) := ⟨_, rfl⟩
              rw [← h154]
              have h155 : fr_G mw151 mw153 := by rw [h154]; exact fr_G.n
              have hx : mTx mw153 L K A V E N qo79 5 (A qo79) := by rw [h154]; exact hx.s (by omega)
              have e55 : mw153 41 55 = ((mw151 41 55) - 1) := by rw [h154, mS_iff, if_pos ⟨rfl, rfl⟩]
              have e53 : mw153 41 53 = mw151 41 53 := by rw [h154, mS_iff, if_neg (by omega)]
              have e56 : mw153 41 56 = mw151 41 56 := by rw [h154, mS_iff, if_neg (by omega)]
              have kl := kl.G h155
              have hn2 := h155.2 41 54 (by omega) (by omega)
              have cn1 := h155.1
              have w5 := w5.G h155
              have fr := fr.trans h155
              have cn := fr.1
              exact hQe rfl _ _ es _ _ _ fr hx nz (by omega) (by omega)
          · replace h94 : K qo79 ≠ 160 := fun h => h94 ⟨rfl, h⟩
            refine And.intro (fun h => absurd h (by decide)) (fun _ => ?_)
            refine And.intro (rfl) ?_
            refine ct_206 (by omega) hx (by unfold x_sg; omega) (fun _ h156 => ?_) (fun h156 => ?_)
            · have ky : K qo79 = 161 := h156
              refine And.intro (fun h => absurd h (by decide)) (fun _ => ?_)
              refine And.intro (rfl) ?_
              have ap : mw77 41 14 = A qo79 := (hx.2.2.2.2.2.2.1 rfl).2.2.2.1
              have es := es.trans (if_pos (by omega))
              have sv : am_l2i (mw77 41 15) = K qo79 - 100 := by
                have g1 := hx.g (c := 60) (by unfold x_sg; omega)
                have g2 := hx.g (c := 61) (by unfold x_sg; omega)
                rw [am_l2i_eq (by omega)]
                omega
              skip
              refine And.intro (rfl) ?_
              refine And.intro (rfl) ?_
              refine ct_288 (by omega) hx (by omega) (by omega) (fun h160 mw157 h158 h161 h162 h163 h159 => ?_) (fun h160 mw157 h158 h161 h162 h163 h159 => ?_)
              · have kl := kl.G h158
                have hn2 := h158.2 41 54 (by omega) (by omega)
                have cn1 := h158.1
                have w5 := w5.G h158
                have fr := fr.trans h158
                have cn := fr.1
                have hx := h159
                have es := es.trans (c_pt_y (by omega))
                refine And.intro (rfl) ?_
                refine ct_199 (by omega) hx (fun _ => by omega) (fun h => absurd rfl h) (fun _ mw164 h165 h166 => ?_)
                have hn1 := h165 41 53 (by omega)
                have hn2 := h165 41 54 (by omega)
                have hn3 := h165 41 55 (by omega)
                have hn4 := h165 41 56 (by omega)
                have kl := kl.M h165
                have w5 := w5.M h165
                have fr := fr.M h165
                have cn := fr.1
                have hx := h166
                refine And.intro (rfl) ?_
                refine (ih n0 (by omega)).2.2.2.1 _ _ _ dep _ _ _ g0 (by omega) hx w5 (by omega) (by omega) (by omega) (fun _ => by omega) (by omega) (fun h => absurd rfl h) (fun _ c175 pl176 h167 mw168 r169 qe170 h171 h173 h174 h177 h172 => ?_) (fun _ qo180 ko181 g182 h183 mw178 r179 h184 h190 h185 h186 h187 h188 h189 nd191 => ?_)
                · have kl := kl.G h171
                  have hn2 := h171.2 41 54 (by omega) (by omega)
                  have cn1 := h171.1
                  have w5 := w5.G h171
                  have fr := fr.trans h171
                  have cn := fr.1
                  have hx := h173
                  have nz := h174
                  have ec : c_x K A V n0 5 dep (qo79 + 1) (ko80 + 1) g0 = .inl (c175, pl176) := by rw [show (ko80 + 1) = mw164 41 56 by omega]; exact h167
                  have es := es.trans (c_bd_l ec)
                  refine And.intro (rfl) ?_
                  refine ct_296 (by omega) (by omega) (by omega) (fun mw192 h193 => ?_)
                  have kl := kl.P h193
                  have hn2 := h193.1 41 54 (by omega) (by omega)
                  have w5 := w5.K (fun x u v => funext fun j => h193.1 x j (by omega) (by omega))
                  have fr := h193.fr fr (by omega)
                  have cn := fr.1
                  have hx := h193.tx hx
                  have pt1 := h193.2.1
                  have pt5 := h193.1 41 55 (by omega) (by omega)
                  have pt6 := h193.1 41 56 (by omega) (by omega)
                  skip
                  refine And.intro (rfl) ?_
                  refine And.intro (show -2147483648 ≤ (mw192 41 55) - 1 ∧ (mw192 41 55) - 1 ≤ 2147483647 by first | omega | (simp only [mS_iff, eq_self, Int.reduceEq, true_and, and_true, false_and, and_false, and_self, ↓reduceIte]; omega) | (simp only [mS_iff, eq_self, Int.reduceEq, true_and, and_true, false_and, and_false, and_self, ↓reduceIte] at *; omega)) ?_
                  refine And.intro (rfl) ?_
                  obtain ⟨mw194, h195⟩ : ∃ z, z = (mS mw192 41 55 ((mw192 41 55) - 1)) := ⟨_, rfl⟩
                  rw [← h195]
                  have h196 : fr_G mw192 mw194 := by rw [h195]; exact fr_G.n
                  have hx : mTx mw194 L K A V E N qe170 c175 pl176 := by rw [h195]; exact hx.s (by omega)
                  have e55 : mw194 41 55 = ((mw192 41 55) - 1) := by rw [h195, mS_iff, if_pos ⟨rfl, rfl⟩]
                  have e53 : mw194 41 53 = mw192 41 53 := by rw [h195, mS_iff, if_neg (by omega)]
                  have e56 : mw194 41 56 = mw192 41 56 := by rw [h195, mS_iff, if_neg (by omega)]
                  have kl := kl.G h196
                  have hn2 := h196.2 41 54 (by omega) (by omega)
                  have cn1 := h196.1
                  have w5 := w5.G h196
                  have fr := fr.trans h196
                  have cn := fr.1
                  exact hQe rfl _ _ es _ _ _ fr hx nz (by omega) (by omega)
                · have kl := kl.G h184
                  have hn2 := h184.2 41 54 (by omega) (by omega)
                  have cn1 := h184.1
                  have w5 := w5.G h184
                  have fr := fr.trans h184
                  have cn := fr.1
                  have hx := h190
                  have eo : c_x K A V n0 5 dep (qo79 + 1) (ko80 + 1) g0 = .inr (qo180, ko181, g182) := by rw [show (ko80 + 1) = mw164 41 56 by omega]; exact h183
                  have es := es.trans (c_bd_r eo)
                  have nd2 := nd191
                  refine And.intro (rfl) ?_
                  refine ct_296 (by omega) (by omega) (by omega) (fun mw197 h198 => ?_)
                  have kl := kl.P h198
                  have hn2 := h198.1 41 54 (by omega) (by omega)
                  have w5 := w5.K (fun x u v => funext fun j => h198.1 x j (by omega) (by omega))
                  have fr := h198.fr fr (by omega)
                  have cn := fr.1
                  have hx := h198.tx hx
                  have pt1 := h198.2.1
                  have pt5 := h198.1 41 55 (by omega) (by omega)
                  have pt6 := h198.1 41 56 (by omega) (by omega)
                  have kp := fr_H.rfl mw197
                  refine And.intro (rfl) ?_
                  refine And.intro (show -2147483648 ≤ (mw197 41 55) - 1 ∧ (mw197 41 55) - 1 ≤ 2147483647 by first | omega | (simp only [mS_iff, eq_self, Int.reduceEq, true_and, and_true, false_and, and_false, and_self, ↓reduceIte]; omega) | (simp only [mS_iff, eq_self, Int.reduceEq, true_and, and_true, false_and, and_false, and_self, ↓reduceIte] at *; omega)) ?_
                  refine And.intro (rfl) ?_
                  obtain ⟨mw199, h200⟩ : ∃ z, z = (mS mw197 41 55 ((mw197 41 55) - 1)) := ⟨_, rfl⟩
                  rw [← h200]
                  have h201 : fr_G mw197 mw199 := by rw [h200]; exact fr_G.n
                  have hx : mTx mw199 L K A V E N qo180 0 p := by rw [h200]; exact hx.s (by omega)
                  have e55 : mw199 41 55 = ((mw197 41 55) - 1) := by rw [h200, mS_iff, if_pos ⟨rfl, rfl⟩]
                  have e53 : mw199 41 53 = mw197 41 53 := by rw [h200, mS_iff, if_neg (by omega)]
                  have e56 : mw199 41 56 = mw197 41 56 := by rw [h200, mS_iff, if_neg (by omega)]
                  have kp := kp.G h201
                  have hn2 := h201.2 41 54 (by omega) (by omega)
                  have cn1 := h201.1
                  have w5 := w5.G h201
                  have fr := fr.trans h201
                  have cn := fr.1
                  exact hQ rfl _ _ _ es _ _ fr hx (by omega) (by omega) (by omega) (by omega) (by omega) ((((mNd_sign (lo := m 41 54) (hi := m 41 54 + mw197 41 53) (hi1 := m 41 54 + mw77 41 53) (p1 := ko80 - mw1 41 56) (hi2 := m 41 54 + mw178 41 53) (p2 := ko181 - mw164 41 56) (by omega) (h198.2.2.1.trans (by omega)) (h198.2.2.2.1.trans ap) (by omega) h198.2.2.2.2.1 h198.2.2.2.2.2 ((nd1.cv (by omega) (by omega) rfl).keep (fun x j a b c e => kl.2 x j (by omega) (by omega))) ((nd2.cv (by omega) (by omega) rfl).keep (fun x j a b c e => h198.1 x j (by omega) (by omega))) (by omega) (by omega))).keep (fun x j a b c e => kp.2 x j (by omega) (by omega))).cv rfl (by omega) (by omega))
              · have kl := kl.G h158
                have hn2 := h158.2 41 54 (by omega) (by omega)
                have cn1 := h158.1
                have w5 := w5.G h158
                have fr := fr.trans h158
                have cn := fr.1
                have hx := h159
                have nz : (5 : Int) ≠ 0 := by omega
                have es := es.trans (c_pt_n (by omega))
                refine And.intro (rfl) ?_
                refine ct_199 (by omega) hx (fun h => absurd h nz) (fun _ => ?_) (fun h => absurd h nz)
                refine And.intro (rfl) ?_
                refine (ih n0 (by omega)).2.2.2.1 _ _ _ dep _ _ _ g0 (by omega) hx w5 (by omega) (by omega) (by omega) (fun _ => by omega) (by omega) (fun _ mw203 r204 h206 h207 h208 => ?_) (fun h => absurd h nz) (fun h => absurd h nz)
                have kl := kl.G h206
                have hn2 := h206.2 41 54 (by omega) (by omega)
                have cn1 := h206.1
                have w5 := w5.G h206
                have fr := fr.trans h206
                have cn := fr.1
                have hx := h208
                refine And.intro (rfl) ?_
                refine ct_296 (by omega) (by omega) (by omega) (fun mw213 h214 => ?_)
                have kl := kl.P h214
                have hn2 := h214.1 41 54 (by omega) (by omega)
                have w5 := w5.K (fun x u v => funext fun j => h214.1 x j (by omega) (by omega))
                have fr := h214.fr fr (by omega)
                have cn := fr.1
                have hx := h214.tx hx
                have pt1 := h214.2.1
                have pt5 := h214.1 41 55 (by omega) (by omega)
                have pt6 := h214.1 41 56 (by omega) (by omega)
                skip
                refine And.intro (rfl) ?_
                refine And.intro (show -2147483648 ≤ (mw213 41 55) - 1 ∧ (mw213 41 55) - 1 ≤ 2147483647 by first | omega | (simp only [mS_iff, eq_self, Int.reduceEq, true_and, and_true, false_and, and_false, and_self, ↓reduceIte]; omega) | (simp only [mS_iff, eq_self, Int.reduceEq, true_and, and_true, false_and, and_false, and_self, ↓reduceIte] at *; omega)) ?_
                refine And.intro (rfl) ?_
                obtain ⟨mw215, h216⟩ : ∃ z, z = (mS mw213 41 55 ((mw213 41 55) - 1)) := ⟨_, rfl⟩
                rw [← h216]
                have h217 : fr_G mw213 mw215 := by rw [h216]; exact fr_G.n
                have hx : mTx mw215 L K A V E N qo79 5 (A qo79) := by rw [h216]; exact hx.s (by omega)
                have e55 : mw215 41 55 = ((mw213 41 55) - 1) := by rw [h216, mS_iff, if_pos ⟨rfl, rfl⟩]
                have e53 : mw215 41 53 = mw213 41 53 := by rw [h216, mS_iff, if_neg (by omega)]
                have e56 : mw215 41 56 = mw213 41 56 := by rw [h216, mS_iff, if_neg (by omega)]
                have kl := kl.G h217
                have hn2 := h217.2 41 54 (by omega) (by omega)
                have cn1 := h217.1
                have w5 := w5.G h217
                have fr := fr.trans h217
                have cn := fr.1
                exact hQe rfl _ _ es _ _ _ fr hx nz (by omega) (by omega)
            · replace h156 : K qo79 ≠ 161 := fun h => h156 ⟨rfl, h⟩
              refine And.intro (fun _ => ?_) (fun h => absurd h (by decide))
              have kp := fr_H.rfl mw77
              refine And.intro (rfl) ?_
              refine And.intro (show -2147483648 ≤ (mw77 41 55) - 1 ∧ (mw77 41 55) - 1 ≤ 2147483647 by first | omega | (simp only [mS_iff, eq_self, Int.reduceEq, true_and, and_true, false_and, and_false, and_self, ↓reduceIte]; omega) | (simp only [mS_iff, eq_self, Int.reduceEq, true_and, and_true, false_and, and_false, and_self, ↓reduceIte] at *; omega)) ?_
              refine And.intro (rfl) ?_
              obtain ⟨mw218, h219⟩ : ∃ z, z = (mS mw77 41 55 ((mw77 41 55) - 1)) := ⟨_, rfl⟩
              rw [← h219]
              have h220 : fr_G mw77 mw218 := by rw [h219]; exact fr_G.n
              have hx : mTx mw218 L K A V E N qo79 0 p := by rw [h219]; exact hx.s (by omega)
              have e55 : mw218 41 55 = ((mw77 41 55) - 1) := by rw [h219, mS_iff, if_pos ⟨rfl, rfl⟩]
              have e53 : mw218 41 53 = mw77 41 53 := by rw [h219, mS_iff, if_neg (by omega)]
              have e56 : mw218 41 56 = mw77 41 56 := by rw [h219, mS_iff, if_neg (by omega)]
              have kp := kp.G h220
              have hn2 := h220.2 41 54 (by omega) (by omega)
              have cn1 := h220.1
              have w5 := w5.G h220
              have fr := fr.trans h220
              have cn := fr.1
              have es := es.trans (if_neg (by omega))
              exact hQ rfl _ _ _ es _ _ fr hx (by omega) (by omega) (by omega) (by omega) (by omega) ((((nd1.cv (lo' := m 41 54) (hi' := m 41 54 + mw77 41 53) (by omega) (by omega) rfl).keep (fun x j a b c e => kl.2 x j (by omega) (by omega))).keep (fun x j a b c e => kp.2 x j (by omega) (by omega))).cv rfl (by omega) (by omega))
  · skip
    refine am_go 400 [] (am_wpc_cm _ _ _) wf_287 ?_
    refine And.intro (rfl) ?_
    refine ct_284_0 (by omega) hx w5 (by omega) (fun _ mw1 h2 h6 h7 h8 h3 => ?_) (fun h => absurd h nz) (fun h => absurd h nz) (fun h => absurd h nz)
    have hn2 := h2.2 41 54 (by omega) (by omega)
    have cn1 := h2.1
    have w5 := w5.G h2
    have fr := fr.trans h2
    have cn := fr.1
    have hx := h3
    refine And.intro (rfl) ?_
    refine ct_198 (w := 51) (by omega) hx (by omega) (by decide +kernel) (fun h => absurd h nz) (fun _ => ?_)
    refine And.intro (fun _ => ?_) (fun h => absurd h (by decide))
    refine And.intro (rfl) ?_
    refine And.intro (fun h => absurd h (by have := (hx.2.2.2.2.2.2.2 nz).1; omega)) (fun _ => ?_)
    refine And.intro (rfl) ?_
    refine And.intro (show -2147483648 ≤ (mw1 41 55) - 1 ∧ (mw1 41 55) - 1 ≤ 2147483647 by first | omega | (simp only [mS_iff, eq_self, Int.reduceEq, true_and, and_true, false_and, and_false, and_self, ↓reduceIte]; omega) | (simp only [mS_iff, eq_self, Int.reduceEq, true_and, and_true, false_and, and_false, and_self, ↓reduceIte] at *; omega)) ?_
    refine And.intro (rfl) ?_
    obtain ⟨mw9, h10⟩ : ∃ z, z = (mS mw1 41 55 ((mw1 41 55) - 1)) := ⟨_, rfl⟩
    rw [← h10]
    have h11 : fr_G mw1 mw9 := by rw [h10]; exact fr_G.n
    have hx : mTx mw9 L K A V E N q f p := by rw [h10]; exact hx.s (by omega)
    have e55 : mw9 41 55 = ((mw1 41 55) - 1) := by rw [h10, mS_iff, if_pos ⟨rfl, rfl⟩]
    have e53 : mw9 41 53 = mw1 41 53 := by rw [h10, mS_iff, if_neg (by omega)]
    have e56 : mw9 41 56 = mw1 41 56 := by rw [h10, mS_iff, if_neg (by omega)]
    have hn2 := h11.2 41 54 (by omega) (by omega)
    have cn1 := h11.1
    have w5 := w5.G h11
    have fr := fr.trans h11
    have cn := fr.1
    exact hQf nz _ _ fr (by omega) hx
theorem mc_293 {L : Int} {K A V E : Int → Int} {N : Int} {n : Nat} (hT : xT K A V N) (ih : ∀ i, i < n → mCP L K A V E N i) : mCa L K A V E N 293 9 2 0 n := by
  intro d m Q dep q f p g0 hd hx w5 hnst hdp h0 hk hmu hQf hQe hQ
  have hb := hx.2.2.2.1
  have hN := hT.1
  obtain ⟨n0, rfl⟩ : ∃ i, n = i + 1 := ⟨n - 1, by omega⟩
  obtain ⟨dk, hdk⟩ : ∃ k, d = k + 1 := ⟨d - 1, by omega⟩
  have fr := fr_G.rfl m
  have cn := fr.1
  refine am_in (k := dk) rfl (by omega) (fun d hd => ?_)
  by_cases nz : f = 0
  · subst nz
    have es : c_x K A V (n0 + 1) 9 dep q (m 41 56) g0 = _ := c_x_9
    refine am_go 400 [] (am_wpc_cm _ _ _) wf_293 ?_
    refine And.intro (rfl) ?_
    refine And.intro (fun _ => ?_) (fun h => absurd h (by have := (hx.2.2.2.2.2.2.1 rfl).1; omega))
    refine And.intro (rfl) ?_
    refine ct_284_1 (by omega) hx w5 (by omega) (fun h => absurd rfl h) (fun _ h4 mw1 h2 h6 h7 h8 h3 => ?_) (fun _ h4 h5 mw1 h2 h6 h7 h8 h3 => ?_) (fun _ h4 h5 mw1 h2 h6 h7 h8 h3 => ?_)
    · have hn2 := h2.2 41 54 (by omega) (by omega)
      have cn1 := h2.1
      have w5 := w5.G h2
      have fr := fr.trans h2
      have cn := fr.1
      have hx := h3
      have nz : x_wr (K q) ≠ 0 := by unfold x_wr; omega
      have es := es.trans (c_may_w h4)
      refine And.intro (rfl) ?_
      skip
      refine And.intro (rfl) ?_
      refine ct_206 (by omega) hx (by unfold x_sg; omega) (fun h => absurd h nz) (fun _ => ?_)
      refine And.intro (fun _ => ?_) (fun h => absurd h (by decide))
      refine And.intro (rfl) ?_
      refine And.intro (fun _ => ?_) (fun h => absurd h (by have := (hx.2.2.2.2.2.2.2 nz).1; omega))
      skip
      refine And.intro (rfl) ?_
      refine And.intro (show -2147483648 ≤ (mw1 41 55) - 1 ∧ (mw1 41 55) - 1 ≤ 2147483647 by first | omega | (simp only [mS_iff, eq_self, Int.reduceEq, true_and, and_true, false_and, and_false, and_self, ↓reduceIte]; omega) | (simp only [mS_iff, eq_self, Int.reduceEq, true_and, and_true, false_and, and_false, and_self, ↓reduceIte] at *; omega)) ?_
      refine And.intro (rfl) ?_
      obtain ⟨mw9, h10⟩ : ∃ z, z = (mS mw1 41 55 ((mw1 41 55) - 1)) := ⟨_, rfl⟩
      rw [← h10]
      have h11 : fr_G mw1 mw9 := by rw [h10]; exact fr_G.n
      have hx : mTx mw9 L K A V E N q (x_wr (K q)) (A q) := by rw [h10]; exact hx.s (by omega)
      have e55 : mw9 41 55 = ((mw1 41 55) - 1) := by rw [h10, mS_iff, if_pos ⟨rfl, rfl⟩]
      have e53 : mw9 41 53 = mw1 41 53 := by rw [h10, mS_iff, if_neg (by omega)]
      have e56 : mw9 41 56 = mw1 41 56 := by rw [h10, mS_iff, if_neg (by omega)]
      have hn2 := h11.2 41 54 (by omega) (by omega)
      have cn1 := h11.1
      have w5 := w5.G h11
      have fr := fr.trans h11
      have cn := fr.1
      exact hQe rfl _ _ es _ _ _ fr hx nz (by omega) (by omega)
    · have hn2 := h2.2 41 54 (by omega) (by omega)
      have cn1 := h2.1
      have w5 := w5.G h2
      have fr := fr.trans h2
      have cn := fr.1
      have hx := h3
      have nz : (5 : Int) ≠ 0 := by omega
      have es := es.trans (c_may_d h4 (by omega))
      refine And.intro (rfl) ?_
      skip
      refine And.intro (rfl) ?_
      refine ct_206 (by omega) hx (by unfold x_sg; omega) (fun h => absurd h nz) (fun _ => ?_)
      refine And.intro (fun _ => ?_) (fun h => absurd h (by decide))
      refine And.intro (rfl) ?_
      refine And.intro (fun _ => ?_) (fun h => absurd h (by have := (hx.2.2.2.2.2.2.2 nz).1; omega))
      skip
      refine And.intro (rfl) ?_
      refine And.intro (show -2147483648 ≤ (mw1 41 55) - 1 ∧ (mw1 41 55) - 1 ≤ 2147483647 by first | omega | (simp only [mS_iff, eq_self, Int.reduceEq, true_and, and_true, false_and, and_false, and_self, ↓reduceIte]; omega) | (simp only [mS_iff, eq_self, Int.reduceEq, true_and, and_true, false_and, and_false, and_self, ↓reduceIte] at *; omega)) ?_
      refine And.intro (rfl) ?_
      obtain ⟨mw12, h13⟩ : ∃ z, z = (mS mw1 41 55 ((mw1 41 55) - 1)) := ⟨_, rfl⟩
      rw [← h13]
      have h14 : fr_G mw1 mw12 := by rw [h13]; exact fr_G.n
      have hx : mTx mw12 L K A V E N q 5 (A q) := by rw [h13]; exact hx.s (by omega)
      have e55 : mw12 41 55 = ((mw1 41 55) - 1) := by rw [h13, mS_iff, if_pos ⟨rfl, rfl⟩]
      have e53 : mw12 41 53 = mw1 41 53 := by rw [h13, mS_iff, if_neg (by omega)]
      have e56 : mw12 41 56 = mw1 41 56 := by rw [h13, mS_iff, if_neg (by omega)]
      have hn2 := h14.2 41 54 (by omega) (by omega)
      have cn1 := h14.1
      have w5 := w5.G h14
      have fr := fr.trans h14
      have cn := fr.1
      exact hQe rfl _ _ es _ _ _ fr hx nz (by omega) (by omega)
    · have hn2 := h2.2 41 54 (by omega) (by omega)
      have cn1 := h2.1
      have w5 := w5.G h2
      have fr := fr.trans h2
      have cn := fr.1
      have hx := h3
      have bg := h4
      have dg : ¬ 15 ≤ dep := by omega
      have bg1 : K q = 51 ∨ K q = 145 ∨ K q = 70 ∨ K q = 140 ∨ (52 ≤ K q ∧ K q ≤ 65) := bg.1
      have bg2 := bg.2
      have es := es.trans (c_may_y h4 dg)
      refine And.intro (rfl) ?_
      have ap : mw1 41 14 = A q := (hx.2.2.2.2.2.2.1 rfl).2.2.2.1
      refine And.intro (rfl) ?_
      refine ct_206 (by omega) hx (by unfold x_sg; omega) (fun _ h15 => ?_) (fun h15 => ?_)
      · have ky : K q = 140 := h15
        refine And.intro (fun h => absurd h (by decide)) (fun _ => ?_)
        have es := es.trans (if_pos (by omega))
        skip
        refine And.intro (rfl) ?_
        refine ct_199 (by omega) hx (fun _ => by omega) (fun h => absurd rfl h) (fun _ mw16 h17 h18 => ?_)
        have hn1 := h17 41 53 (by omega)
        have hn2 := h17 41 54 (by omega)
        have hn3 := h17 41 55 (by omega)
        have hn4 := h17 41 56 (by omega)
        have w5 := w5.M h17
        have fr := fr.M h17
        have cn := fr.1
        have hx := h18
        refine And.intro (rfl) ?_
        refine And.intro (fun _ => ?_) (fun h => absurd h (by have := (hx.2.2.2.2.2.2.1 rfl).1; omega))
        refine And.intro (rfl) ?_
        refine (ih n0 (by omega)).1 _ _ _ (dep + 1) _ _ _ g0 (by omega) hx w5 (by omega) (by omega) (by omega) (fun _ => by omega) (by omega) (fun h => absurd rfl h) (fun _ c27 pl28 h19 mw20 r21 qe22 h23 h25 h26 h29 h24 => ?_) (fun _ qo32 ko33 g34 h35 mw30 r31 h36 h42 h37 h38 h39 h40 h41 nd43 => ?_)
        · have hn2 := h23.2 41 54 (by omega) (by omega)
          have cn1 := h23.1
          have w5 := w5.G h23
          have fr := fr.trans h23
          have cn := fr.1
          have hx := h25
          have nz := h26
          have ec : c_x K A V n0 0 (dep + 1) (q + 1) (m 41 56) g0 = .inl (c27, pl28) := by rw [show (m 41 56) = mw16 41 56 by omega]; exact h19
          have es := es.trans (c_bd_l ec)
          skip
          refine And.intro (rfl) ?_
          refine ct_294 (by omega) hx (by unfold x_sg; omega) (fun _ mw44 h45 h46 => ?_) (fun h => absurd h nz) (fun h => absurd h nz)
          have hn1 := h45 41 53 (by omega)
          have hn2 := h45 41 54 (by omega)
          have hn3 := h45 41 55 (by omega)
          have hn4 := h45 41 56 (by omega)
          have w5 := w5.M h45
          have fr := fr.M h45
          have cn := fr.1
          have hx := h46
          skip
          refine And.intro (rfl) ?_
          refine And.intro (show -2147483648 ≤ (mw44 41 55) - 1 ∧ (mw44 41 55) - 1 ≤ 2147483647 by first | omega | (simp only [mS_iff, eq_self, Int.reduceEq, true_and, and_true, false_and, and_false, and_self, ↓reduceIte]; omega) | (simp only [mS_iff, eq_self, Int.reduceEq, true_and, and_true, false_and, and_false, and_self, ↓reduceIte] at *; omega)) ?_
          refine And.intro (rfl) ?_
          obtain ⟨mw48, h49⟩ : ∃ z, z = (mS mw44 41 55 ((mw44 41 55) - 1)) := ⟨_, rfl⟩
          rw [← h49]
          have h50 : fr_G mw44 mw48 := by rw [h49]; exact fr_G.n
          have hx : mTx mw48 L K A V E N qe22 c27 pl28 := by rw [h49]; exact hx.s (by omega)
          have e55 : mw48 41 55 = ((mw44 41 55) - 1) := by rw [h49, mS_iff, if_pos ⟨rfl, rfl⟩]
          have e53 : mw48 41 53 = mw44 41 53 := by rw [h49, mS_iff, if_neg (by omega)]
          have e56 : mw48 41 56 = mw44 41 56 := by rw [h49, mS_iff, if_neg (by omega)]
          have hn2 := h50.2 41 54 (by omega) (by omega)
          have cn1 := h50.1
          have w5 := w5.G h50
          have fr := fr.trans h50
          have cn := fr.1
          exact hQe rfl _ _ es _ _ _ fr hx nz (by omega) (by omega)
        · have hn2 := h36.2 41 54 (by omega) (by omega)
          have cn1 := h36.1
          have w5 := w5.G h36
          have fr := fr.trans h36
          have cn := fr.1
          have hx := h42
          have eo : c_x K A V n0 0 (dep + 1) (q + 1) (m 41 56) g0 = .inr (qo32, ko33, g34) := by rw [show (m 41 56) = mw16 41 56 by omega]; exact h35
          have es := es.trans (c_bd_r eo)
          have nd1 := nd43
          have kl := fr_H.rfl mw30
          refine And.intro (rfl) ?_
          refine ct_294 (by omega) hx (by unfold x_sg; omega) (fun h => absurd rfl h) (fun _ h54 mw51 h52 h53 => ?_) (fun _ h54 mw51 h52 h53 => ?_)
          · have hn1 := h52 41 53 (by omega)
            have hn2 := h52 41 54 (by omega)
            have hn3 := h52 41 55 (by omega)
            have hn4 := h52 41 56 (by omega)
            have kl := kl.M h52
            have w5 := w5.M h52
            have fr := fr.M h52
            have cn := fr.1
            have hx := h53
            have es := es.trans (c_wt_y h54)
            have kp := fr_H.rfl mw51
            refine And.intro (rfl) ?_
            refine And.intro (show -2147483648 ≤ (mw51 41 55) - 1 ∧ (mw51 41 55) - 1 ≤ 2147483647 by first | omega | (simp only [mS_iff, eq_self, Int.reduceEq, true_and, and_true, false_and, and_false, and_self, ↓reduceIte]; omega) | (simp only [mS_iff, eq_self, Int.reduceEq, true_and, and_true, false_and, and_false, and_self, ↓reduceIte] at *; omega)) ?_
            refine And.intro (rfl) ?_
            obtain ⟨mw55, h56⟩ : ∃ z, z = (mS mw51 41 55 ((mw51 41 55) - 1)) := ⟨_, rfl⟩
            rw [← h56]
            have h57 : fr_G mw51 mw55 := by rw [h56]; exact fr_G.n
            have hx : mTx mw55 L K A V E N (qo32 + 1) 0 p := by rw [h56]; exact hx.s (by omega)
            have e55 : mw55 41 55 = ((mw51 41 55) - 1) := by rw [h56, mS_iff, if_pos ⟨rfl, rfl⟩]
            have e53 : mw55 41 53 = mw51 41 53 := by rw [h56, mS_iff, if_neg (by omega)]
            have e56 : mw55 41 56 = mw51 41 56 := by rw [h56, mS_iff, if_neg (by omega)]
            have kp := kp.G h57
            have hn2 := h57.2 41 54 (by omega) (by omega)
            have cn1 := h57.1
            have w5 := w5.G h57
            have fr := fr.trans h57
            have cn := fr.1
            exact hQ rfl _ _ _ es _ _ fr hx (by omega) (by omega) (by omega) (by omega) (by omega) ((((nd1.cv (lo' := m 41 54) (hi' := m 41 54 + mw30 41 53) (by omega) (by omega) rfl).keep (fun x j a b c e => kl.2 x j (by omega) (by omega))).keep (fun x j a b c e => kp.2 x j (by omega) (by omega))).cv rfl (by omega) (by omega))
          · have hn1 := h52 41 53 (by omega)
            have hn2 := h52 41 54 (by omega)
            have hn3 := h52 41 55 (by omega)
            have hn4 := h52 41 56 (by omega)
            have kl := kl.M h52
            have w5 := w5.M h52
            have fr := fr.M h52
            have cn := fr.1
            have hx := h53
            have nz : x_wr (K qo32) ≠ 0 := by unfold x_wr; omega
            have es := es.trans (c_wt_n h54)
            skip
            refine And.intro (rfl) ?_
            refine And.intro (show -2147483648 ≤ (mw51 41 55) - 1 ∧ (mw51 41 55) - 1 ≤ 2147483647 by first | omega | (simp only [mS_iff, eq_self, Int.reduceEq, true_and, and_true, false_and, and_false, and_self, ↓reduceIte]; omega) | (simp only [mS_iff, eq_self, Int.reduceEq, true_and, and_true, false_and, and_false, and_self, ↓reduceIte] at *; omega)) ?_
            refine And.intro (rfl) ?_
            obtain ⟨mw58, h59⟩ : ∃ z, z = (mS mw51 41 55 ((mw51 41 55) - 1)) := ⟨_, rfl⟩
            rw [← h59]
            have h60 : fr_G mw51 mw58 := by rw [h59]; exact fr_G.n
            have hx : mTx mw58 L K A V E N qo32 (x_wr (K qo32)) (A qo32) := by rw [h59]; exact hx.s (by omega)
            have e55 : mw58 41 55 = ((mw51 41 55) - 1) := by rw [h59, mS_iff, if_pos ⟨rfl, rfl⟩]
            have e53 : mw58 41 53 = mw51 41 53 := by rw [h59, mS_iff, if_neg (by omega)]
            have e56 : mw58 41 56 = mw51 41 56 := by rw [h59, mS_iff, if_neg (by omega)]
            have kl := kl.G h60
            have hn2 := h60.2 41 54 (by omega) (by omega)
            have cn1 := h60.1
            have w5 := w5.G h60
            have fr := fr.trans h60
            have cn := fr.1
            exact hQe rfl _ _ es _ _ _ fr hx nz (by omega) (by omega)
      · replace h15 : K q ≠ 140 := fun h => h15 ⟨rfl, h⟩
        refine And.intro (fun _ => ?_) (fun h => absurd h (by decide))
        refine And.intro (rfl) ?_
        refine And.intro (fun h => absurd h (by have := (hx.2.2.2.2.2.2.1 rfl).1; omega)) (fun _ => ?_)
        have es := es.trans (if_neg (by omega))
        refine And.intro (rfl) ?_
        refine ct_288 (by omega) hx (by omega) (by omega) (fun h64 mw61 h62 h65 h66 h67 h63 => ?_) (fun h64 mw61 h62 h65 h66 h67 h63 => ?_)
        · have hn2 := h62.2 41 54 (by omega) (by omega)
          have cn1 := h62.1
          have w5 := w5.G h62
          have fr := fr.trans h62
          have cn := fr.1
          have hx := h63
          have es := es.trans (c_pt_y (by omega))
          refine And.intro (rfl) ?_
          refine am_in (k := dk - 1) rfl (by omega) (fun d hd => ?_)
          refine am_go 400 [] (am_wpc_cm _ _ _) wf_295 ?_
          refine And.intro (rfl) ?_
          refine And.intro (fun _ => ?_) (fun h => absurd h (by have := (hx.2.2.2.2.2.2.1 rfl).1; omega))
          have r8 := hx.k2
          refine And.intro (rfl) ?_
          refine And.intro (fun h68 => ?_) (fun h68 => ?_)
          · refine And.intro (rfl) ?_
            refine ct_206 (by omega) hx (by unfold x_sg; omega) (fun _ h69 => ?_) (fun h69 => ?_)
            · have ky : K q = 145 := h69
              refine And.intro (fun h => absurd h (by decide)) (fun _ => ?_)
              have es := es.trans ((if_neg (by omega)).trans ((if_neg (by omega)).trans (if_pos (by omega))))
              skip
              refine And.intro (rfl) ?_
              refine ct_199 (by omega) hx (fun _ => by omega) (fun h => absurd rfl h) (fun _ mw70 h71 h72 => ?_)
              have hn1 := h71 41 53 (by omega)
              have hn2 := h71 41 54 (by omega)
              have hn3 := h71 41 55 (by omega)
              have hn4 := h71 41 56 (by omega)
              have w5 := w5.M h71
              have fr := fr.M h71
              have cn := fr.1
              have hx := h72
              refine And.intro (rfl) ?_
              refine (ih n0 (by omega)).2.2.2.2.2 _ _ _ (dep + 1) _ _ _ g0 (by omega) hx w5 (by omega) (by omega) (by omega) (fun _ => by omega) (by omega) (fun h => absurd rfl h) (fun _ c81 pl82 h73 mw74 r75 qe76 h77 h79 h80 h83 h78 => ?_) (fun _ qo86 ko87 g88 h89 mw84 r85 h90 h96 h91 h92 h93 h94 h95 nd97 => ?_)
              · have hn2 := h77.2 41 54 (by omega) (by omega)
                have cn1 := h77.1
                have w5 := w5.G h77
                have fr := fr.trans h77
                have cn := fr.1
                have hx := h79
                have nz := h80
                have ec : c_x K A V n0 9 (dep + 1) (q + 1) (m 41 56 + 1) g0 = .inl (c81, pl82) := by rw [show (m 41 56 + 1) = mw70 41 56 by omega]; exact h73
                have es := es.trans (c_bd_l ec)
                refine And.intro (rfl) ?_
                refine ct_289 (by omega) (by omega) (by omega) (fun mw98 h99 => ?_)
                have hn2 := h99.1 41 54 (by omega) (by omega)
                have w5 := w5.K (fun x u v => funext fun j => h99.1 x j (by omega) (by omega))
                have fr := h99.fr fr (by omega)
                have cn := fr.1
                have hx := h99.tx hx
                have pt1 := h99.2.1
                have pt5 := h99.1 41 55 (by omega) (by omega)
                have pt6 := h99.1 41 56 (by omega) (by omega)
                skip
                refine And.intro (rfl) ?_
                refine And.intro (show -2147483648 ≤ (mw98 41 55) - 1 ∧ (mw98 41 55) - 1 ≤ 2147483647 by first | omega | (simp only [mS_iff, eq_self, Int.reduceEq, true_and, and_true, false_and, and_false, and_self, ↓reduceIte]; omega) | (simp only [mS_iff, eq_self, Int.reduceEq, true_and, and_true, false_and, and_false, and_self, ↓reduceIte] at *; omega)) ?_
                refine And.intro (rfl) ?_
                obtain ⟨mw100, h101⟩ : ∃ z, z = (mS mw98 41 55 ((mw98 41 55) - 1)) := ⟨_, rfl⟩
                rw [← h101]
                have h102 : fr_G mw98 mw100 := by rw [h101]; exact fr_G.n
                have hx : mTx mw100 L K A V E N qe76 c81 pl82 := by rw [h101]; exact hx.s (by omega)
                have e55 : mw100 41 55 = ((mw98 41 55) - 1) := by rw [h101, mS_iff, if_pos ⟨rfl, rfl⟩]
                have e53 : mw100 41 53 = mw98 41 53 := by rw [h101, mS_iff, if_neg (by omega)]
                have e56 : mw100 41 56 = mw98 41 56 := by rw [h101, mS_iff, if_neg (by omega)]
                have hn2 := h102.2 41 54 (by omega) (by omega)
                have cn1 := h102.1
                have w5 := w5.G h102
                have fr := fr.trans h102
                have cn := fr.1
                exact hQe rfl _ _ es _ _ _ fr hx nz (by omega) (by omega)
              · have hn2 := h90.2 41 54 (by omega) (by omega)
                have cn1 := h90.1
                have w5 := w5.G h90
                have fr := fr.trans h90
                have cn := fr.1
                have hx := h96
                have eo : c_x K A V n0 9 (dep + 1) (q + 1) (m 41 56 + 1) g0 = .inr (qo86, ko87, g88) := by rw [show (m 41 56 + 1) = mw70 41 56 by omega]; exact h89
                have es := es.trans (c_bd_r eo)
                have nd2 := nd97
                refine And.intro (rfl) ?_
                refine ct_289 (by omega) (by omega) (by omega) (fun mw103 h104 => ?_)
                have hn2 := h104.1 41 54 (by omega) (by omega)
                have w5 := w5.K (fun x u v => funext fun j => h104.1 x j (by omega) (by omega))
                have fr := h104.fr fr (by omega)
                have cn := fr.1
                have hx := h104.tx hx
                have pt1 := h104.2.1
                have pt5 := h104.1 41 55 (by omega) (by omega)
                have pt6 := h104.1 41 56 (by omega) (by omega)
                have kp := fr_H.rfl mw103
                refine And.intro (rfl) ?_
                refine And.intro (show -2147483648 ≤ (mw103 41 55) - 1 ∧ (mw103 41 55) - 1 ≤ 2147483647 by first | omega | (simp only [mS_iff, eq_self, Int.reduceEq, true_and, and_true, false_and, and_false, and_self, ↓reduceIte]; omega) | (simp only [mS_iff, eq_self, Int.reduceEq, true_and, and_true, false_and, and_false, and_self, ↓reduceIte] at *; omega)) ?_
                refine And.intro (rfl) ?_
                obtain ⟨mw105, h106⟩ : ∃ z, z = (mS mw103 41 55 ((mw103 41 55) - 1)) := ⟨_, rfl⟩
                rw [← h106]
                have h107 : fr_G mw103 mw105 := by rw [h106]; exact fr_G.n
                have hx : mTx mw105 L K A V E N qo86 0 p := by rw [h106]; exact hx.s (by omega)
                have e55 : mw105 41 55 = ((mw103 41 55) - 1) := by rw [h106, mS_iff, if_pos ⟨rfl, rfl⟩]
                have e53 : mw105 41 53 = mw103 41 53 := by rw [h106, mS_iff, if_neg (by omega)]
                have e56 : mw105 41 56 = mw103 41 56 := by rw [h106, mS_iff, if_neg (by omega)]
                have kp := kp.G h107
                have hn2 := h107.2 41 54 (by omega) (by omega)
                have cn1 := h107.1
                have w5 := w5.G h107
                have fr := fr.trans h107
                have cn := fr.1
                exact hQ rfl _ _ _ es _ _ fr hx (by omega) (by omega) (by omega) (by omega) (by omega) ((((mNd_minus (lo := m 41 54) (hi := m 41 54 + mw103 41 53) (hi1 := m 41 54 + mw84 41 53) (p1 := ko87 - mw70 41 56) (by omega) h104.2.2.1 (h104.2.2.2.1.trans ap) h104.2.2.2.2.1 ((nd2.cv (by omega) (by omega) rfl).keep (fun x j a b c e => h104.1 x j (by omega) (by omega))) (by omega))).keep (fun x j a b c e => kp.2 x j (by omega) (by omega))).cv rfl (by omega) (by omega))
            · replace h69 : K q ≠ 145 := fun h => h69 ⟨rfl, h⟩
              refine And.intro (fun _ => ?_) (fun h => absurd h (by decide))
              refine And.intro (rfl) ?_
              refine ct_198 (w := 65) (by omega) hx (by omega) (by decide +kernel) (fun _ h108 => ?_) (fun h108 => ?_)
              · have ky : K q = 65 := h108
                refine And.intro (fun h => absurd h (by decide)) (fun _ => ?_)
                have es := es.trans ((if_neg (by omega)).trans ((if_neg (by omega)).trans ((if_neg (by omega)).trans (if_pos (by omega)))))
                skip
                refine And.intro (rfl) ?_
                refine ct_199 (by omega) hx (fun _ => by omega) (fun h => absurd rfl h) (fun _ mw109 h110 h111 => ?_)
                have hn1 := h110 41 53 (by omega)
                have hn2 := h110 41 54 (by omega)
                have hn3 := h110 41 55 (by omega)
                have hn4 := h110 41 56 (by omega)
                have w5 := w5.M h110
                have fr := fr.M h110
                have cn := fr.1
                have hx := h111
                refine And.intro (rfl) ?_
                refine (ih n0 (by omega)).2.2.2.2.2 _ _ _ (dep + 1) _ _ _ g0 (by omega) hx w5 (by omega) (by omega) (by omega) (fun _ => by omega) (by omega) (fun h => absurd rfl h) (fun _ c120 pl121 h112 mw113 r114 qe115 h116 h118 h119 h122 h117 => ?_) (fun _ qo125 ko126 g127 h128 mw123 r124 h129 h135 h130 h131 h132 h133 h134 nd136 => ?_)
                · have hn2 := h116.2 41 54 (by omega) (by omega)
                  have cn1 := h116.1
                  have w5 := w5.G h116
                  have fr := fr.trans h116
                  have cn := fr.1
                  have hx := h118
                  have nz := h119
                  have ec : c_x K A V n0 9 (dep + 1) (q + 1) (m 41 56 + 1) g0 = .inl (c120, pl121) := by rw [show (m 41 56 + 1) = mw109 41 56 by omega]; exact h112
                  have es := es.trans (c_bd_l ec)
                  skip
                  refine And.intro (rfl) ?_
                  refine ct_205 (w := 66) (by omega) hx (by omega) (by decide +kernel) (fun _ mw137 h138 h139 => ?_) (fun h => absurd h nz) (fun h => absurd h nz)
                  have hn1 := h138 41 53 (by omega)
                  have hn2 := h138 41 54 (by omega)
                  have hn3 := h138 41 55 (by omega)
                  have hn4 := h138 41 56 (by omega)
                  have w5 := w5.M h138
                  have fr := fr.M h138
                  have cn := fr.1
                  have hx := h139
                  refine And.intro (rfl) ?_
                  refine (ih n0 (by omega)).2.2.2.2.2 _ _ _ (dep + 1) _ _ _ g0 (by omega) hx w5 (by omega) (by omega) (by omega) (fun _ => by omega) (by omega) (fun _ mw142 r143 h145 h146 h147 => ?_) (fun h => absurd h nz) (fun h => absurd h nz)
                  have hn2 := h145.2 41 54 (by omega) (by omega)
                  have cn1 := h145.1
                  have w5 := w5.G h145
                  have fr := fr.trans h145
                  have cn := fr.1
                  have hx := h147
                  refine And.intro (rfl) ?_
                  refine ct_289 (by omega) (by omega) (by omega) (fun mw152 h153 => ?_)
                  have hn2 := h153.1 41 54 (by omega) (by omega)
                  have w5 := w5.K (fun x u v => funext fun j => h153.1 x j (by omega) (by omega))
                  have fr := h153.fr fr (by omega)
                  have cn := fr.1
                  have hx := h153.tx hx
                  have pt1 := h153.2.1
                  have pt5 := h153.1 41 55 (by omega) (by omega)
                  have pt6 := h153.1 41 56 (by omega) (by omega)
                  skip
                  refine And.intro (rfl) ?_
                  refine And.intro (show -2147483648 ≤ (mw152 41 55) - 1 ∧ (mw152 41 55) - 1 ≤ 2147483647 by first | omega | (simp only [mS_iff, eq_self, Int.reduceEq, true_and, and_true, false_and, and_false, and_self, ↓reduceIte]; omega) | (simp only [mS_iff, eq_self, Int.reduceEq, true_and, and_true, false_and, and_false, and_self, ↓reduceIte] at *; omega)) ?_
                  refine And.intro (rfl) ?_
                  obtain ⟨mw154, h155⟩ : ∃ z, z = (mS mw152 41 55 ((mw152 41 55) - 1)) := ⟨_, rfl⟩
                  rw [← h155]
                  have h156 : fr_G mw152 mw154 := by rw [h155]; exact fr_G.n
                  have hx : mTx mw154 L K A V E N qe115 c120 pl121 := by rw [h155]; exact hx.s (by omega)
                  have e55 : mw154 41 55 = ((mw152 41 55) - 1) := by rw [h155, mS_iff, if_pos ⟨rfl, rfl⟩]
                  have e53 : mw154 41 53 = mw152 41 53 := by rw [h155, mS_iff, if_neg (by omega)]
                  have e56 : mw154 41 56 = mw152 41 56 := by rw [h155, mS_iff, if_neg (by omega)]
                  have hn2 := h156.2 41 54 (by omega) (by omega)
                  have cn1 := h156.1
                  have w5 := w5.G h156
                  have fr := fr.trans h156
                  have cn := fr.1
                  exact hQe rfl _ _ es _ _ _ fr hx nz (by omega) (by omega)
                · have hn2 := h129.2 41 54 (by omega) (by omega)
                  have cn1 := h129.1
                  have w5 := w5.G h129
                  have fr := fr.trans h129
                  have cn := fr.1
                  have hx := h135
                  have eo : c_x K A V n0 9 (dep + 1) (q + 1) (m 41 56 + 1) g0 = .inr (qo125, ko126, g127) := by rw [show (m 41 56 + 1) = mw109 41 56 by omega]; exact h128
                  have es := es.trans (c_bd_r eo)
                  have nd3 := nd136
                  have kl := fr_H.rfl mw123
                  refine And.intro (rfl) ?_
                  refine ct_205 (w := 66) (by omega) hx (by omega) (by decide +kernel) (fun h => absurd rfl h) (fun _ h160 mw157 h158 h159 => ?_) (fun _ h160 mw157 h158 h159 => ?_)
                  · have hn1 := h158 41 53 (by omega)
                    have hn2 := h158 41 54 (by omega)
                    have hn3 := h158 41 55 (by omega)
                    have hn4 := h158 41 56 (by omega)
                    have kl := kl.M h158
                    have w5 := w5.M h158
                    have fr := fr.M h158
                    have cn := fr.1
                    have hx := h159
                    have es := es.trans (c_wt_y h160)
                    refine And.intro (rfl) ?_
                    refine (ih n0 (by omega)).2.2.2.2.2 _ _ _ (dep + 1) _ _ _ g0 (by omega) hx w5 (by omega) (by omega) (by omega) (fun _ => by omega) (by omega) (fun h => absurd rfl h) (fun _ c169 pl170 h161 mw162 r163 qe164 h165 h167 h168 h171 h166 => ?_) (fun _ qo174 ko175 g176 h177 mw172 r173 h178 h184 h179 h180 h181 h182 h183 nd185 => ?_)
                    · have kl := kl.G h165
                      have hn2 := h165.2 41 54 (by omega) (by omega)
                      have cn1 := h165.1
                      have w5 := w5.G h165
                      have fr := fr.trans h165
                      have cn := fr.1
                      have hx := h167
                      have nz := h168
                      have ec : c_x K A V n0 9 (dep + 1) (qo125 + 1) ko126 g0 = .inl (c169, pl170) := by rw [show ko126 = mw157 41 56 by omega]; exact h161
                      have es := es.trans (c_bd_l ec)
                      refine And.intro (rfl) ?_
                      refine ct_289 (by omega) (by omega) (by omega) (fun mw186 h187 => ?_)
                      have kl := kl.P h187
                      have hn2 := h187.1 41 54 (by omega) (by omega)
                      have w5 := w5.K (fun x u v => funext fun j => h187.1 x j (by omega) (by omega))
                      have fr := h187.fr fr (by omega)
                      have cn := fr.1
                      have hx := h187.tx hx
                      have pt1 := h187.2.1
                      have pt5 := h187.1 41 55 (by omega) (by omega)
                      have pt6 := h187.1 41 56 (by omega) (by omega)
                      skip
                      refine And.intro (rfl) ?_
                      refine And.intro (show -2147483648 ≤ (mw186 41 55) - 1 ∧ (mw186 41 55) - 1 ≤ 2147483647 by first | omega | (simp only [mS_iff, eq_self, Int.reduceEq, true_and, and_true, false_and, and_false, and_self, ↓reduceIte]; omega) | (simp only [mS_iff, eq_self, Int.reduceEq, true_and, and_true, false_and, and_false, and_self, ↓reduceIte] at *; omega)) ?_
                      refine And.intro (rfl) ?_
                      obtain ⟨mw188, h189⟩ : ∃ z, z = (mS mw186 41 55 ((mw186 41 55) - 1)) := ⟨_, rfl⟩
                      rw [← h189]
                      have h190 : fr_G mw186 mw188 := by rw [h189]; exact fr_G.n
                      have hx : mTx mw188 L K A V E N qe164 c169 pl170 := by rw [h189]; exact hx.s (by omega)
                      have e55 : mw188 41 55 = ((mw186 41 55) - 1) := by rw [h189, mS_iff, if_pos ⟨rfl, rfl⟩]
                      have e53 : mw188 41 53 = mw186 41 53 := by rw [h189, mS_iff, if_neg (by omega)]
                      have e56 : mw188 41 56 = mw186 41 56 := by rw [h189, mS_iff, if_neg (by omega)]
                      have kl := kl.G h190
                      have hn2 := h190.2 41 54 (by omega) (by omega)
                      have cn1 := h190.1
                      have w5 := w5.G h190
                      have fr := fr.trans h190
                      have cn := fr.1
                      exact hQe rfl _ _ es _ _ _ fr hx nz (by omega) (by omega)
                    · have kl := kl.G h178
                      have hn2 := h178.2 41 54 (by omega) (by omega)
                      have cn1 := h178.1
                      have w5 := w5.G h178
                      have fr := fr.trans h178
                      have cn := fr.1
                      have hx := h184
                      have eo : c_x K A V n0 9 (dep + 1) (qo125 + 1) ko126 g0 = .inr (qo174, ko175, g176) := by rw [show ko126 = mw157 41 56 by omega]; exact h177
                      have es := es.trans (c_bd_r eo)
                      have nd4 := nd185
                      refine And.intro (rfl) ?_
                      refine ct_289 (by omega) (by omega) (by omega) (fun mw191 h192 => ?_)
                      have kl := kl.P h192
                      have hn2 := h192.1 41 54 (by omega) (by omega)
                      have w5 := w5.K (fun x u v => funext fun j => h192.1 x j (by omega) (by omega))
                      have fr := h192.fr fr (by omega)
                      have cn := fr.1
                      have hx := h192.tx hx
                      have pt1 := h192.2.1
                      have pt5 := h192.1 41 55 (by omega) (by omega)
                      have pt6 := h192.1 41 56 (by omega) (by omega)
                      have kp := fr_H.rfl mw191
                      refine And.intro (rfl) ?_
                      refine And.intro (show -2147483648 ≤ (mw191 41 55) - 1 ∧ (mw191 41 55) - 1 ≤ 2147483647 by first | omega | (simp only [mS_iff, eq_self, Int.reduceEq, true_and, and_true, false_and, and_false, and_self, ↓reduceIte]; omega) | (simp only [mS_iff, eq_self, Int.reduceEq, true_and, and_true, false_and, and_false, and_self, ↓reduceIte] at *; omega)) ?_
                      refine And.intro (rfl) ?_
                      obtain ⟨mw193, h194⟩ : ∃ z, z = (mS mw191 41 55 ((mw191 41 55) - 1)) := ⟨_, rfl⟩
                      rw [← h194]
                      have h195 : fr_G mw191 mw193 := by rw [h194]; exact fr_G.n
                      have hx : mTx mw193 L K A V E N qo174 0 p := by rw [h194]; exact hx.s (by omega)
                      have e55 : mw193 41 55 = ((mw191 41 55) - 1) := by rw [h194, mS_iff, if_pos ⟨rfl, rfl⟩]
                      have e53 : mw193 41 53 = mw191 41 53 := by rw [h194, mS_iff, if_neg (by omega)]
                      have e56 : mw193 41 56 = mw191 41 56 := by rw [h194, mS_iff, if_neg (by omega)]
                      have kp := kp.G h195
                      have hn2 := h195.2 41 54 (by omega) (by omega)
                      have cn1 := h195.1
                      have w5 := w5.G h195
                      have fr := fr.trans h195
                      have cn := fr.1
                      exact hQ rfl _ _ _ es _ _ fr hx (by omega) (by omega) (by omega) (by omega) (by omega) ((((mNd_try (lo := m 41 54) (hi := m 41 54 + mw191 41 53) (hi1 := m 41 54 + mw123 41 53) (p1 := ko126 - mw109 41 56) (hi2 := m 41 54 + mw172 41 53) (p2 := ko175 - mw157 41 56) (by omega) h192.2.2.1 (h192.2.2.2.1.trans ap) h192.2.2.2.2.1 h192.2.2.2.2.2 ((nd3.cv (by omega) (by omega) rfl).keep (fun x j a b c e => kl.2 x j (by omega) (by omega))) ((nd4.cv (by omega) (by omega) rfl).keep (fun x j a b c e => h192.1 x j (by omega) (by omega))) (by omega) (by omega))).keep (fun x j a b c e => kp.2 x j (by omega) (by omega))).cv rfl (by omega) (by omega))
                  · have hn1 := h158 41 53 (by omega)
                    have hn2 := h158 41 54 (by omega)
                    have hn3 := h158 41 55 (by omega)
                    have hn4 := h158 41 56 (by omega)
                    have kl := kl.M h158
                    have w5 := w5.M h158
                    have fr := fr.M h158
                    have cn := fr.1
                    have hx := h159
                    have nz : x_wr (K qo125) ≠ 0 := by unfold x_wr; omega
                    have es := es.trans (c_wt_n h160)
                    refine And.intro (rfl) ?_
                    refine (ih n0 (by omega)).2.2.2.2.2 _ _ _ (dep + 1) _ _ _ g0 (by omega) hx w5 (by omega) (by omega) (by omega) (fun _ => by omega) (by omega) (fun _ mw197 r198 h200 h201 h202 => ?_) (fun h => absurd h nz) (fun h => absurd h nz)
                    have kl := kl.G h200
                    have hn2 := h200.2 41 54 (by omega) (by omega)
                    have cn1 := h200.1
                    have w5 := w5.G h200
                    have fr := fr.trans h200
                    have cn := fr.1
                    have hx := h202
                    refine And.intro (rfl) ?_
                    refine ct_289 (by omega) (by omega) (by omega) (fun mw207 h208 => ?_)
                    have kl := kl.P h208
                    have hn2 := h208.1 41 54 (by omega) (by omega)
                    have w5 := w5.K (fun x u v => funext fun j => h208.1 x j (by omega) (by omega))
                    have fr := h208.fr fr (by omega)
                    have cn := fr.1
                    have hx := h208.tx hx
                    have pt1 := h208.2.1
                    have pt5 := h208.1 41 55 (by omega) (by omega)
                    have pt6 := h208.1 41 56 (by omega) (by omega)
                    skip
                    refine And.intro (rfl) ?_
                    refine And.intro (show -2147483648 ≤ (mw207 41 55) - 1 ∧ (mw207 41 55) - 1 ≤ 2147483647 by first | omega | (simp only [mS_iff, eq_self, Int.reduceEq, true_and, and_true, false_and, and_false, and_self, ↓reduceIte]; omega) | (simp only [mS_iff, eq_self, Int.reduceEq, true_and, and_true, false_and, and_false, and_self, ↓reduceIte] at *; omega)) ?_
                    refine And.intro (rfl) ?_
                    obtain ⟨mw209, h210⟩ : ∃ z, z = (mS mw207 41 55 ((mw207 41 55) - 1)) := ⟨_, rfl⟩
                    rw [← h210]
                    have h211 : fr_G mw207 mw209 := by rw [h210]; exact fr_G.n
                    have hx : mTx mw209 L K A V E N qo125 (x_wr (K qo125)) (A qo125) := by rw [h210]; exact hx.s (by omega)
                    have e55 : mw209 41 55 = ((mw207 41 55) - 1) := by rw [h210, mS_iff, if_pos ⟨rfl, rfl⟩]
                    have e53 : mw209 41 53 = mw207 41 53 := by rw [h210, mS_iff, if_neg (by omega)]
                    have e56 : mw209 41 56 = mw207 41 56 := by rw [h210, mS_iff, if_neg (by omega)]
                    have kl := kl.G h211
                    have hn2 := h211.2 41 54 (by omega) (by omega)
                    have cn1 := h211.1
                    have w5 := w5.G h211
                    have fr := fr.trans h211
                    have cn := fr.1
                    exact hQe rfl _ _ es _ _ _ fr hx nz (by omega) (by omega)
              · replace h108 : K q ≠ 65 := fun h => h108 ⟨rfl, h⟩
                refine And.intro (fun _ => ?_) (fun h => absurd h (by decide))
                refine And.intro (rfl) ?_
                refine And.intro (rfl) ?_
                refine ct_200 (by omega) ⟨w5.2.1, w5.2.2⟩ (by omega) (fun k212 h213 h214 h215 h216 => ?_) (fun h213 => ?_)
                · have ek := hx.ky w5.ar (hx.kk (by omega) (by omega)) h213 h214 h215 h216
                  have ek1 : K q = 55 + k212 := ek.1
                  have ek2 := And.intro h213 h214
                  refine And.intro (fun h217 => ?_) (fun h217 => ?_)
                  · refine And.intro (rfl) ?_
                    refine ct_198 (w := 52) (by omega) hx (by omega) (by decide +kernel) (fun _ h218 => ?_) (fun h218 => ?_)
                    · have ky : K q = 52 := h218
                      refine And.intro (fun h => absurd h (by decide)) (fun _ => ?_)
                      have es := es.trans ((if_neg (by omega)).trans (if_pos (by omega)))
                      skip
                      refine And.intro (rfl) ?_
                      refine ct_199 (by omega) hx (fun _ => by omega) (fun h => absurd rfl h) (fun _ mw219 h220 h221 => ?_)
                      have hn1 := h220 41 53 (by omega)
                      have hn2 := h220 41 54 (by omega)
                      have hn3 := h220 41 55 (by omega)
                      have hn4 := h220 41 56 (by omega)
                      have w5 := w5.M h220
                      have fr := fr.M h220
                      have cn := fr.1
                      have hx := h221
                      refine And.intro (rfl) ?_
                      refine ct_289 (by omega) (by omega) (by omega) (fun mw222 h223 => ?_)
                      have hn2 := h223.1 41 54 (by omega) (by omega)
                      have w5 := w5.K (fun x u v => funext fun j => h223.1 x j (by omega) (by omega))
                      have fr := h223.fr fr (by omega)
                      have cn := fr.1
                      have hx := h223.tx hx
                      have pt1 := h223.2.1
                      have pt5 := h223.1 41 55 (by omega) (by omega)
                      have pt6 := h223.1 41 56 (by omega) (by omega)
                      have kp := fr_H.rfl mw222
                      refine And.intro (rfl) ?_
                      refine And.intro (show -2147483648 ≤ (mw222 41 55) - 1 ∧ (mw222 41 55) - 1 ≤ 2147483647 by first | omega | (simp only [mS_iff, eq_self, Int.reduceEq, true_and, and_true, false_and, and_false, and_self, ↓reduceIte]; omega) | (simp only [mS_iff, eq_self, Int.reduceEq, true_and, and_true, false_and, and_false, and_self, ↓reduceIte] at *; omega)) ?_
                      refine And.intro (rfl) ?_
                      obtain ⟨mw224, h225⟩ : ∃ z, z = (mS mw222 41 55 ((mw222 41 55) - 1)) := ⟨_, rfl⟩
                      rw [← h225]
                      have h226 : fr_G mw222 mw224 := by rw [h225]; exact fr_G.n
                      have hx : mTx mw224 L K A V E N (q + 1) 0 p := by rw [h225]; exact hx.s (by omega)
                      have e55 : mw224 41 55 = ((mw222 41 55) - 1) := by rw [h225, mS_iff, if_pos ⟨rfl, rfl⟩]
                      have e53 : mw224 41 53 = mw222 41 53 := by rw [h225, mS_iff, if_neg (by omega)]
                      have e56 : mw224 41 56 = mw222 41 56 := by rw [h225, mS_iff, if_neg (by omega)]
                      have kp := kp.G h226
                      have hn2 := h226.2 41 54 (by omega) (by omega)
                      have cn1 := h226.1
                      have w5 := w5.G h226
                      have fr := fr.trans h226
                      have cn := fr.1
                      rw [show K q = 52 by omega] at es
                      exact hQ rfl _ _ _ es _ _ fr hx (by omega) (by omega) (by omega) (by omega) (by omega) (((mNd_pl1 (lo := m 41 54) (hi := m 41 54 + mw222 41 53) (by omega) h223.2.2.1 (h223.2.2.2.1.trans ap)).keep (fun x j a b c e => kp.2 x j (by omega) (by omega))).cv rfl (by omega) (by omega))
                    · replace h218 : K q ≠ 52 := fun h => h218 ⟨rfl, h⟩
                      refine And.intro (fun _ => ?_) (fun h => absurd h (by decide))
                      refine And.intro (rfl) ?_
                      refine ct_198 (w := 53) (by omega) hx (by omega) (by decide +kernel) (fun _ h227 => ?_) (fun h227 => ?_)
                      · have ky : K q = 53 := h227
                        refine And.intro (fun h => absurd h (by decide)) (fun _ => ?_)
                        have es := es.trans ((if_neg (by omega)).trans (if_pos (by omega)))
                        skip
                        refine And.intro (rfl) ?_
                        refine ct_199 (by omega) hx (fun _ => by omega) (fun h => absurd rfl h) (fun _ mw228 h229 h230 => ?_)
                        have hn1 := h229 41 53 (by omega)
                        have hn2 := h229 41 54 (by omega)
                        have hn3 := h229 41 55 (by omega)
                        have hn4 := h229 41 56 (by omega)
                        have w5 := w5.M h229
                        have fr := fr.M h229
                        have cn := fr.1
                        have hx := h230
                        refine And.intro (rfl) ?_
                        refine ct_289 (by omega) (by omega) (by omega) (fun mw231 h232 => ?_)
                        have hn2 := h232.1 41 54 (by omega) (by omega)
                        have w5 := w5.K (fun x u v => funext fun j => h232.1 x j (by omega) (by omega))
                        have fr := h232.fr fr (by omega)
                        have cn := fr.1
                        have hx := h232.tx hx
                        have pt1 := h232.2.1
                        have pt5 := h232.1 41 55 (by omega) (by omega)
                        have pt6 := h232.1 41 56 (by omega) (by omega)
                        have kp := fr_H.rfl mw231
                        refine And.intro (rfl) ?_
                        refine And.intro (show -2147483648 ≤ (mw231 41 55) - 1 ∧ (mw231 41 55) - 1 ≤ 2147483647 by first | omega | (simp only [mS_iff, eq_self, Int.reduceEq, true_and, and_true, false_and, and_false, and_self, ↓reduceIte]; omega) | (simp only [mS_iff, eq_self, Int.reduceEq, true_and, and_true, false_and, and_false, and_self, ↓reduceIte] at *; omega)) ?_
                        refine And.intro (rfl) ?_
                        obtain ⟨mw233, h234⟩ : ∃ z, z = (mS mw231 41 55 ((mw231 41 55) - 1)) := ⟨_, rfl⟩
                        rw [← h234]
                        have h235 : fr_G mw231 mw233 := by rw [h234]; exact fr_G.n
                        have hx : mTx mw233 L K A V E N (q + 1) 0 p := by rw [h234]; exact hx.s (by omega)
                        have e55 : mw233 41 55 = ((mw231 41 55) - 1) := by rw [h234, mS_iff, if_pos ⟨rfl, rfl⟩]
                        have e53 : mw233 41 53 = mw231 41 53 := by rw [h234, mS_iff, if_neg (by omega)]
                        have e56 : mw233 41 56 = mw231 41 56 := by rw [h234, mS_iff, if_neg (by omega)]
                        have kp := kp.G h235
                        have hn2 := h235.2 41 54 (by omega) (by omega)
                        have cn1 := h235.1
                        have w5 := w5.G h235
                        have fr := fr.trans h235
                        have cn := fr.1
                        rw [show K q = 53 by omega] at es
                        exact hQ rfl _ _ _ es _ _ fr hx (by omega) (by omega) (by omega) (by omega) (by omega) (((mNd_pl2 (lo := m 41 54) (hi := m 41 54 + mw231 41 53) (by omega) h232.2.2.1 (h232.2.2.2.1.trans ap)).keep (fun x j a b c e => kp.2 x j (by omega) (by omega))).cv rfl (by omega) (by omega))
                      · replace h227 : K q ≠ 53 := fun h => h227 ⟨rfl, h⟩
                        refine And.intro (fun _ => ?_) (fun h => absurd h (by decide))
                        have es := es.trans ((if_neg (by omega)).trans (if_pos (by omega)))
                        skip
                        refine And.intro (rfl) ?_
                        refine ct_199 (by omega) hx (fun _ => by omega) (fun h => absurd rfl h) (fun _ mw236 h237 h238 => ?_)
                        have hn1 := h237 41 53 (by omega)
                        have hn2 := h237 41 54 (by omega)
                        have hn3 := h237 41 55 (by omega)
                        have hn4 := h237 41 56 (by omega)
                        have w5 := w5.M h237
                        have fr := fr.M h237
                        have cn := fr.1
                        have hx := h238
                        refine And.intro (rfl) ?_
                        refine ct_289 (by omega) (by omega) (by omega) (fun mw239 h240 => ?_)
                        have hn2 := h240.1 41 54 (by omega) (by omega)
                        have w5 := w5.K (fun x u v => funext fun j => h240.1 x j (by omega) (by omega))
                        have fr := h240.fr fr (by omega)
                        have cn := fr.1
                        have hx := h240.tx hx
                        have pt1 := h240.2.1
                        have pt5 := h240.1 41 55 (by omega) (by omega)
                        have pt6 := h240.1 41 56 (by omega) (by omega)
                        have kp := fr_H.rfl mw239
                        refine And.intro (rfl) ?_
                        refine And.intro (show -2147483648 ≤ (mw239 41 55) - 1 ∧ (mw239 41 55) - 1 ≤ 2147483647 by first | omega | (simp only [mS_iff, eq_self, Int.reduceEq, true_and, and_true, false_and, and_false, and_self, ↓reduceIte]; omega) | (simp only [mS_iff, eq_self, Int.reduceEq, true_and, and_true, false_and, and_false, and_self, ↓reduceIte] at *; omega)) ?_
                        refine And.intro (rfl) ?_
                        obtain ⟨mw241, h242⟩ : ∃ z, z = (mS mw239 41 55 ((mw239 41 55) - 1)) := ⟨_, rfl⟩
                        rw [← h242]
                        have h243 : fr_G mw239 mw241 := by rw [h242]; exact fr_G.n
                        have hx : mTx mw241 L K A V E N (q + 1) 0 p := by rw [h242]; exact hx.s (by omega)
                        have e55 : mw241 41 55 = ((mw239 41 55) - 1) := by rw [h242, mS_iff, if_pos ⟨rfl, rfl⟩]
                        have e53 : mw241 41 53 = mw239 41 53 := by rw [h242, mS_iff, if_neg (by omega)]
                        have e56 : mw241 41 56 = mw239 41 56 := by rw [h242, mS_iff, if_neg (by omega)]
                        have kp := kp.G h243
                        have hn2 := h243.2 41 54 (by omega) (by omega)
                        have cn1 := h243.1
                        have w5 := w5.G h243
                        have fr := fr.trans h243
                        have cn := fr.1
                        rw [show K q = 54 by omega] at es
                        exact hQ rfl _ _ _ es _ _ fr hx (by omega) (by omega) (by omega) (by omega) (by omega) (((mNd_pl3 (lo := m 41 54) (hi := m 41 54 + mw239 41 53) (by omega) h240.2.2.1 (h240.2.2.2.1.trans ap)).keep (fun x j a b c e => kp.2 x j (by omega) (by omega))).cv rfl (by omega) (by omega))
                  · have es := es.trans ((if_neg (by omega)).trans ((if_neg (by omega)).trans ((if_neg (by omega)).trans (if_neg (by omega)))))
                    skip
                    refine And.intro (rfl) ?_
                    refine ct_199 (by omega) hx (fun _ => by omega) (fun h => absurd rfl h) (fun _ mw244 h245 h246 => ?_)
                    have hn1 := h245 41 53 (by omega)
                    have hn2 := h245 41 54 (by omega)
                    have hn3 := h245 41 55 (by omega)
                    have hn4 := h245 41 56 (by omega)
                    have w5 := w5.M h245
                    have fr := fr.M h245
                    have cn := fr.1
                    have hx := h246
                    refine And.intro (rfl) ?_
                    refine ct_294 (by omega) hx (by unfold x_sg; omega) (fun h => absurd rfl h) (fun _ h250 mw247 h248 h249 => ?_) (fun _ h250 mw247 h248 h249 => ?_)
                    · have hn1 := h248 41 53 (by omega)
                      have hn2 := h248 41 54 (by omega)
                      have hn3 := h248 41 55 (by omega)
                      have hn4 := h248 41 56 (by omega)
                      have w5 := w5.M h248
                      have fr := fr.M h248
                      have cn := fr.1
                      have hx := h249
                      have es := es.trans (c_wt_y h250)
                      refine And.intro (rfl) ?_
                      refine And.intro (fun _ => ?_) (fun h => absurd h (by have := (hx.2.2.2.2.2.2.1 rfl).1; omega))
                      refine And.intro (rfl) ?_
                      refine (ih n0 (by omega)).1 _ _ _ (dep + 1) _ _ _ g0 (by omega) hx w5 (by omega) (by omega) (by omega) (fun _ => by omega) (by omega) (fun h => absurd rfl h) (fun _ c259 pl260 h251 mw252 r253 qe254 h255 h257 h258 h261 h256 => ?_) (fun _ qo264 ko265 g266 h267 mw262 r263 h268 h274 h269 h270 h271 h272 h273 nd275 => ?_)
                      · have hn2 := h255.2 41 54 (by omega) (by omega)
                        have cn1 := h255.1
                        have w5 := w5.G h255
                        have fr := fr.trans h255
                        have cn := fr.1
                        have hx := h257
                        have nz := h258
                        have ec : c_x K A V n0 0 (dep + 1) ((q + 1) + 1) (m 41 56 + 1) g0 = .inl (c259, pl260) := by rw [show (m 41 56 + 1) = mw247 41 56 by omega]; exact h251
                        have es := es.trans (c_bd_l ec)
                        skip
                        refine And.intro (rfl) ?_
                        refine ct_294 (by omega) hx (by unfold x_sg; omega) (fun _ mw276 h277 h278 => ?_) (fun h => absurd h nz) (fun h => absurd h nz)
                        have hn1 := h277 41 53 (by omega)
                        have hn2 := h277 41 54 (by omega)
                        have hn3 := h277 41 55 (by omega)
                        have hn4 := h277 41 56 (by omega)
                        have w5 := w5.M h277
                        have fr := fr.M h277
                        have cn := fr.1
                        have hx := h278
                        refine And.intro (rfl) ?_
                        refine ct_289 (by omega) (by omega) (by omega) (fun mw280 h281 => ?_)
                        have hn2 := h281.1 41 54 (by omega) (by omega)
                        have w5 := w5.K (fun x u v => funext fun j => h281.1 x j (by omega) (by omega))
                        have fr := h281.fr fr (by omega)
                        have cn := fr.1
                        have hx := h281.tx hx
                        have pt1 := h281.2.1
                        have pt5 := h281.1 41 55 (by omega) (by omega)
                        have pt6 := h281.1 41 56 (by omega) (by omega)
                        skip
                        refine And.intro (rfl) ?_
                        refine And.intro (show -2147483648 ≤ (mw280 41 55) - 1 ∧ (mw280 41 55) - 1 ≤ 2147483647 by first | omega | (simp only [mS_iff, eq_self, Int.reduceEq, true_and, and_true, false_and, and_false, and_self, ↓reduceIte]; omega) | (simp only [mS_iff, eq_self, Int.reduceEq, true_and, and_true, false_and, and_false, and_self, ↓reduceIte] at *; omega)) ?_
                        refine And.intro (rfl) ?_
                        obtain ⟨mw282, h283⟩ : ∃ z, z = (mS mw280 41 55 ((mw280 41 55) - 1)) := ⟨_, rfl⟩
                        rw [← h283]
                        have h284 : fr_G mw280 mw282 := by rw [h283]; exact fr_G.n
                        have hx : mTx mw282 L K A V E N qe254 c259 pl260 := by rw [h283]; exact hx.s (by omega)
                        have e55 : mw282 41 55 = ((mw280 41 55) - 1) := by rw [h283, mS_iff, if_pos ⟨rfl, rfl⟩]
                        have e53 : mw282 41 53 = mw280 41 53 := by rw [h283, mS_iff, if_neg (by omega)]
                        have e56 : mw282 41 56 = mw280 41 56 := by rw [h283, mS_iff, if_neg (by omega)]
                        have hn2 := h284.2 41 54 (by omega) (by omega)
                        have cn1 := h284.1
                        have w5 := w5.G h284
                        have fr := fr.trans h284
                        have cn := fr.1
                        exact hQe rfl _ _ es _ _ _ fr hx nz (by omega) (by omega)
                      · have hn2 := h268.2 41 54 (by omega) (by omega)
                        have cn1 := h268.1
                        have w5 := w5.G h268
                        have fr := fr.trans h268
                        have cn := fr.1
                        have hx := h274
                        have eo : c_x K A V n0 0 (dep + 1) ((q + 1) + 1) (m 41 56 + 1) g0 = .inr (qo264, ko265, g266) := by rw [show (m 41 56 + 1) = mw247 41 56 by omega]; exact h267
                        have es := es.trans (c_bd_r eo)
                        have nd5 := nd275
                        have kl := fr_H.rfl mw262
                        refine And.intro (rfl) ?_
                        refine ct_294 (by omega) hx (by unfold x_sg; omega) (fun h => absurd rfl h) (fun _ h288 mw285 h286 h287 => ?_) (fun _ h288 mw285 h286 h287 => ?_)
                        · have hn1 := h286 41 53 (by omega)
                          have hn2 := h286 41 54 (by omega)
                          have hn3 := h286 41 55 (by omega)
                          have hn4 := h286 41 56 (by omega)
                          have kl := kl.M h286
                          have w5 := w5.M h286
                          have fr := fr.M h286
                          have cn := fr.1
                          have hx := h287
                          have es := es.trans (c_wt_y h288)
                          refine And.intro (rfl) ?_
                          refine ct_289 (by omega) (by omega) (by omega) (fun mw289 h290 => ?_)
                          have kl := kl.P h290
                          have hn2 := h290.1 41 54 (by omega) (by omega)
                          have w5 := w5.K (fun x u v => funext fun j => h290.1 x j (by omega) (by omega))
                          have fr := h290.fr fr (by omega)
                          have cn := fr.1
                          have hx := h290.tx hx
                          have pt1 := h290.2.1
                          have pt5 := h290.1 41 55 (by omega) (by omega)
                          have pt6 := h290.1 41 56 (by omega) (by omega)
                          have kp := fr_H.rfl mw289
                          refine And.intro (rfl) ?_
                          refine And.intro (show -2147483648 ≤ (mw289 41 55) - 1 ∧ (mw289 41 55) - 1 ≤ 2147483647 by first | omega | (simp only [mS_iff, eq_self, Int.reduceEq, true_and, and_true, false_and, and_false, and_self, ↓reduceIte]; omega) | (simp only [mS_iff, eq_self, Int.reduceEq, true_and, and_true, false_and, and_false, and_self, ↓reduceIte] at *; omega)) ?_
                          refine And.intro (rfl) ?_
                          obtain ⟨mw291, h292⟩ : ∃ z, z = (mS mw289 41 55 ((mw289 41 55) - 1)) := ⟨_, rfl⟩
                          rw [← h292]
                          have h293 : fr_G mw289 mw291 := by rw [h292]; exact fr_G.n
                          have hx : mTx mw291 L K A V E N (qo264 + 1) 0 p := by rw [h292]; exact hx.s (by omega)
                          have e55 : mw291 41 55 = ((mw289 41 55) - 1) := by rw [h292, mS_iff, if_pos ⟨rfl, rfl⟩]
                          have e53 : mw291 41 53 = mw289 41 53 := by rw [h292, mS_iff, if_neg (by omega)]
                          have e56 : mw291 41 56 = mw289 41 56 := by rw [h292, mS_iff, if_neg (by omega)]
                          have kp := kp.G h293
                          have hn2 := h293.2 41 54 (by omega) (by omega)
                          have cn1 := h293.1
                          have w5 := w5.G h293
                          have fr := fr.trans h293
                          have cn := fr.1
                          exact hQ rfl _ _ _ es _ _ fr hx (by omega) (by omega) (by omega) (by omega) (by omega) ((((mNd_call (lo := m 41 54) (hi := m 41 54 + mw289 41 53) (hi1 := m 41 54 + mw262 41 53) (p1 := ko265 - mw247 41 56) (by omega) h290.2.2.1 (h290.2.2.2.1.trans ap) (h290.2.2.2.2.1.trans (by omega)) (by omega) h290.2.2.2.2.2 ((nd5.cv (by omega) (by omega) rfl).keep (fun x j a b c e => kl.2 x j (by omega) (by omega))) (by omega))).keep (fun x j a b c e => kp.2 x j (by omega) (by omega))).cv rfl (by omega) (by omega))
                        · have hn1 := h286 41 53 (by omega)
                          have hn2 := h286 41 54 (by omega)
                          have hn3 := h286 41 55 (by omega)
                          have hn4 := h286 41 56 (by omega)
                          have kl := kl.M h286
                          have w5 := w5.M h286
                          have fr := fr.M h286
                          have cn := fr.1
                          have hx := h287
                          have nz : x_wr (K qo264) ≠ 0 := by unfold x_wr; omega
                          have es := es.trans (c_wt_n h288)
                          refine And.intro (rfl) ?_
                          refine ct_289 (by omega) (by omega) (by omega) (fun mw294 h295 => ?_)
                          have kl := kl.P h295
                          have hn2 := h295.1 41 54 (by omega) (by omega)
                          have w5 := w5.K (fun x u v => funext fun j => h295.1 x j (by omega) (by omega))
                          have fr := h295.fr fr (by omega)
                          have cn := fr.1
                          have hx := h295.tx hx
                          have pt1 := h295.2.1
                          have pt5 := h295.1 41 55 (by omega) (by omega)
                          have pt6 := h295.1 41 56 (by omega) (by omega)
                          skip
                          refine And.intro (rfl) ?_
                          refine And.intro (show -2147483648 ≤ (mw294 41 55) - 1 ∧ (mw294 41 55) - 1 ≤ 2147483647 by first | omega | (simp only [mS_iff, eq_self, Int.reduceEq, true_and, and_true, false_and, and_false, and_self, ↓reduceIte]; omega) | (simp only [mS_iff, eq_self, Int.reduceEq, true_and, and_true, false_and, and_false, and_self, ↓reduceIte] at *; omega)) ?_
                          refine And.intro (rfl) ?_
                          obtain ⟨mw296, h297⟩ : ∃ z, z = (mS mw294 41 55 ((mw294 41 55) - 1)) := ⟨_, rfl⟩
                          rw [← h297]
                          have h298 : fr_G mw294 mw296 := by rw [h297]; exact fr_G.n
                          have hx : mTx mw296 L K A V E N qo264 (x_wr (K qo264)) (A qo264) := by rw [h297]; exact hx.s (by omega)
                          have e55 : mw296 41 55 = ((mw294 41 55) - 1) := by rw [h297, mS_iff, if_pos ⟨rfl, rfl⟩]
                          have e53 : mw296 41 53 = mw294 41 53 := by rw [h297, mS_iff, if_neg (by omega)]
                          have e56 : mw296 41 56 = mw294 41 56 := by rw [h297, mS_iff, if_neg (by omega)]
                          have kl := kl.G h298
                          have hn2 := h298.2 41 54 (by omega) (by omega)
                          have cn1 := h298.1
                          have w5 := w5.G h298
                          have fr := fr.trans h298
                          have cn := fr.1
                          exact hQe rfl _ _ es _ _ _ fr hx nz (by omega) (by omega)
                    · have hn1 := h248 41 53 (by omega)
                      have hn2 := h248 41 54 (by omega)
                      have hn3 := h248 41 55 (by omega)
                      have hn4 := h248 41 56 (by omega)
                      have w5 := w5.M h248
                      have fr := fr.M h248
                      have cn := fr.1
                      have hx := h249
                      have nz : x_wr (K (q + 1)) ≠ 0 := by unfold x_wr; omega
                      have es := es.trans (c_wt_n h250)
                      refine And.intro (rfl) ?_
                      refine And.intro (fun h => absurd h (by have := (hx.2.2.2.2.2.2.2 nz).1; omega)) (fun _ => ?_)
                      skip
                      refine And.intro (rfl) ?_
                      refine ct_294 (by omega) hx (by unfold x_sg; omega) (fun _ mw299 h300 h301 => ?_) (fun h => absurd h nz) (fun h => absurd h nz)
                      have hn1 := h300 41 53 (by omega)
                      have hn2 := h300 41 54 (by omega)
                      have hn3 := h300 41 55 (by omega)
                      have hn4 := h300 41 56 (by omega)
                      have w5 := w5.M h300
                      have fr := fr.M h300
                      have cn := fr.1
                      have hx := h301
                      refine And.intro (rfl) ?_
                      refine ct_289 (by omega) (by omega) (by omega) (fun mw303 h304 => ?_)
                      have hn2 := h304.1 41 54 (by omega) (by omega)
                      have w5 := w5.K (fun x u v => funext fun j => h304.1 x j (by omega) (by omega))
                      have fr := h304.fr fr (by omega)
                      have cn := fr.1
                      have hx := h304.tx hx
                      have pt1 := h304.2.1
                      have pt5 := h304.1 41 55 (by omega) (by omega)
                      have pt6 := h304.1 41 56 (by omega) (by omega)
                      skip
                      refine And.intro (rfl) ?_
                      refine And.intro (show -2147483648 ≤ (mw303 41 55) - 1 ∧ (mw303 41 55) - 1 ≤ 2147483647 by first | omega | (simp only [mS_iff, eq_self, Int.reduceEq, true_and, and_true, false_and, and_false, and_self, ↓reduceIte]; omega) | (simp only [mS_iff, eq_self, Int.reduceEq, true_and, and_true, false_and, and_false, and_self, ↓reduceIte] at *; omega)) ?_
                      refine And.intro (rfl) ?_
                      obtain ⟨mw305, h306⟩ : ∃ z, z = (mS mw303 41 55 ((mw303 41 55) - 1)) := ⟨_, rfl⟩
                      rw [← h306]
                      have h307 : fr_G mw303 mw305 := by rw [h306]; exact fr_G.n
                      have hx : mTx mw305 L K A V E N (q + 1) (x_wr (K (q + 1))) (A (q + 1)) := by rw [h306]; exact hx.s (by omega)
                      have e55 : mw305 41 55 = ((mw303 41 55) - 1) := by rw [h306, mS_iff, if_pos ⟨rfl, rfl⟩]
                      have e53 : mw305 41 53 = mw303 41 53 := by rw [h306, mS_iff, if_neg (by omega)]
                      have e56 : mw305 41 56 = mw303 41 56 := by rw [h306, mS_iff, if_neg (by omega)]
                      have hn2 := h307.2 41 54 (by omega) (by omega)
                      have cn1 := h307.1
                      have w5 := w5.G h307
                      have fr := fr.trans h307
                      have cn := fr.1
                      exact hQe rfl _ _ es _ _ _ fr hx nz (by omega) (by omega)
                · have nk := hx.kn w5.ar h213 (K q - 55)
                  refine And.intro (fun _ => ?_) (fun h => absurd h (by decide))
                  refine And.intro (rfl) ?_
                  refine ct_198 (w := 52) (by omega) hx (by omega) (by decide +kernel) (fun _ h308 => ?_) (fun h308 => ?_)
                  · have ky : K q = 52 := h308
                    refine And.intro (fun h => absurd h (by decide)) (fun _ => ?_)
                    have es := es.trans ((if_neg (by omega)).trans (if_pos (by omega)))
                    skip
                    refine And.intro (rfl) ?_
                    refine ct_199 (by omega) hx (fun _ => by omega) (fun h => absurd rfl h) (fun _ mw309 h310 h311 => ?_)
                    have hn1 := h310 41 53 (by omega)
                    have hn2 := h310 41 54 (by omega)
                    have hn3 := h310 41 55 (by omega)
                    have hn4 := h310 41 56 (by omega)
                    have w5 := w5.M h310
                    have fr := fr.M h310
                    have cn := fr.1
                    have hx := h311
                    refine And.intro (rfl) ?_
                    refine ct_289 (by omega) (by omega) (by omega) (fun mw312 h313 => ?_)
                    have hn2 := h313.1 41 54 (by omega) (by omega)
                    have w5 := w5.K (fun x u v => funext fun j => h313.1 x j (by omega) (by omega))
                    have fr := h313.fr fr (by omega)
                    have cn := fr.1
                    have hx := h313.tx hx
                    have pt1 := h313.2.1
                    have pt5 := h313.1 41 55 (by omega) (by omega)
                    have pt6 := h313.1 41 56 (by omega) (by omega)
                    have kp := fr_H.rfl mw312
                    refine And.intro (rfl) ?_
                    refine And.intro (show -2147483648 ≤ (mw312 41 55) - 1 ∧ (mw312 41 55) - 1 ≤ 2147483647 by first | omega | (simp only [mS_iff, eq_self, Int.reduceEq, true_and, and_true, false_and, and_false, and_self, ↓reduceIte]; omega) | (simp only [mS_iff, eq_self, Int.reduceEq, true_and, and_true, false_and, and_false, and_self, ↓reduceIte] at *; omega)) ?_
                    refine And.intro (rfl) ?_
                    obtain ⟨mw314, h315⟩ : ∃ z, z = (mS mw312 41 55 ((mw312 41 55) - 1)) := ⟨_, rfl⟩
                    rw [← h315]
                    have h316 : fr_G mw312 mw314 := by rw [h315]; exact fr_G.n
                    have hx : mTx mw314 L K A V E N (q + 1) 0 p := by rw [h315]; exact hx.s (by omega)
                    have e55 : mw314 41 55 = ((mw312 41 55) - 1) := by rw [h315, mS_iff, if_pos ⟨rfl, rfl⟩]
                    have e53 : mw314 41 53 = mw312 41 53 := by rw [h315, mS_iff, if_neg (by omega)]
                    have e56 : mw314 41 56 = mw312 41 56 := by rw [h315, mS_iff, if_neg (by omega)]
                    have kp := kp.G h316
                    have hn2 := h316.2 41 54 (by omega) (by omega)
                    have cn1 := h316.1
                    have w5 := w5.G h316
                    have fr := fr.trans h316
                    have cn := fr.1
                    rw [show K q = 52 by omega] at es
                    exact hQ rfl _ _ _ es _ _ fr hx (by omega) (by omega) (by omega) (by omega) (by omega) (((mNd_pl1 (lo := m 41 54) (hi := m 41 54 + mw312 41 53) (by omega) h313.2.2.1 (h313.2.2.2.1.trans ap)).keep (fun x j a b c e => kp.2 x j (by omega) (by omega))).cv rfl (by omega) (by omega))
                  · replace h308 : K q ≠ 52 := fun h => h308 ⟨rfl, h⟩
                    refine And.intro (fun _ => ?_) (fun h => absurd h (by decide))
                    refine And.intro (rfl) ?_
                    refine ct_198 (w := 53) (by omega) hx (by omega) (by decide +kernel) (fun _ h317 => ?_) (fun h317 => ?_)
                    · have ky : K q = 53 := h317
                      refine And.intro (fun h => absurd h (by decide)) (fun _ => ?_)
                      have es := es.trans ((if_neg (by omega)).trans (if_pos (by omega)))
                      skip
                      refine And.intro (rfl) ?_
                      refine ct_199 (by omega) hx (fun _ => by omega) (fun h => absurd rfl h) (fun _ mw318 h319 h320 => ?_)
                      have hn1 := h319 41 53 (by omega)
                      have hn2 := h319 41 54 (by omega)
                      have hn3 := h319 41 55 (by omega)
                      have hn4 := h319 41 56 (by omega)
                      have w5 := w5.M h319
                      have fr := fr.M h319
                      have cn := fr.1
                      have hx := h320
                      refine And.intro (rfl) ?_
                      refine ct_289 (by omega) (by omega) (by omega) (fun mw321 h322 => ?_)
                      have hn2 := h322.1 41 54 (by omega) (by omega)
                      have w5 := w5.K (fun x u v => funext fun j => h322.1 x j (by omega) (by omega))
                      have fr := h322.fr fr (by omega)
                      have cn := fr.1
                      have hx := h322.tx hx
                      have pt1 := h322.2.1
                      have pt5 := h322.1 41 55 (by omega) (by omega)
                      have pt6 := h322.1 41 56 (by omega) (by omega)
                      have kp := fr_H.rfl mw321
                      refine And.intro (rfl) ?_
                      refine And.intro (show -2147483648 ≤ (mw321 41 55) - 1 ∧ (mw321 41 55) - 1 ≤ 2147483647 by first | omega | (simp only [mS_iff, eq_self, Int.reduceEq, true_and, and_true, false_and, and_false, and_self, ↓reduceIte]; omega) | (simp only [mS_iff, eq_self, Int.reduceEq, true_and, and_true, false_and, and_false, and_self, ↓reduceIte] at *; omega)) ?_
                      refine And.intro (rfl) ?_
                      obtain ⟨mw323, h324⟩ : ∃ z, z = (mS mw321 41 55 ((mw321 41 55) - 1)) := ⟨_, rfl⟩
                      rw [← h324]
                      have h325 : fr_G mw321 mw323 := by rw [h324]; exact fr_G.n
                      have hx : mTx mw323 L K A V E N (q + 1) 0 p := by rw [h324]; exact hx.s (by omega)
                      have e55 : mw323 41 55 = ((mw321 41 55) - 1) := by rw [h324, mS_iff, if_pos ⟨rfl, rfl⟩]
                      have e53 : mw323 41 53 = mw321 41 53 := by rw [h324, mS_iff, if_neg (by omega)]
                      have e56 : mw323 41 56 = mw321 41 56 := by rw [h324, mS_iff, if_neg (by omega)]
                      have kp := kp.G h325
                      have hn2 := h325.2 41 54 (by omega) (by omega)
                      have cn1 := h325.1
                      have w5 := w5.G h325
                      have fr := fr.trans h325
                      have cn := fr.1
                      rw [show K q = 53 by omega] at es
                      exact hQ rfl _ _ _ es _ _ fr hx (by omega) (by omega) (by omega) (by omega) (by omega) (((mNd_pl2 (lo := m 41 54) (hi := m 41 54 + mw321 41 53) (by omega) h322.2.2.1 (h322.2.2.2.1.trans ap)).keep (fun x j a b c e => kp.2 x j (by omega) (by omega))).cv rfl (by omega) (by omega))
                    · replace h317 : K q ≠ 53 := fun h => h317 ⟨rfl, h⟩
                      refine And.intro (fun _ => ?_) (fun h => absurd h (by decide))
                      have es := es.trans ((if_neg (by omega)).trans (if_pos (by omega)))
                      skip
                      refine And.intro (rfl) ?_
                      refine ct_199 (by omega) hx (fun _ => by omega) (fun h => absurd rfl h) (fun _ mw326 h327 h328 => ?_)
                      have hn1 := h327 41 53 (by omega)
                      have hn2 := h327 41 54 (by omega)
                      have hn3 := h327 41 55 (by omega)
                      have hn4 := h327 41 56 (by omega)
                      have w5 := w5.M h327
                      have fr := fr.M h327
                      have cn := fr.1
                      have hx := h328
                      refine And.intro (rfl) ?_
                      refine ct_289 (by omega) (by omega) (by omega) (fun mw329 h330 => ?_)
                      have hn2 := h330.1 41 54 (by omega) (by omega)
                      have w5 := w5.K (fun x u v => funext fun j => h330.1 x j (by omega) (by omega))
                      have fr := h330.fr fr (by omega)
                      have cn := fr.1
                      have hx := h330.tx hx
                      have pt1 := h330.2.1
                      have pt5 := h330.1 41 55 (by omega) (by omega)
                      have pt6 := h330.1 41 56 (by omega) (by omega)
                      have kp := fr_H.rfl mw329
                      refine And.intro (rfl) ?_
                      refine And.intro (show -2147483648 ≤ (mw329 41 55) - 1 ∧ (mw329 41 55) - 1 ≤ 2147483647 by first | omega | (simp only [mS_iff, eq_self, Int.reduceEq, true_and, and_true, false_and, and_false, and_self, ↓reduceIte]; omega) | (simp only [mS_iff, eq_self, Int.reduceEq, true_and, and_true, false_and, and_false, and_self, ↓reduceIte] at *; omega)) ?_
                      refine And.intro (rfl) ?_
                      obtain ⟨mw331, h332⟩ : ∃ z, z = (mS mw329 41 55 ((mw329 41 55) - 1)) := ⟨_, rfl⟩
                      rw [← h332]
                      have h333 : fr_G mw329 mw331 := by rw [h332]; exact fr_G.n
                      have hx : mTx mw331 L K A V E N (q + 1) 0 p := by rw [h332]; exact hx.s (by omega)
                      have e55 : mw331 41 55 = ((mw329 41 55) - 1) := by rw [h332, mS_iff, if_pos ⟨rfl, rfl⟩]
                      have e53 : mw331 41 53 = mw329 41 53 := by rw [h332, mS_iff, if_neg (by omega)]
                      have e56 : mw331 41 56 = mw329 41 56 := by rw [h332, mS_iff, if_neg (by omega)]
                      have kp := kp.G h333
                      have hn2 := h333.2 41 54 (by omega) (by omega)
                      have cn1 := h333.1
                      have w5 := w5.G h333
                      have fr := fr.trans h333
                      have cn := fr.1
                      rw [show K q = 54 by omega] at es
                      exact hQ rfl _ _ _ es _ _ fr hx (by omega) (by omega) (by omega) (by omega) (by omega) (((mNd_pl3 (lo := m 41 54) (hi := m 41 54 + mw329 41 53) (by omega) h330.2.2.1 (h330.2.2.2.1.trans ap)).keep (fun x j a b c e => kp.2 x j (by omega) (by omega))).cv rfl (by omega) (by omega))
          · have es := es.trans (if_pos (by omega))
            skip
            have sv : am_l2i (mw61 41 15) = V q := by
              have g1 := hx.k2
              have g2 := hx.vb
              rw [am_l2i_eq (by omega)]
              omega
            refine And.intro (rfl) ?_
            refine And.intro (rfl) ?_
            refine ct_199 (by omega) hx (fun _ => by omega) (fun h => absurd rfl h) (fun _ mw334 h335 h336 => ?_)
            have hn1 := h335 41 53 (by omega)
            have hn2 := h335 41 54 (by omega)
            have hn3 := h335 41 55 (by omega)
            have hn4 := h335 41 56 (by omega)
            have w5 := w5.M h335
            have fr := fr.M h335
            have cn := fr.1
            have hx := h336
            refine And.intro (rfl) ?_
            refine ct_289 (by omega) (by omega) (by omega) (fun mw337 h338 => ?_)
            have hn2 := h338.1 41 54 (by omega) (by omega)
            have w5 := w5.K (fun x u v => funext fun j => h338.1 x j (by omega) (by omega))
            have fr := h338.fr fr (by omega)
            have cn := fr.1
            have hx := h338.tx hx
            have pt1 := h338.2.1
            have pt5 := h338.1 41 55 (by omega) (by omega)
            have pt6 := h338.1 41 56 (by omega) (by omega)
            have kp := fr_H.rfl mw337
            refine And.intro (rfl) ?_
            refine And.intro (show -2147483648 ≤ (mw337 41 55) - 1 ∧ (mw337 41 55) - 1 ≤ 2147483647 by first | omega | (simp only [mS_iff, eq_self, Int.reduceEq, true_and, and_true, false_and, and_false, and_self, ↓reduceIte]; omega) | (simp only [mS_iff, eq_self, Int.reduceEq, true_and, and_true, false_and, and_false, and_self, ↓reduceIte] at *; omega)) ?_
            refine And.intro (rfl) ?_
            obtain ⟨mw339, h340⟩ : ∃ z, z = (mS mw337 41 55 ((mw337 41 55) - 1)) := ⟨_, rfl⟩
            rw [← h340]
            have h341 : fr_G mw337 mw339 := by rw [h340]; exact fr_G.n
            have hx : mTx mw339 L K A V E N (q + 1) 0 p := by rw [h340]; exact hx.s (by omega)
            have e55 : mw339 41 55 = ((mw337 41 55) - 1) := by rw [h340, mS_iff, if_pos ⟨rfl, rfl⟩]
            have e53 : mw339 41 53 = mw337 41 53 := by rw [h340, mS_iff, if_neg (by omega)]
            have e56 : mw339 41 56 = mw337 41 56 := by rw [h340, mS_iff, if_neg (by omega)]
            have kp := kp.G h341
            have hn2 := h341.2 41 54 (by omega) (by omega)
            have cn1 := h341.1
            have w5 := w5.G h341
            have fr := fr.trans h341
            have cn := fr.1
            exact hQ rfl _ _ _ es _ _ fr hx (by omega) (by omega) (by omega) (by omega) (by omega) (((mNd_num (lo := m 41 54) (hi := m 41 54 + mw337 41 53) (by omega) h338.2.2.1 (h338.2.2.2.1.trans ap) (h338.2.2.2.2.1.trans sv)).keep (fun x j a b c e => kp.2 x j (by omega) (by omega))).cv rfl (by omega) (by omega))
        · have hn2 := h62.2 41 54 (by omega) (by omega)
          have cn1 := h62.1
          have w5 := w5.G h62
          have fr := fr.trans h62
          have cn := fr.1
          have hx := h63
          have nz : (5 : Int) ≠ 0 := by omega
          have es := es.trans (c_pt_n (by omega))
          refine And.intro (rfl) ?_
          refine am_in (k := dk - 1) rfl (by omega) (fun d hd => ?_)
          refine am_go 400 [] (am_wpc_cm _ _ _) wf_295 ?_
          refine And.intro (rfl) ?_
          refine And.intro (fun h => absurd h (by have := (hx.2.2.2.2.2.2.2 nz).1; omega)) (fun _ => ?_)
          skip
          refine And.intro (rfl) ?_
          refine And.intro (show -2147483648 ≤ (mw61 41 55) - 1 ∧ (mw61 41 55) - 1 ≤ 2147483647 by first | omega | (simp only [mS_iff, eq_self, Int.reduceEq, true_and, and_true, false_and, and_false, and_self, ↓reduceIte]; omega) | (simp only [mS_iff, eq_self, Int.reduceEq, true_and, and_true, false_and, and_false, and_self, ↓reduceIte] at *; omega)) ?_
          refine And.intro (rfl) ?_
          obtain ⟨mw342, h343⟩ : ∃ z, z = (mS mw61 41 55 ((mw61 41 55) - 1)) := ⟨_, rfl⟩
          rw [← h343]
          have h344 : fr_G mw61 mw342 := by rw [h343]; exact fr_G.n
          have hx : mTx mw342 L K A V E N q 5 (A q) := by rw [h343]; exact hx.s (by omega)
          have e55 : mw342 41 55 = ((mw61 41 55) - 1) := by rw [h343, mS_iff, if_pos ⟨rfl, rfl⟩]
          have e53 : mw342 41 53 = mw61 41 53 := by rw [h343, mS_iff, if_neg (by omega)]
          have e56 : mw342 41 56 = mw61 41 56 := by rw [h343, mS_iff, if_neg (by omega)]
          have hn2 := h344.2 41 54 (by omega) (by omega)
          have cn1 := h344.1
          have w5 := w5.G h344
          have fr := fr.trans h344
          have cn := fr.1
          exact hQe rfl _ _ es _ _ _ fr hx nz (by omega) (by omega)
  · skip
    refine am_go 400 [] (am_wpc_cm _ _ _) wf_293 ?_
    refine And.intro (rfl) ?_
    refine And.intro (fun h => absurd h (by have := (hx.2.2.2.2.2.2.2 nz).1; omega)) (fun _ => ?_)
    exact hQf nz _ _ fr (by omega) hx
theorem mc_all {L : Int} {K A V E : Int → Int} {N : Int} (hT : xT K A V N) (n : Nat) : mCP L K A V E N n := by
  induction n using Nat.strongRecOn with
  | _ n ih => exact ⟨mc_283 hT ih, mc_286 hT ih, mc_287 hT ih, mc_291 hT ih, mc_292 hT ih, mc_293 hT ih⟩
