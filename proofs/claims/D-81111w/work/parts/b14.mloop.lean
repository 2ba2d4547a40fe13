/-! needs: b13 -/
/-! CONTRACTS: either, both, sums, products of the reference; by tools/genb14.py -/
set_option maxRecDepth 100000
set_option maxHeartbeats 8000000
theorem mc_283 {L : Int} {K A V E : Int → Int} {N : Int} {n : Nat} (hT : xT K A V N) (ih : ∀ i, i < n → mCP L K A V E N i) : mCa L K A V E N 283 0 3 0 n := by
  intro d m Q dep q f p g0 hd hx w5 hnst hdp h0 hk hmu hQf hQe hQ
  have hb := hx.2.2.2.1
  have hN := hT.1
  obtain ⟨n0, rfl⟩ : ∃ i, n = i + 1 := ⟨n - 1, by omega⟩
  obtain ⟨dk, hdk⟩ : ∃ k, d = k + 1 := ⟨d - 1, by omega⟩
  have fr := fr_G.rfl m
  have cn := fr.1
  refine am_in (k := dk) rfl (by omega) (fun d hd => ?_)
  by_cases nz : f = 0
  · subst nz
    have es : c_x K A V (n0 + 1) 0 dep q (m 41 56) g0 = _ := c_x_0
    have K10 : ∀ (Nm : Nat), ∀ (i : Nat) (qq : Int) (g : aD) (x : Int) (z2 : aV) (z3 : aV), ∀ (mw : aM), (N - qq).toNat = Nm → (i < n0 + 1) → (20 * (N - qq) + 9 ≤ (i : Int)) → (mTx mw L K A V E N qq 0 p) → (mW5 mw) → (fr_G m mw) → (m 41 56 < mw 41 56 ∧ mw 41 56 ≤ 24) → (mw 41 53 = m 41 53 + (mw 41 56 - m 41 56)) → (mw 41 55 = dep + 1) → (mw 41 54 = m 41 54) → (mNd mw (m 41 54) (m 41 54 + mw 41 53) x g (mw 41 56 - m 41 56)) → (c_x K A V (n0 + 1) 0 dep q (m 41 56) g0 = c_x K A V i 1 dep qq (mw 41 56) g) → (q < qq) → (dep ≤ 14) → am_WP am_G (am_wpc am_G am_T d) [] cd_283 Q 10 [aR 41, aI x, z2, z3] [] mw := by
      intro Nm
      induction Nm using Nat.strongRecOn with
      | _ Nm ih10 =>
        intro i qq g x z2 z3 mw hN hi hmw hx w5 fr hkw hpm hns hbs ndl es hqq hd14
        have hb := hx.2.2.2.1
        have cn := fr.1
        have kl := fr_H.rfl mw
        obtain ⟨i0, rfl⟩ : ∃ k, i = k + 1 := ⟨i - 1, by omega⟩
        replace es := es.trans c_x_1
        refine am_go 400 [10] (am_wpc_cm _ _ _) wf_283 ?_
        refine And.intro (rfl) ?_
        refine ct_198 (w := 0) (by omega) hx (by omega) (by decide +kernel) (fun _ h1 => ?_) (fun h1 => ?_)
        · have ky : K qq = 0 := h1
          have es := es.trans (if_pos ky)
          refine And.intro (fun h => absurd h (by decide)) (fun _ => ?_)
          refine And.intro (rfl) ?_
          have ap : mw 41 14 = A qq := (hx.2.2.2.2.2.2.1 rfl).2.2.2.1
          refine And.intro (rfl) ?_
          refine ct_288 (by omega) hx (by omega) (by omega) (fun h5 mw2 h3 h6 h7 h8 h4 => ?_) (fun h5 mw2 h3 h6 h7 h8 h4 => ?_)
          · have kl := kl.G h3
            have hn2 := h3.2 41 54 (by omega) (by omega)
            have cn1 := h3.1
            have w5 := w5.G h3
            have fr := fr.trans h3
            have cn := fr.1
            have hx := h4
            have es := es.trans (c_pt_y (by omega))
            refine And.intro (rfl) ?_
            refine ct_199 (by omega) hx (fun _ => by omega) (fun h => absurd rfl h) (fun _ mw9 h10 h11 => ?_)
            have hn1 := h10 41 53 (by omega)
            have hn2 := h10 41 54 (by omega)
            have hn3 := h10 41 55 (by omega)
            have hn4 := h10 41 56 (by omega)
            have kl := kl.M h10
            have w5 := w5.M h10
            have fr := fr.M h10
            have cn := fr.1
            have hx := h11
            refine And.intro (rfl) ?_
            refine (ih i0 (by omega)).2.1 _ _ _ dep _ _ _ g (by omega) hx w5 (by omega) (by omega) (by omega) (fun _ => by omega) (by omega) (fun h => absurd rfl h) (fun _ c20 pl21 h12 mw13 r14 qe15 h16 h18 h19 h22 h17 => ?_) (fun _ qo25 ko26 g27 h28 mw23 r24 h29 h35 h30 h31 h32 h33 h34 nd36 => ?_)
            · have kl := kl.G h16
              have hn2 := h16.2 41 54 (by omega) (by omega)
              have cn1 := h16.1
              have w5 := w5.G h16
              have fr := fr.trans h16
              have cn := fr.1
              have hx := h18
              have nz := h19
              have ec : c_x K A V i0 2 dep (qq + 1) (mw 41 56 + 1) g = .inl (c20, pl21) := by rw [show (mw 41 56 + 1) = mw9 41 56 by omega]; exact h12
              have es := es.trans (c_bd_l ec)
              refine And.intro (rfl) ?_
              refine ct_289 (by omega) (by omega) (by omega) (fun mw37 h38 => ?_)
              have kl := kl.P h38
              have hn2 := h38.1 41 54 (by omega) (by omega)
              have w5 := w5.K (fun x u v => funext fun j => h38.1 x j (by omega) (by omega))
              have fr := h38.fr fr (by omega)
              have cn := fr.1
              have hx := h38.tx hx
              have pt1 := h38.2.1
              have pt5 := h38.1 41 55 (by omega) (by omega)
              have pt6 := h38.1 41 56 (by omega) (by omega)
              refine am_go 400 [] (am_wpc_cm _ _ _) wf_283 ?_
              refine And.intro (rfl) ?_
              refine ct_198 (w := 0) (by omega) hx (by omega) (by decide +kernel) (fun h => absurd h nz) (fun _ => ?_)
              refine And.intro (fun _ => ?_) (fun h => absurd h (by decide))
              refine And.intro (rfl) ?_
              refine And.intro (show -2147483648 ≤ (mw37 41 55) - 1 ∧ (mw37 41 55) - 1 ≤ 2147483647 by first | omega | (simp only [mS_iff, eq_self, Int.reduceEq, true_and, and_true, false_and, and_false, and_self, ↓reduceIte]; omega) | (simp only [mS_iff, eq_self, Int.reduceEq, true_and, and_true, false_and, and_false, and_self, ↓reduceIte] at *; omega)) ?_
              refine And.intro (rfl) ?_
              obtain ⟨mw39, h40⟩ : ∃ z, z = (mS mw37 41 55 ((mw37 41 55) - 1)) := ⟨_, rfl⟩
              rw [← h40]
              have h41 : fr_G mw37 mw39 := by rw [h40]; exact fr_G.n
              have hx : mTx mw39 L K A V E N qe15 c20 pl21 := by rw [h40]; exact hx.s (by omega)
              have e55 : mw39 41 55 = ((mw37 41 55) - 1) := by rw [h40, mS_iff, if_pos ⟨rfl, rfl⟩]
              have e53 : mw39 41 53 = mw37 41 53 := by rw [h40, mS_iff, if_neg (by omega)]
              have e56 : mw39 41 56 = mw37 41 56 := by rw [h40, mS_iff, if_neg (by omega)]
              have kl := kl.G h41
              have hn2 := h41.2 41 54 (by omega) (by omega)
              have cn1 := h41.1
              have w5 := w5.G h41
              have fr := fr.trans h41
              have cn := fr.1
              exact hQe rfl _ _ es _ _ _ fr hx nz (by omega) (by omega)
            · have kl := kl.G h29
              have hn2 := h29.2 41 54 (by omega) (by omega)
              have cn1 := h29.1
              have w5 := w5.G h29
              have fr := fr.trans h29
              have cn := fr.1
              have hx := h35
              have eo : c_x K A V i0 2 dep (qq + 1) (mw 41 56 + 1) g = .inr (qo25, ko26, g27) := by rw [show (mw 41 56 + 1) = mw9 41 56 by omega]; exact h28
              have es := es.trans (c_bd_r eo)
              have nd2 := nd36
              refine And.intro (rfl) ?_
              refine ct_289 (by omega) (by omega) (by omega) (fun mw42 h43 => ?_)
              have kl := kl.P h43
              have hn2 := h43.1 41 54 (by omega) (by omega)
              have w5 := w5.K (fun x u v => funext fun j => h43.1 x j (by omega) (by omega))
              have fr := h43.fr fr (by omega)
              have cn := fr.1
              have hx := h43.tx hx
              have pt1 := h43.2.1
              have pt5 := h43.1 41 55 (by omega) (by omega)
              have pt6 := h43.1 41 56 (by omega) (by omega)
              refine ih10 _ ?_ (i0) (qo25) (d_two (A qq) 0 g g27) _ _ _ _ (Eq.refl _) ?_ ?_ ?_ ?_ ?_ ?_ ?_ ?_ ?_ ?_ ?_ ?_ ?_
              · omega
              · omega
              · omega
              · exact hx
              · exact w5
              · exact fr
              · omega
              · omega
              · omega
              · omega
              · refine (mNd_or (lo := m 41 54) (hi := m 41 54 + mw42 41 53) (hi1 := m 41 54 + mw 41 53) (p1 := mw 41 56 - m 41 56) (hi2 := m 41 54 + mw23 41 53) (p2 := ko26 - mw9 41 56) (by omega) h43.2.2.1 (h43.2.2.2.1.trans ap) h43.2.2.2.2.1 h43.2.2.2.2.2 (ndl.keep (fun x j a b c e => kl.2 x j (by omega) (by omega))) ((nd2.cv (by omega) (by omega) rfl).keep (fun x j a b c e => h43.1 x j (by omega) (by omega))) (by omega) (by omega)).wd (by omega)
              · rw [show mw42 41 56 = ko26 by omega]; exact es
              · omega
              · omega
          · have kl := kl.G h3
            have hn2 := h3.2 41 54 (by omega) (by omega)
            have cn1 := h3.1
            have w5 := w5.G h3
            have fr := fr.trans h3
            have cn := fr.1
            have hx := h4
            have nz : (5 : Int) ≠ 0 := by omega
            have es := es.trans (c_pt_n (by omega))
            refine And.intro (rfl) ?_
            refine ct_199 (by omega) hx (fun h => absurd h nz) (fun _ => ?_) (fun h => absurd h nz)
            refine And.intro (rfl) ?_
            refine (ih i0 (by omega)).2.1 _ _ _ dep _ _ _ g (by omega) hx w5 (by omega) (by omega) (by omega) (fun _ => by omega) (by omega) (fun _ mw45 r46 h48 h49 h50 => ?_) (fun h => absurd h nz) (fun h => absurd h nz)
            have kl := kl.G h48
            have hn2 := h48.2 41 54 (by omega) (by omega)
            have cn1 := h48.1
            have w5 := w5.G h48
            have fr := fr.trans h48
            have cn := fr.1
            have hx := h50
            refine And.intro (rfl) ?_
            refine ct_289 (by omega) (by omega) (by omega) (fun mw55 h56 => ?_)
            have kl := kl.P h56
            have hn2 := h56.1 41 54 (by omega) (by omega)
            have w5 := w5.K (fun x u v => funext fun j => h56.1 x j (by omega) (by omega))
            have fr := h56.fr fr (by omega)
            have cn := fr.1
            have hx := h56.tx hx
            have pt1 := h56.2.1
            have pt5 := h56.1 41 55 (by omega) (by omega)
            have pt6 := h56.1 41 56 (by omega) (by omega)
            refine am_go 400 [] (am_wpc_cm _ _ _) wf_283 ?_
            refine And.intro (rfl) ?_
            refine ct_198 (w := 0) (by omega) hx (by omega) (by decide +kernel) (fun h => absurd h nz) (fun _ => ?_)
            refine And.intro (fun _ => ?_) (fun h => absurd h (by decide))
            refine And.intro (rfl) ?_
            refine And.intro (show -2147483648 ≤ (mw55 41 55) - 1 ∧ (mw55 41 55) - 1 ≤ 2147483647 by first | omega | (simp only [mS_iff, eq_self, Int.reduceEq, true_and, and_true, false_and, and_false, and_self, ↓reduceIte]; omega) | (simp only [mS_iff, eq_self, Int.reduceEq, true_and, and_true, false_and, and_false, and_self, ↓reduceIte] at *; omega)) ?_
            refine And.intro (rfl) ?_
            obtain ⟨mw57, h58⟩ : ∃ z, z = (mS mw55 41 55 ((mw55 41 55) - 1)) := ⟨_, rfl⟩
            rw [← h58]
            have h59 : fr_G mw55 mw57 := by rw [h58]; exact fr_G.n
            have hx : mTx mw57 L K A V E N qq 5 (A qq) := by rw [h58]; exact hx.s (by omega)
            have e55 : mw57 41 55 = ((mw55 41 55) - 1) := by rw [h58, mS_iff, if_pos ⟨rfl, rfl⟩]
            have e53 : mw57 41 53 = mw55 41 53 := by rw [h58, mS_iff, if_neg (by omega)]
            have e56 : mw57 41 56 = mw55 41 56 := by rw [h58, mS_iff, if_neg (by omega)]
            have kl := kl.G h59
            have hn2 := h59.2 41 54 (by omega) (by omega)
            have cn1 := h59.1
            have w5 := w5.G h59
            have fr := fr.trans h59
            have cn := fr.1
            exact hQe rfl _ _ es _ _ _ fr hx nz (by omega) (by omega)
        · replace h1 : K qq ≠ 0 := fun h => h1 ⟨rfl, h⟩
          have es := es.trans (if_neg h1)
          refine And.intro (fun _ => ?_) (fun h => absurd h (by decide))
          refine And.intro (rfl) ?_
          refine And.intro (show -2147483648 ≤ (mw 41 55) - 1 ∧ (mw 41 55) - 1 ≤ 2147483647 by first | omega | (simp only [mS_iff, eq_self, Int.reduceEq, true_and, and_true, false_and, and_false, and_self, ↓reduceIte]; omega) | (simp only [mS_iff, eq_self, Int.reduceEq, true_and, and_true, false_and, and_false, and_self, ↓reduceIte] at *; omega)) ?_
          refine And.intro (rfl) ?_
          obtain ⟨mw60, h61⟩ : ∃ z, z = (mS mw 41 55 ((mw 41 55) - 1)) := ⟨_, rfl⟩
          rw [← h61]
          have h62 : fr_G mw mw60 := by rw [h61]; exact fr_G.n
          have hx : mTx mw60 L K A V E N qq 0 p := by rw [h61]; exact hx.s (by omega)
          have e55 : mw60 41 55 = ((mw 41 55) - 1) := by rw [h61, mS_iff, if_pos ⟨rfl, rfl⟩]
          have e53 : mw60 41 53 = mw 41 53 := by rw [h61, mS_iff, if_neg (by omega)]
          have e56 : mw60 41 56 = mw 41 56 := by rw [h61, mS_iff, if_neg (by omega)]
          have kl := kl.G h62
          have hn2 := h62.2 41 54 (by omega) (by omega)
          have cn1 := h62.1
          have w5 := w5.G h62
          have fr := fr.trans h62
          have cn := fr.1
          exact hQ rfl _ _ _ es _ _ fr hx (by omega) (by omega) (by omega) (by omega) (by omega) ((ndl.keep (fun x j a b c e => kl.2 x j (by omega) (by omega))).cv rfl (by omega) (by omega))
    refine am_go 400 [10] (am_wpc_cm _ _ _) wf_283 ?_
    refine And.intro (rfl) ?_
    refine ct_284_0 (by omega) hx w5 (by omega) (fun h => absurd rfl h) (fun _ h66 mw63 h64 h68 h69 h70 h65 => ?_) (fun _ h66 h67 mw63 h64 h68 h69 h70 h65 => ?_) (fun _ h66 h67 mw63 h64 h68 h69 h70 h65 => ?_)
    · have hn2 := h64.2 41 54 (by omega) (by omega)
      have cn1 := h64.1
      have w5 := w5.G h64
      have fr := fr.trans h64
      have cn := fr.1
      have hx := h65
      have nz : x_wr (K q) ≠ 0 := by unfold x_wr; omega
      have es := es.trans (c_may_w h66)
      refine And.intro (rfl) ?_
      refine (ih n0 (by omega)).2.1 _ _ _ dep _ _ _ g0 (by omega) hx w5 (by omega) (by omega) (by omega) (fun _ => by omega) (by omega) (fun _ mw72 r73 h75 h76 h77 => ?_) (fun h => absurd h nz) (fun h => absurd h nz)
      have hn2 := h75.2 41 54 (by omega) (by omega)
      have cn1 := h75.1
      have w5 := w5.G h75
      have fr := fr.trans h75
      have cn := fr.1
      have hx := h77
      refine am_go 400 [] (am_wpc_cm _ _ _) wf_283 ?_
      refine And.intro (rfl) ?_
      refine ct_198 (w := 0) (by omega) hx (by omega) (by decide +kernel) (fun h => absurd h nz) (fun _ => ?_)
      refine And.intro (fun _ => ?_) (fun h => absurd h (by decide))
      refine And.intro (rfl) ?_
      refine And.intro (show -2147483648 ≤ (mw72 41 55) - 1 ∧ (mw72 41 55) - 1 ≤ 2147483647 by first | omega | (simp only [mS_iff, eq_self, Int.reduceEq, true_and, and_true, false_and, and_false, and_self, ↓reduceIte]; omega) | (simp only [mS_iff, eq_self, Int.reduceEq, true_and, and_true, false_and, and_false, and_self, ↓reduceIte] at *; omega)) ?_
      refine And.intro (rfl) ?_
      obtain ⟨mw82, h83⟩ : ∃ z, z = (mS mw72 41 55 ((mw72 41 55) - 1)) := ⟨_, rfl⟩
      rw [← h83]
      have h84 : fr_G mw72 mw82 := by rw [h83]; exact fr_G.n
      have hx : mTx mw82 L K A V E N q (x_wr (K q)) (A q) := by rw [h83]; exact hx.s (by omega)
      have e55 : mw82 41 55 = ((mw72 41 55) - 1) := by rw [h83, mS_iff, if_pos ⟨rfl, rfl⟩]
      have e53 : mw82 41 53 = mw72 41 53 := by rw [h83, mS_iff, if_neg (by omega)]
      have e56 : mw82 41 56 = mw72 41 56 := by rw [h83, mS_iff, if_neg (by omega)]
      have hn2 := h84.2 41 54 (by omega) (by omega)
      have cn1 := h84.1
      have w5 := w5.G h84
      have fr := fr.trans h84
      have cn := fr.1
      exact hQe rfl _ _ es _ _ _ fr hx nz (by omega) (by omega)
    · have hn2 := h64.2 41 54 (by omega) (by omega)
      have cn1 := h64.1
      have w5 := w5.G h64
      have fr := fr.trans h64
      have cn := fr.1
      have hx := h65
      have nz : (5 : Int) ≠ 0 := by omega
      have es := es.trans (c_may_d h66 (by omega))
      refine And.intro (rfl) ?_
      refine (ih n0 (by omega)).2.1 _ _ _ dep _ _ _ g0 (by omega) hx w5 (by omega) (by omega) (by omega) (fun _ => by omega) (by omega) (fun _ mw86 r87 h89 h90 h91 => ?_) (fun h => absurd h nz) (fun h => absurd h nz)
      have hn2 := h89.2 41 54 (by omega) (by omega)
      have cn1 := h89.1
      have w5 := w5.G h89
      have fr := fr.trans h89
      have cn := fr.1
      have hx := h91
      refine am_go 400 [] (am_wpc_cm _ _ _) wf_283 ?_
      refine And.intro (rfl) ?_
      refine ct_198 (w := 0) (by omega) hx (by omega) (by decide +kernel) (fun h => absurd h nz) (fun _ => ?_)
      refine And.intro (fun _ => ?_) (fun h => absurd h (by decide))
      refine And.intro (rfl) ?_
      refine And.intro (show -2147483648 ≤ (mw86 41 55) - 1 ∧ (mw86 41 55) - 1 ≤ 2147483647 by first | omega | (simp only [mS_iff, eq_self, Int.reduceEq, true_and, and_true, false_and, and_false, and_self, ↓reduceIte]; omega) | (simp only [mS_iff, eq_self, Int.reduceEq, true_and, and_true, false_and, and_false, and_self, ↓reduceIte] at *; omega)) ?_
      refine And.intro (rfl) ?_
      obtain ⟨mw96, h97⟩ : ∃ z, z = (mS mw86 41 55 ((mw86 41 55) - 1)) := ⟨_, rfl⟩
      rw [← h97]
      have h98 : fr_G mw86 mw96 := by rw [h97]; exact fr_G.n
      have hx : mTx mw96 L K A V E N q 5 (A q) := by rw [h97]; exact hx.s (by omega)
      have e55 : mw96 41 55 = ((mw86 41 55) - 1) := by rw [h97, mS_iff, if_pos ⟨rfl, rfl⟩]
      have e53 : mw96 41 53 = mw86 41 53 := by rw [h97, mS_iff, if_neg (by omega)]
      have e56 : mw96 41 56 = mw86 41 56 := by rw [h97, mS_iff, if_neg (by omega)]
      have hn2 := h98.2 41 54 (by omega) (by omega)
      have cn1 := h98.1
      have w5 := w5.G h98
      have fr := fr.trans h98
      have cn := fr.1
      exact hQe rfl _ _ es _ _ _ fr hx nz (by omega) (by omega)
    · have hn2 := h64.2 41 54 (by omega) (by omega)
      have cn1 := h64.1
      have w5 := w5.G h64
      have fr := fr.trans h64
      have cn := fr.1
      have hx := h65
      have bg := h66
      have dg : ¬ 15 ≤ dep := by omega
      have bg1 : K q = 51 ∨ K q = 145 ∨ K q = 70 ∨ K q = 140 ∨ (52 ≤ K q ∧ K q ≤ 65) := bg.1
      have bg2 := bg.2
      have es := es.trans (c_may_y h66 dg)
      refine And.intro (rfl) ?_
      refine (ih n0 (by omega)).2.1 _ _ _ dep _ _ _ g0 (by omega) hx w5 (by omega) (by omega) (by omega) (fun _ => by omega) (by omega) (fun h => absurd rfl h) (fun _ c107 pl108 h99 mw100 r101 qe102 h103 h105 h106 h109 h104 => ?_) (fun _ qo112 ko113 g114 h115 mw110 r111 h116 h122 h117 h118 h119 h120 h121 nd123 => ?_)
      · have hn2 := h103.2 41 54 (by omega) (by omega)
        have cn1 := h103.1
        have w5 := w5.G h103
        have fr := fr.trans h103
        have cn := fr.1
        have hx := h105
        have nz := h106
        have ec : c_x K A V n0 2 dep q (m 41 56) g0 = .inl (c107, pl108) := by rw [show (m 41 56) = mw63 41 56 by omega]; exact h99
        have es := es.trans (c_bd_l ec)
        refine am_go 400 [] (am_wpc_cm _ _ _) wf_283 ?_
        refine And.intro (rfl) ?_
        refine ct_198 (w := 0) (by omega) hx (by omega) (by decide +kernel) (fun h => absurd h nz) (fun _ => ?_)
        refine And.intro (fun _ => ?_) (fun h => absurd h (by decide))
        refine And.intro (rfl) ?_
        refine And.intro (show -2147483648 ≤ (mw100 41 55) - 1 ∧ (mw100 41 55) - 1 ≤ 2147483647 by first | omega | (simp only [mS_iff, eq_self, Int.reduceEq, true_and, and_true, false_and, and_false, and_self, ↓reduceIte]; omega) | (simp only [mS_iff, eq_self, Int.reduceEq, true_and, and_true, false_and, and_false, and_self, ↓reduceIte] at *; omega)) ?_
        refine And.intro (rfl) ?_
        obtain ⟨mw124, h125⟩ : ∃ z, z = (mS mw100 41 55 ((mw100 41 55) - 1)) := ⟨_, rfl⟩
        rw [← h125]
        have h126 : fr_G mw100 mw124 := by rw [h125]; exact fr_G.n
        have hx : mTx mw124 L K A V E N qe102 c107 pl108 := by rw [h125]; exact hx.s (by omega)
        have e55 : mw124 41 55 = ((mw100 41 55) - 1) := by rw [h125, mS_iff, if_pos ⟨rfl, rfl⟩]
        have e53 : mw124 41 53 = mw100 41 53 := by rw [h125, mS_iff, if_neg (by omega)]
        have e56 : mw124 41 56 = mw100 41 56 := by rw [h125, mS_iff, if_neg (by omega)]
        have hn2 := h126.2 41 54 (by omega) (by omega)
        have cn1 := h126.1
        have w5 := w5.G h126
        have fr := fr.trans h126
        have cn := fr.1
        exact hQe rfl _ _ es _ _ _ fr hx nz (by omega) (by omega)
      · have hn2 := h116.2 41 54 (by omega) (by omega)
        have cn1 := h116.1
        have w5 := w5.G h116
        have fr := fr.trans h116
        have cn := fr.1
        have hx := h122
        have eo : c_x K A V n0 2 dep q (m 41 56) g0 = .inr (qo112, ko113, g114) := by rw [show (m 41 56) = mw63 41 56 by omega]; exact h115
        have es := es.trans (c_bd_r eo)
        have nd1 := nd123
        refine K10 _ (n0) (qo112) (g114) _ _ _ _ (Eq.refl _) ?_ ?_ ?_ ?_ ?_ ?_ ?_ ?_ ?_ ?_ ?_ ?_ ?_
        · omega
        · omega
        · exact hx
        · exact w5
        · exact fr
        · omega
        · omega
        · omega
        · omega
        · refine (nd1.cv (by omega) (by omega) (by omega))
        · rw [show mw110 41 56 = ko113 by omega]; exact es
        · omega
        · omega
  · skip
    refine am_go 400 [] (am_wpc_cm _ _ _) wf_283 ?_
    refine And.intro (rfl) ?_
    refine ct_284_0 (by omega) hx w5 (by omega) (fun _ mw1 h2 h6 h7 h8 h3 => ?_) (fun h => absurd h nz) (fun h => absurd h nz) (fun h => absurd h nz)
    have hn2 := h2.2 41 54 (by omega) (by omega)
    have cn1 := h2.1
    have w5 := w5.G h2
    have fr := fr.trans h2
    have cn := fr.1
    have hx := h3
    refine And.intro (rfl) ?_
    refine (ih n0 (by omega)).2.1 _ _ _ dep _ _ _ g0 (by omega) hx w5 (by omega) (by omega) (by omega) (fun _ => by omega) (by omega) (fun _ mw10 r11 h13 h14 h15 => ?_) (fun h => absurd h nz) (fun h => absurd h nz)
    have hn2 := h13.2 41 54 (by omega) (by omega)
    have cn1 := h13.1
    have w5 := w5.G h13
    have fr := fr.trans h13
    have cn := fr.1
    have hx := h15
    refine And.intro (rfl) ?_
    refine ct_198 (w := 0) (by omega) hx (by omega) (by decide +kernel) (fun h => absurd h nz) (fun _ => ?_)
    refine And.intro (fun _ => ?_) (fun h => absurd h (by decide))
    refine And.intro (rfl) ?_
    refine And.intro (show -2147483648 ≤ (mw10 41 55) - 1 ∧ (mw10 41 55) - 1 ≤ 2147483647 by first | omega | (simp only [mS_iff, eq_self, Int.reduceEq, true_and, and_true, false_and, and_false, and_self, ↓reduceIte]; omega) | (simp only [mS_iff, eq_self, Int.reduceEq, true_and, and_true, false_and, and_false, and_self, ↓reduceIte] at *; omega)) ?_
    refine And.intro (rfl) ?_
    obtain ⟨mw20, h21⟩ : ∃ z, z = (mS mw10 41 55 ((mw10 41 55) - 1)) := ⟨_, rfl⟩
    rw [← h21]
    have h22 : fr_G mw10 mw20 := by rw [h21]; exact fr_G.n
    have hx : mTx mw20 L K A V E N q f p := by rw [h21]; exact hx.s (by omega)
    have e55 : mw20 41 55 = ((mw10 41 55) - 1) := by rw [h21, mS_iff, if_pos ⟨rfl, rfl⟩]
    have e53 : mw20 41 53 = mw10 41 53 := by rw [h21, mS_iff, if_neg (by omega)]
    have e56 : mw20 41 56 = mw10 41 56 := by rw [h21, mS_iff, if_neg (by omega)]
    have hn2 := h22.2 41 54 (by omega) (by omega)
    have cn1 := h22.1
    have w5 := w5.G h22
    have fr := fr.trans h22
    have cn := fr.1
    exact hQf nz _ _ fr (by omega) hx
theorem mc_286 {L : Int} {K A V E : Int → Int} {N : Int} {n : Nat} (hT : xT K A V N) (ih : ∀ i, i < n → mCP L K A V E N i) : mCa L K A V E N 286 2 2 1 n := by
  intro d m Q dep q f p g0 hd hx w5 hnst hdp h0 hk hmu hQf hQe hQ
  have hb := hx.2.2.2.1
  have hN := hT.1
  obtain ⟨n0, rfl⟩ : ∃ i, n = i + 1 := ⟨n - 1, by omega⟩
  obtain ⟨dk, hdk⟩ : ∃ k, d = k + 1 := ⟨d - 1, by omega⟩
  have fr := fr_G.rfl m
  have cn := fr.1
  refine am_in (k := dk) rfl (by omega) (fun d hd => ?_)
  by_cases nz : f = 0
  · subst nz
    have es : c_x K A V (n0 + 1) 2 dep q (m 41 56) g0 = _ := c_x_2
    have K5 : ∀ (Nm : Nat), ∀ (i : Nat) (qq : Int) (g : aD) (x : Int) (z2 : aV) (z3 : aV), ∀ (mw : aM), (N - qq).toNat = Nm → (i < n0 + 1) → (20 * (N - qq) + 7 ≤ (i : Int)) → (mTx mw L K A V E N qq 0 p) → (mW5 mw) → (fr_G m mw) → (m 41 56 < mw 41 56 ∧ mw 41 56 ≤ 24) → (mw 41 53 = m 41 53 + (mw 41 56 - m 41 56)) → (mw 41 55 = dep + 1) → (mw 41 54 = m 41 54) → (mNd mw (m 41 54) (m 41 54 + mw 41 53) x g (mw 41 56 - m 41 56)) → (c_x K A V (n0 + 1) 2 dep q (m 41 56) g0 = c_x K A V i 3 dep qq (mw 41 56) g) → (q < qq) → (dep ≤ 14) → am_WP am_G (am_wpc am_G am_T d) [] cd_286 Q 5 [aR 41, aI x, z2, z3] [] mw := by
      intro Nm
      induction Nm using Nat.strongRecOn with
      | _ Nm ih5 =>
        intro i qq g x z2 z3 mw hN hi hmw hx w5 fr hkw hpm hns hbs ndl es hqq hd14
        have hb := hx.2.2.2.1
        have cn := fr.1
        have kl := fr_H.rfl mw
        obtain ⟨i0, rfl⟩ : ∃ k, i = k + 1 := ⟨i - 1, by omega⟩
        replace es := es.trans c_x_3
        refine am_go 400 [5] (am_wpc_cm _ _ _) wf_286 ?_
        refine And.intro (rfl) ?_
        refine ct_198 (w := 34) (by omega) hx (by omega) (by decide +kernel) (fun _ h1 => ?_) (fun h1 => ?_)
        · have ky : K qq = 34 := h1
          have es := es.trans (if_pos ky)
          refine And.intro (fun h => absurd h (by decide)) (fun _ => ?_)
          refine And.intro (rfl) ?_
          have ap : mw 41 14 = A qq := (hx.2.2.2.2.2.2.1 rfl).2.2.2.1
          refine And.intro (rfl) ?_
          refine ct_288 (by omega) hx (by omega) (by omega) (fun h5 mw2 h3 h6 h7 h8 h4 => ?_) (fun h5 mw2 h3 h6 h7 h8 h4 => ?_)
          · have kl := kl.G h3
            have hn2 := h3.2 41 54 (by omega) (by omega)
            have cn1 := h3.1
            have w5 := w5.G h3
            have fr := fr.trans h3
            have cn := fr.1
            have hx := h4
            have es := es.trans (c_pt_y (by omega))
            refine And.intro (rfl) ?_
            refine ct_199 (by omega) hx (fun _ => by omega) (fun h => absurd rfl h) (fun _ mw9 h10 h11 => ?_)
            have hn1 := h10 41 53 (by omega)
            have hn2 := h10 41 54 (by omega)
            have hn3 := h10 41 55 (by omega)
            have hn4 := h10 41 56 (by omega)
            have kl := kl.M h10
            have w5 := w5.M h10
            have fr := fr.M h10
            have cn := fr.1
            have hx := h11
            refine And.intro (rfl) ?_
            refine (ih i0 (by omega)).2.2.1 _ _ _ (dep + 1) _ _ _ g (by omega) hx w5 (by omega) (by omega) (by omega) (fun _ => by omega) (by omega) (fun h => absurd rfl h) (fun _ c20 pl21 h12 mw13 r14 qe15 h16 h18 h19 h22 h17 => ?_) (fun _ qo25 ko26 g27 h28 mw23 r24 h29 h35 h30 h31 h32 h33 h34 nd36 => ?_)
            · have kl := kl.G h16
              have hn2 := h16.2 41 54 (by omega) (by omega)
              have cn1 := h16.1
              have w5 := w5.G h16
              have fr := fr.trans h16
              have cn := fr.1
              have hx := h18
              have nz := h19
              have ec : c_x K A V i0 4 (dep + 1) (qq + 1) (mw 41 56 + 1) g = .inl (c20, pl21) := by rw [show (mw 41 56 + 1) = mw9 41 56 by omega]; exact h12
              have es := es.trans (c_bd_l ec)
              refine And.intro (rfl) ?_
              refine ct_289 (by omega) (by omega) (by omega) (fun mw37 h38 => ?_)
              have kl := kl.P h38
              have hn2 := h38.1 41 54 (by omega) (by omega)
              have w5 := w5.K (fun x u v => funext fun j => h38.1 x j (by omega) (by omega))
              have fr := h38.fr fr (by omega)
              have cn := fr.1
              have hx := h38.tx hx
              have pt1 := h38.2.1
              have pt5 := h38.1 41 55 (by omega) (by omega)
              have pt6 := h38.1 41 56 (by omega) (by omega)
              refine am_go 400 [] (am_wpc_cm _ _ _) wf_286 ?_
              refine And.intro (rfl) ?_
              refine ct_198 (w := 34) (by omega) hx (by omega) (by decide +kernel) (fun h => absurd h nz) (fun _ => ?_)
              refine And.intro (fun _ => ?_) (fun h => absurd h (by decide))
              exact hQe rfl _ _ es _ _ _ fr hx nz (by omega) (by omega)
            · have kl := kl.G h29
              have hn2 := h29.2 41 54 (by omega) (by omega)
              have cn1 := h29.1
              have w5 := w5.G h29
              have fr := fr.trans h29
              have cn := fr.1
              have hx := h35
              have eo : c_x K A V i0 4 (dep + 1) (qq + 1) (mw 41 56 + 1) g = .inr (qo25, ko26, g27) := by rw [show (mw 41 56 + 1) = mw9 41 56 by omega]; exact h28
              have es := es.trans (c_bd_r eo)
              have nd2 := nd36
              refine And.intro (rfl) ?_
              refine ct_289 (by omega) (by omega) (by omega) (fun mw39 h40 => ?_)
              have kl := kl.P h40
              have hn2 := h40.1 41 54 (by omega) (by omega)
              have w5 := w5.K (fun x u v => funext fun j => h40.1 x j (by omega) (by omega))
              have fr := h40.fr fr (by omega)
              have cn := fr.1
              have hx := h40.tx hx
              have pt1 := h40.2.1
              have pt5 := h40.1 41 55 (by omega) (by omega)
              have pt6 := h40.1 41 56 (by omega) (by omega)
              refine ih5 _ ?_ (i0) (qo25) (d_two (A qq) 34 g g27) _ _ _ _ (Eq.refl _) ?_ ?_ ?_ ?_ ?_ ?_ ?_ ?_ ?_ ?_ ?_ ?_ ?_
              · omega
              · omega
              · omega
              · exact hx
              · exact w5
              · exact fr
              · omega
              · omega
              · omega
              · omega
              · refine (mNd_and (lo := m 41 54) (hi := m 41 54 + mw39 41 53) (hi1 := m 41 54 + mw 41 53) (p1 := mw 41 56 - m 41 56) (hi2 := m 41 54 + mw23 41 53) (p2 := ko26 - mw9 41 56) (by omega) h40.2.2.1 (h40.2.2.2.1.trans ap) h40.2.2.2.2.1 h40.2.2.2.2.2 (ndl.keep (fun x j a b c e => kl.2 x j (by omega) (by omega))) ((nd2.cv (by omega) (by omega) rfl).keep (fun x j a b c e => h40.1 x j (by omega) (by omega))) (by omega) (by omega)).wd (by omega)
              · rw [show mw39 41 56 = ko26 by omega]; exact es
              · omega
              · omega
          · have kl := kl.G h3
            have hn2 := h3.2 41 54 (by omega) (by omega)
            have cn1 := h3.1
            have w5 := w5.G h3
            have fr := fr.trans h3
            have cn := fr.1
            have hx := h4
            have nz : (5 : Int) ≠ 0 := by omega
            have es := es.trans (c_pt_n (by omega))
            refine And.intro (rfl) ?_
            refine ct_199 (by omega) hx (fun h => absurd h nz) (fun _ => ?_) (fun h => absurd h nz)
            refine And.intro (rfl) ?_
            refine (ih i0 (by omega)).2.2.1 _ _ _ (dep + 1) _ _ _ g (by omega) hx w5 (by omega) (by omega) (by omega) (fun _ => by omega) (by omega) (fun _ mw42 r43 h45 h46 h47 => ?_) (fun h => absurd h nz) (fun h => absurd h nz)
            have kl := kl.G h45
            have hn2 := h45.2 41 54 (by omega) (by omega)
            have cn1 := h45.1
            have w5 := w5.G h45
            have fr := fr.trans h45
            have cn := fr.1
            have hx := h47
            refine And.intro (rfl) ?_
            refine ct_289 (by omega) (by omega) (by omega) (fun mw52 h53 => ?_)
            have kl := kl.P h53
            have hn2 := h53.1 41 54 (by omega) (by omega)
            have w5 := w5.K (fun x u v => funext fun j => h53.1 x j (by omega) (by omega))
            have fr := h53.fr fr (by omega)
            have cn := fr.1
            have hx := h53.tx hx
            have pt1 := h53.2.1
            have pt5 := h53.1 41 55 (by omega) (by omega)
            have pt6 := h53.1 41 56 (by omega) (by omega)
            refine am_go 400 [] (am_wpc_cm _ _ _) wf_286 ?_
            refine And.intro (rfl) ?_
            refine ct_198 (w := 34) (by omega) hx (by omega) (by decide +kernel) (fun h => absurd h nz) (fun _ => ?_)
            refine And.intro (fun _ => ?_) (fun h => absurd h (by decide))
            exact hQe rfl _ _ es _ _ _ fr hx nz (by omega) (by omega)
        · replace h1 : K qq ≠ 34 := fun h => h1 ⟨rfl, h⟩
          have es := es.trans (if_neg h1)
          refine And.intro (fun _ => ?_) (fun h => absurd h (by decide))
          exact hQ rfl _ _ _ es _ _ fr hx (by omega) rfl (by omega) (by omega) (by omega) ndl
    refine am_go 400 [5] (am_wpc_cm _ _ _) wf_286 ?_
    refine And.intro (rfl) ?_
    refine (ih n0 (by omega)).2.2.1 _ _ _ (dep + 1) _ _ _ g0 (by omega) hx w5 (by omega) (by omega) (by omega) (fun _ => by omega) (by omega) (fun h => absurd rfl h) (fun _ c62 pl63 h54 mw55 r56 qe57 h58 h60 h61 h64 h59 => ?_) (fun _ qo67 ko68 g69 h70 mw65 r66 h71 h77 h72 h73 h74 h75 h76 nd78 => ?_)
    · have hn2 := h58.2 41 54 (by omega) (by omega)
      have cn1 := h58.1
      have w5 := w5.G h58
      have fr := fr.trans h58
      have cn := fr.1
      have hx := h60
      have nz := h61
      have ec : c_x K A V n0 4 (dep + 1) q (m 41 56) g0 = .inl (c62, pl63) := by rw [show (m 41 56) = m 41 56 by omega]; exact h54
      have es := es.trans (c_bd_l ec)
      refine am_go 400 [] (am_wpc_cm _ _ _) wf_286 ?_
      refine And.intro (rfl) ?_
      refine ct_198 (w := 34) (by omega) hx (by omega) (by decide +kernel) (fun h => absurd h nz) (fun _ => ?_)
      refine And.intro (fun _ => ?_) (fun h => absurd h (by decide))
      exact hQe rfl _ _ es _ _ _ fr hx nz (by omega) (by omega)
    · have hn2 := h71.2 41 54 (by omega) (by omega)
      have cn1 := h71.1
      have w5 := w5.G h71
      have fr := fr.trans h71
      have cn := fr.1
      have hx := h77
      have eo : c_x K A V n0 4 (dep + 1) q (m 41 56) g0 = .inr (qo67, ko68, g69) := by rw [show (m 41 56) = m 41 56 by omega]; exact h70
      have es := es.trans (c_bd_r eo)
      have nd1 := nd78
      refine K5 _ (n0) (qo67) (g69) _ _ _ _ (Eq.refl _) ?_ ?_ ?_ ?_ ?_ ?_ ?_ ?_ ?_ ?_ ?_ ?_ ?_
      · omega
      · omega
      · exact hx
      · exact w5
      · exact fr
      · omega
      · omega
      · omega
      · omega
      · refine (nd1.cv (by omega) (by omega) (by omega))
      · rw [show mw65 41 56 = ko68 by omega]; exact es
      · omega
      · omega
  · skip
    refine am_go 400 [] (am_wpc_cm _ _ _) wf_286 ?_
    refine And.intro (rfl) ?_
    refine (ih n0 (by omega)).2.2.1 _ _ _ (dep + 1) _ _ _ g0 (by omega) hx w5 (by omega) (by omega) (by omega) (fun _ => by omega) (by omega) (fun _ mw2 r3 h5 h6 h7 => ?_) (fun h => absurd h nz) (fun h => absurd h nz)
    have hn2 := h5.2 41 54 (by omega) (by omega)
    have cn1 := h5.1
    have w5 := w5.G h5
    have fr := fr.trans h5
    have cn := fr.1
    have hx := h7
    refine And.intro (rfl) ?_
    refine ct_198 (w := 34) (by omega) hx (by omega) (by decide +kernel) (fun h => absurd h nz) (fun _ => ?_)
    refine And.intro (fun _ => ?_) (fun h => absurd h (by decide))
    exact hQf nz _ _ fr (by omega) hx
theorem mc_291 {L : Int} {K A V E : Int → Int} {N : Int} {n : Nat} (hT : xT K A V N) (ih : ∀ i, i < n → mCP L K A V E N i) : mCa L K A V E N 291 5 2 1 n := by
  intro d m Q dep q f p g0 hd hx w5 hnst hdp h0 hk hmu hQf hQe hQ
  have hb := hx.2.2.2.1
  have hN := hT.1
  obtain ⟨n0, rfl⟩ : ∃ i, n = i + 1 := ⟨n - 1, by omega⟩
  obtain ⟨dk, hdk⟩ : ∃ k, d = k + 1 := ⟨d - 1, by omega⟩
  have fr := fr_G.rfl m
  have cn := fr.1
  refine am_in (k := dk) rfl (by omega) (fun d hd => ?_)
  by_cases nz : f = 0
  · subst nz
    have es : c_x K A V (n0 + 1) 5 dep q (m 41 56) g0 = _ := c_x_5
    have K5 : ∀ (Nm : Nat), ∀ (i : Nat) (qq : Int) (g : aD) (x : Int) (z2 : aV) (z3 : aV) (z4 : aV), ∀ (mw : aM), (N - qq).toNat = Nm → (i < n0 + 1) → (20 * (N - qq) + 4 ≤ (i : Int)) → (mTx mw L K A V E N qq 0 p) → (mW5 mw) → (fr_G m mw) → (m 41 56 < mw 41 56 ∧ mw 41 56 ≤ 24) → (mw 41 53 = m 41 53 + (mw 41 56 - m 41 56)) → (mw 41 55 = dep + 1) → (mw 41 54 = m 41 54) → (mNd mw (m 41 54) (m 41 54 + mw 41 53) x g (mw 41 56 - m 41 56)) → (c_x K A V (n0 + 1) 5 dep q (m 41 56) g0 = c_x K A V i 6 dep qq (mw 41 56) g) → (q < qq) → (dep ≤ 14) → am_WP am_G (am_wpc am_G am_T d) [] cd_291 Q 5 [aR 41, aI x, z2, z3, z4] [] mw := by
      intro Nm
      induction Nm using Nat.strongRecOn with
      | _ Nm ih5 =>
        intro i qq g x z2 z3 z4 mw hN hi hmw hx w5 fr hkw hpm hns hbs ndl es hqq hd14
        have hb := hx.2.2.2.1
        have cn := fr.1
        have kl := fr_H.rfl mw
        obtain ⟨i0, rfl⟩ : ∃ k, i = k + 1 := ⟨i - 1, by omega⟩
        replace es := es.trans c_x_6
        refine am_go 400 [5] (am_wpc_cm _ _ _) wf_291 ?_
        refine And.intro (rfl) ?_
        refine ct_206 (by omega) hx (by unfold x_sg; omega) (fun _ h1 => ?_) (fun h1 => ?_)
        · have ky : K qq = 143 := h1
          refine And.intro (fun _ => ?_) (fun h => absurd h (by decide))
          refine And.intro (rfl) ?_
          have ap : mw 41 14 = A qq := (hx.2.2.2.2.2.2.1 rfl).2.2.2.1
          have es := es.trans (if_pos (by omega))
          have sv : am_l2i (mw 41 15) = K qq - 100 := by
            have g1 := hx.g (c := 43) (by unfold x_sg; omega)
            have g2 := hx.g (c := 45) (by unfold x_sg; omega)
            rw [am_l2i_eq (by omega)]
            omega
          refine And.intro (rfl) ?_
          refine And.intro (rfl) ?_
          refine ct_288 (by omega) hx (by omega) (by omega) (fun h5 mw2 h3 h6 h7 h8 h4 => ?_) (fun h5 mw2 h3 h6 h7 h8 h4 => ?_)
          · have kl := kl.G h3
            have hn2 := h3.2 41 54 (by omega) (by omega)
            have cn1 := h3.1
            have w5 := w5.G h3
            have fr := fr.trans h3
            have cn := fr.1
            have hx := h4
            have es := es.trans (c_pt_y (by omega))
            refine And.intro (rfl) ?_
            refine ct_199 (by omega) hx (fun _ => by omega) (fun h => absurd rfl h) (fun _ mw9 h10 h11 => ?_)
            have hn1 := h10 41 53 (by omega)
            have hn2 := h10 41 54 (by omega)
            have hn3 := h10 41 55 (by omega)
            have hn4 := h10 41 56 (by omega)
            have kl := kl.M h10
            have w5 := w5.M h10
            have fr := fr.M h10
            have cn := fr.1
            have hx := h11
            refine And.intro (rfl) ?_
            refine (ih i0 (by omega)).2.2.2.2.1 _ _ _ dep _ _ _ g (by omega) hx w5 (by omega) (by omega) (by omega) (fun _ => by omega) (by omega) (fun h => absurd rfl h) (fun _ c20 pl21 h12 mw13 r14 qe15 h16 h18 h19 h22 h17 => ?_) (fun _ qo25 ko26 g27 h28 mw23 r24 h29 h35 h30 h31 h32 h33 h34 nd36 => ?_)
            · have kl := kl.G h16
              have hn2 := h16.2 41 54 (by omega) (by omega)
              have cn1 := h16.1
              have w5 := w5.G h16
              have fr := fr.trans h16
              have cn := fr.1
              have hx := h18
              have nz := h19
              have ec : c_x K A V i0 7 dep (qq + 1) (mw 41 56 + 1) g = .inl (c20, pl21) := by rw [show (mw 41 56 + 1) = mw9 41 56 by omega]; exact h12
              have es := es.trans (c_bd_l ec)
              refine And.intro (rfl) ?_
              refine ct_296 (by omega) (by omega) (by omega) (fun mw37 h38 => ?_)
              have kl := kl.P h38
              have hn2 := h38.1 41 54 (by omega) (by omega)
              have w5 := w5.K (fun x u v => funext fun j => h38.1 x j (by omega) (by omega))
              have fr := h38.fr fr (by omega)
              have cn := fr.1
              have hx := h38.tx hx
              have pt1 := h38.2.1
              have pt5 := h38.1 41 55 (by omega) (by omega)
              have pt6 := h38.1 41 56 (by omega) (by omega)
              refine am_go 400 [] (am_wpc_cm _ _ _) wf_291 ?_
              refine And.intro (rfl) ?_
              refine ct_206 (by omega) hx (by unfold x_sg; omega) (fun h => absurd h nz) (fun _ => ?_)
              refine And.intro (fun h => absurd h (by decide)) (fun _ => ?_)
              refine And.intro (rfl) ?_
              refine ct_206 (by omega) hx (by unfold x_sg; omega) (fun h => absurd h nz) (fun _ => ?_)
              refine And.intro (fun _ => ?_) (fun h => absurd h (by decide))
              exact hQe rfl _ _ es _ _ _ fr hx nz (by omega) (by omega)
            · have kl := kl.G h29
              have hn2 := h29.2 41 54 (by omega) (by omega)
              have cn1 := h29.1
              have w5 := w5.G h29
              have fr := fr.trans h29
              have cn := fr.1
              have hx := h35
              have eo : c_x K A V i0 7 dep (qq + 1) (mw 41 56 + 1) g = .inr (qo25, ko26, g27) := by rw [show (mw 41 56 + 1) = mw9 41 56 by omega]; exact h28
              have es := es.trans (c_bd_r eo)
              have nd2 := nd36
              refine And.intro (rfl) ?_
              refine ct_296 (by omega) (by omega) (by omega) (fun mw39 h40 => ?_)
              have kl := kl.P h40
              have hn2 := h40.1 41 54 (by omega) (by omega)
              have w5 := w5.K (fun x u v => funext fun j => h40.1 x j (by omega) (by omega))
              have fr := h40.fr fr (by omega)
              have cn := fr.1
              have hx := h40.tx hx
              have pt1 := h40.2.1
              have pt5 := h40.1 41 55 (by omega) (by omega)
              have pt6 := h40.1 41 56 (by omega) (by omega)
              refine ih5 _ ?_ (i0) (qo25) (d_two (A qq) (K qq) g g27) _ _ _ _ _ (Eq.refl _) ?_ ?_ ?_ ?_ ?_ ?_ ?_ ?_ ?_ ?_ ?_ ?_ ?_
              · omega
              · omega
              · omega
              · exact hx
              · exact w5
              · exact fr
              · omega
              · omega
              · omega
              · omega
              · refine (mNd_sign (lo := m 41 54) (hi := m 41 54 + mw39 41 53) (hi1 := m 41 54 + mw 41 53) (p1 := mw 41 56 - m 41 56) (hi2 := m 41 54 + mw23 41 53) (p2 := ko26 - mw9 41 56) (by omega) (h40.2.2.1.trans (by omega)) (h40.2.2.2.1.trans ap) (by omega) h40.2.2.2.2.1 h40.2.2.2.2.2 (ndl.keep (fun x j a b c e => kl.2 x j (by omega) (by omega))) ((nd2.cv (by omega) (by omega) rfl).keep (fun x j a b c e => h40.1 x j (by omega) (by omega))) (by omega) (by omega)).wd (by omega)
              · rw [show mw39 41 56 = ko26 by omega]; exact es
              · omega
              · omega
          · have kl := kl.G h3
            have hn2 := h3.2 41 54 (by omega) (by omega)
            have cn1 := h3.1
            have w5 := w5.G h3
            have fr := fr.trans h3
            have cn := fr.1
            have hx := h4
            have nz : (5 : Int) ≠ 0 := by omega
            have es := es.trans (c_pt_n (by omega))
            refine And.intro (rfl) ?_
            refine ct_199 (by omega) hx (fun h => absurd h nz) (fun _ => ?_) (fun h => absurd h nz)
            refine And.intro (rfl) ?_
            refine (ih i0 (by omega)).2.2.2.2.1 _ _ _ dep _ _ _ g (by omega) hx w5 (by omega) (by omega) (by omega) (fun _ => by omega) (by omega) (fun _ mw42 r43 h45 h46 h47 => ?_) (fun h => absurd h nz) (fun h => absurd h nz)
            have kl := kl.G h45
            have hn2 := h45.2 41 54 (by omega) (by omega)
            have cn1 := h45.1
            have w5 := w5.G h45
            have fr := fr.trans h45
            have cn := fr.1
            have hx := h47
            refine And.intro (rfl) ?_
            refine ct_296 (by omega) (by omega) (by omega) (fun mw52 h53 => ?_)
            have kl := kl.P h53
            have hn2 := h53.1 41 54 (by omega) (by omega)
            have w5 := w5.K (fun x u v => funext fun j => h53.1 x j (by omega) (by omega))
            have fr := h53.fr fr (by omega)
            have cn := fr.1
            have hx := h53.tx hx
            have pt1 := h53.2.1
            have pt5 := h53.1 41 55 (by omega) (by omega)
            have pt6 := h53.1 41 56 (by omega) (by omega)
            refine am_go 400 [] (am_wpc_cm _ _ _) wf_291 ?_
            refine And.intro (rfl) ?_
            refine ct_206 (by omega) hx (by unfold x_sg; omega) (fun h => absurd h nz) (fun _ => ?_)
            refine And.intro (fun h => absurd h (by decide)) (fun _ => ?_)
            refine And.intro (rfl) ?_
            refine ct_206 (by omega) hx (by unfold x_sg; omega) (fun h => absurd h nz) (fun _ => ?_)
            refine And.intro (fun _ => ?_) (fun h => absurd h (by decide))
            exact hQe rfl _ _ es _ _ _ fr hx nz (by omega) (by omega)
        · replace h1 : K qq ≠ 143 := fun h => h1 ⟨rfl, h⟩
          refine And.intro (fun h => absurd h (by decide)) (fun _ => ?_)
          refine And.intro (rfl) ?_
          refine ct_206 (by omega) hx (by unfold x_sg; omega) (fun _ h54 => ?_) (fun h54 => ?_)
          · have ky : K qq = 145 := h54
            refine And.intro (fun h => absurd h (by decide)) (fun _ => ?_)
            refine And.intro (rfl) ?_
            have ap : mw 41 14 = A qq := (hx.2.2.2.2.2.2.1 rfl).2.2.2.1
            have es := es.trans (if_pos (by omega))
            have sv : am_l2i (mw 41 15) = K qq - 100 := by
              have g1 := hx.g (c := 43) (by unfold x_sg; omega)
              have g2 := hx.g (c := 45) (by unfold x_sg; omega)
              rw [am_l2i_eq (by omega)]
              omega
            refine And.intro (rfl) ?_
            refine And.intro (rfl) ?_
            refine ct_288 (by omega) hx (by omega) (by omega) (fun h58 mw55 h56 h59 h60 h61 h57 => ?_) (fun h58 mw55 h56 h59 h60 h61 h57 => ?_)
            · have kl := kl.G h56
              have hn2 := h56.2 41 54 (by omega) (by omega)
              have cn1 := h56.1
              have w5 := w5.G h56
              have fr := fr.trans h56
              have cn := fr.1
              have hx := h57
              have es := es.trans (c_pt_y (by omega))
              refine And.intro (rfl) ?_
              refine ct_199 (by omega) hx (fun _ => by omega) (fun h => absurd rfl h) (fun _ mw62 h63 h64 => ?_)
              have hn1 := h63 41 53 (by omega)
              have hn2 := h63 41 54 (by omega)
              have hn3 := h63 41 55 (by omega)
              have hn4 := h63 41 56 (by omega)
              have kl := kl.M h63
              have w5 := w5.M h63
              have fr := fr.M h63
              have cn := fr.1
              have hx := h64
              refine And.intro (rfl) ?_
              refine (ih i0 (by omega)).2.2.2.2.1 _ _ _ dep _ _ _ g (by omega) hx w5 (by omega) (by omega) (by omega) (fun _ => by omega) (by omega) (fun h => absurd rfl h) (fun _ c73 pl74 h65 mw66 r67 qe68 h69 h71 h72 h75 h70 => ?_) (fun _ qo78 ko79 g80 h81 mw76 r77 h82 h88 h83 h84 h85 h86 h87 nd89 => ?_)
              · have kl := kl.G h69
                have hn2 := h69.2 41 54 (by omega) (by omega)
                have cn1 := h69.1
                have w5 := w5.G h69
                have fr := fr.trans h69
                have cn := fr.1
                have hx := h71
                have nz := h72
                have ec : c_x K A V i0 7 dep (qq + 1) (mw 41 56 + 1) g = .inl (c73, pl74) := by rw [show (mw 41 56 + 1) = mw62 41 56 by omega]; exact h65
                have es := es.trans (c_bd_l ec)
                refine And.intro (rfl) ?_
                refine ct_296 (by omega) (by omega) (by omega) (fun mw90 h91 => ?_)
                have kl := kl.P h91
                have hn2 := h91.1 41 54 (by omega) (by omega)
                have w5 := w5.K (fun x u v => funext fun j => h91.1 x j (by omega) (by omega))
                have fr := h91.fr fr (by omega)
                have cn := fr.1
                have hx := h91.tx hx
                have pt1 := h91.2.1
                have pt5 := h91.1 41 55 (by omega) (by omega)
                have pt6 := h91.1 41 56 (by omega) (by omega)
                refine am_go 400 [] (am_wpc_cm _ _ _) wf_291 ?_
                refine And.intro (rfl) ?_
                refine ct_206 (by omega) hx (by unfold x_sg; omega) (fun h => absurd h nz) (fun _ => ?_)
                refine And.intro (fun h => absurd h (by decide)) (fun _ => ?_)
                refine And.intro (rfl) ?_
                refine ct_206 (by omega) hx (by unfold x_sg; omega) (fun h => absurd h nz) (fun _ => ?_)
                refine And.intro (fun _ => ?_) (fun h => absurd h (by decide))
                exact hQe rfl _ _ es _ _ _ fr hx nz (by omega) (by omega)
              · have kl := kl.G h82
                have hn2 := h82.2 41 54 (by omega) (by omega)
                have cn1 := h82.1
                have w5 := w5.G h82
                have fr := fr.trans h82
                have cn := fr.1
                have hx := h88
                have eo : c_x K A V i0 7 dep (qq + 1) (mw 41 56 + 1) g = .inr (qo78, ko79, g80) := by rw [show (mw 41 56 + 1) = mw62 41 56 by omega]; exact h81
                have es := es.trans (c_bd_r eo)
                have nd2 := nd89
                refine And.intro (rfl) ?_
                refine ct_296 (by omega) (by omega) (by omega) (fun mw92 h93 => ?_)
                have kl := kl.P h93
                have hn2 := h93.1 41 54 (by omega) (by omega)
                have w5 := w5.K (fun x u v => funext fun j => h93.1 x j (by omega) (by omega))
                have fr := h93.fr fr (by omega)
                have cn := fr.1
                have hx := h93.tx hx
                have pt1 := h93.2.1
                have pt5 := h93.1 41 55 (by omega) (by omega)
                have pt6 := h93.1 41 56 (by omega) (by omega)
                refine ih5 _ ?_ (i0) (qo78) (d_two (A qq) (K qq) g g80) _ _ _ _ _ (Eq.refl _) ?_ ?_ ?_ ?_ ?_ ?_ ?_ ?_ ?_ ?_ ?_ ?_ ?_
                · omega
                · omega
                · omega
                · exact hx
                · exact w5
                · exact fr
                · omega
                · omega
                · omega
                · omega
                · refine (mNd_sign (lo := m 41 54) (hi := m 41 54 + mw92 41 53) (hi1 := m 41 54 + mw 41 53) (p1 := mw 41 56 - m 41 56) (hi2 := m 41 54 + mw76 41 53) (p2 := ko79 - mw62 41 56) (by omega) (h93.2.2.1.trans (by omega)) (h93.2.2.2.1.trans ap) (by omega) h93.2.2.2.2.1 h93.2.2.2.2.2 (ndl.keep (fun x j a b c e => kl.2 x j (by omega) (by omega))) ((nd2.cv (by omega) (by omega) rfl).keep (fun x j a b c e => h93.1 x j (by omega) (by omega))) (by omega) (by omega)).wd (by omega)
                · rw [show mw92 41 56 = ko79 by omega]; exact es
                · omega
                · omega
            · have kl := kl.G h56
              have hn2 := h56.2 41 54 (by omega) (by omega)
              have cn1 := h56.1
              have w5 := w5.G h56
              have fr := fr.trans h56
              have cn := fr.1
              have hx := h57
              have nz : (5 : Int) ≠ 0 := by omega
              have es := es.trans (c_pt_n (by omega))
              refine And.intro (rfl) ?_
              refine ct_199 (by omega) hx (fun h => absurd h nz) (fun _ => ?_) (fun h => absurd h nz)
              refine And.intro (rfl) ?_
              refine (ih i0 (by omega)).2.2.2.2.1 _ _ _ dep _ _ _ g (by omega) hx w5 (by omega) (by omega) (by omega) (fun _ => by omega) (by omega) (fun _ mw95 r96 h98 h99 h100 => ?_) (fun h => absurd h nz) (fun h => absurd h nz)
              have kl := kl.G h98
              have hn2 := h98.2 41 54 (by omega) (by omega)
              have cn1 := h98.1
              have w5 := w5.G h98
              have fr := fr.trans h98
              have cn := fr.1
              have hx := h100
              refine And.intro (rfl) ?_
              refine ct_296 (by omega) (by omega) (by omega) (fun mw105 h106 => ?_)
              have kl := kl.P h106
              have hn2 := h106.1 41 54 (by omega) (by omega)
              have w5 := w5.K (fun x u v => funext fun j => h106.1 x j (by omega) (by omega))
              have fr := h106.fr fr (by omega)
              have cn := fr.1
              have hx := h106.tx hx
              have pt1 := h106.2.1
              have pt5 := h106.1 41 55 (by omega) (by omega)
              have pt6 := h106.1 41 56 (by omega) (by omega)
              refine am_go 400 [] (am_wpc_cm _ _ _) wf_291 ?_
              refine And.intro (rfl) ?_
              refine ct_206 (by omega) hx (by unfold x_sg; omega) (fun h => absurd h nz) (fun _ => ?_)
              refine And.intro (fun h => absurd h (by decide)) (fun _ => ?_)
              refine And.intro (rfl) ?_
              refine ct_206 (by omega) hx (by unfold x_sg; omega) (fun h => absurd h nz) (fun _ => ?_)
              refine And.intro (fun _ => ?_) (fun h => absurd h (by decide))
              exact hQe rfl _ _ es _ _ _ fr hx nz (by omega) (by omega)
          · replace h54 : K qq ≠ 145 := fun h => h54 ⟨rfl, h⟩
            refine And.intro (fun _ => ?_) (fun h => absurd h (by decide))
            have es := es.trans (if_neg (by omega))
            exact hQ rfl _ _ _ es _ _ fr hx (by omega) rfl (by omega) (by omega) (by omega) ndl
    refine am_go 400 [5] (am_wpc_cm _ _ _) wf_291 ?_
    refine And.intro (rfl) ?_
    refine (ih n0 (by omega)).2.2.2.2.1 _ _ _ dep _ _ _ g0 (by omega) hx w5 (by omega) (by omega) (by omega) (fun _ => by omega) (by omega) (fun h => absurd rfl h) (fun _ c115 pl116 h107 mw108 r109 qe110 h111 h113 h114 h117 h112 => ?_) (fun _ qo120 ko121 g122 h123 mw118 r119 h124 h130 h125 h126 h127 h128 h129 nd131 => ?_)
    · have hn2 := h111.2 41 54 (by omega) (by omega)
      have cn1 := h111.1
      have w5 := w5.G h111
      have fr := fr.trans h111
      have cn := fr.1
      have hx := h113
      have nz := h114
      have ec : c_x K A V n0 7 dep q (m 41 56) g0 = .inl (c115, pl116) := by rw [show (m 41 56) = m 41 56 by omega]; exact h107
      have es := es.trans (c_bd_l ec)
      refine am_go 400 [] (am_wpc_cm _ _ _) wf_291 ?_
      refine And.intro (rfl) ?_
      refine ct_206 (by omega) hx (by unfold x_sg; omega) (fun h => absurd h nz) (fun _ => ?_)
      refine And.intro (fun h => absurd h (by decide)) (fun _ => ?_)
      refine And.intro (rfl) ?_
      refine ct_206 (by omega) hx (by unfold x_sg; omega) (fun h => absurd h nz) (fun _ => ?_)
      refine And.intro (fun _ => ?_) (fun h => absurd h (by decide))
      exact hQe rfl _ _ es _ _ _ fr hx nz (by omega) (by omega)
    · have hn2 := h124.2 41 54 (by omega) (by omega)
      have cn1 := h124.1
      have w5 := w5.G h124
      have fr := fr.trans h124
      have cn := fr.1
      have hx := h130
      have eo : c_x K A V n0 7 dep q (m 41 56) g0 = .inr (qo120, ko121, g122) := by rw [show (m 41 56) = m 41 56 by omega]; exact h123
      have es := es.trans (c_bd_r eo)
      have nd1 := nd131
      refine K5 _ (n0) (qo120) (g122) _ _ _ _ _ (Eq.refl _) ?_ ?_ ?_ ?_ ?_ ?_ ?_ ?_ ?_ ?_ ?_ ?_ ?_
      · omega
      · omega
      · exact hx
      · exact w5
      · exact fr
      · omega
      · omega
      · omega
      · omega
      · refine (nd1.cv (by omega) (by omega) (by omega))
      · rw [show mw118 41 56 = ko121 by omega]; exact es
      · omega
      · omega
  · skip
    refine am_go 400 [] (am_wpc_cm _ _ _) wf_291 ?_
    refine And.intro (rfl) ?_
    refine (ih n0 (by omega)).2.2.2.2.1 _ _ _ dep _ _ _ g0 (by omega) hx w5 (by omega) (by omega) (by omega) (fun _ => by omega) (by omega) (fun _ mw2 r3 h5 h6 h7 => ?_) (fun h => absurd h nz) (fun h => absurd h nz)
    have hn2 := h5.2 41 54 (by omega) (by omega)
    have cn1 := h5.1
    have w5 := w5.G h5
    have fr := fr.trans h5
    have cn := fr.1
    have hx := h7
    refine And.intro (rfl) ?_
    refine ct_206 (by omega) hx (by unfold x_sg; omega) (fun h => absurd h nz) (fun _ => ?_)
    refine And.intro (fun h => absurd h (by decide)) (fun _ => ?_)
    refine And.intro (rfl) ?_
    refine ct_206 (by omega) hx (by unfold x_sg; omega) (fun h => absurd h nz) (fun _ => ?_)
    refine And.intro (fun _ => ?_) (fun h => absurd h (by decide))
    exact hQf nz _ _ fr (by omega) hx
theorem mc_292 {L : Int} {K A V E : Int → Int} {N : Int} {n : Nat} (hT : xT K A V N) (ih : ∀ i, i < n → mCP L K A V E N i) : mCa L K A V E N 292 7 1 1 n := by
  intro d m Q dep q f p g0 hd hx w5 hnst hdp h0 hk hmu hQf hQe hQ
  have hb := hx.2.2.2.1
  have hN := hT.1
  obtain ⟨n0, rfl⟩ : ∃ i, n = i + 1 := ⟨n - 1, by omega⟩
  obtain ⟨dk, hdk⟩ : ∃ k, d = k + 1 := ⟨d - 1, by omega⟩
  have fr := fr_G.rfl m
  have cn := fr.1
  refine am_in (k := dk) rfl (by omega) (fun d hd => ?_)
  by_cases nz : f = 0
  · subst nz
    have es : c_x K A V (n0 + 1) 7 dep q (m 41 56) g0 = _ := c_x_7
    have K5 : ∀ (Nm : Nat), ∀ (i : Nat) (qq : Int) (g : aD) (x : Int) (z2 : aV) (z3 : aV) (z4 : aV), ∀ (mw : aM), (N - qq).toNat = Nm → (i < n0 + 1) → (20 * (N - qq) + 2 ≤ (i : Int)) → (mTx mw L K A V E N qq 0 p) → (mW5 mw) → (fr_G m mw) → (m 41 56 < mw 41 56 ∧ mw 41 56 ≤ 24) → (mw 41 53 = m 41 53 + (mw 41 56 - m 41 56)) → (mw 41 55 = dep + 1) → (mw 41 54 = m 41 54) → (mNd mw (m 41 54) (m 41 54 + mw 41 53) x g (mw 41 56 - m 41 56)) → (c_x K A V (n0 + 1) 7 dep q (m 41 56) g0 = c_x K A V i 8 dep qq (mw 41 56) g) → (q < qq) → (dep ≤ 14) → am_WP am_G (am_wpc am_G am_T d) [] cd_292 Q 5 [aR 41, aI x, z2, z3, z4] [] mw := by
      intro Nm
      induction Nm using Nat.strongRecOn with
      | _ Nm ih5 =>
        intro i qq g x z2 z3 z4 mw hN hi hmw hx w5 fr hkw hpm hns hbs ndl es hqq hd14
        have hb := hx.2.2.2.1
        have cn := fr.1
        have kl := fr_H.rfl mw
        obtain ⟨i0, rfl⟩ : ∃ k, i = k + 1 := ⟨i - 1, by omega⟩
        replace es := es.trans c_x_8
        refine am_go 400 [5] (am_wpc_cm _ _ _) wf_292 ?_
        refine And.intro (rfl) ?_
        refine ct_206 (by omega) hx (by unfold x_sg; omega) (fun _ h1 => ?_) (fun h1 => ?_)
        · have ky : K qq = 142 := h1
          refine And.intro (fun _ => ?_) (fun h => absurd h (by decide))
          refine And.intro (rfl) ?_
          have ap : mw 41 14 = A qq := (hx.2.2.2.2.2.2.1 rfl).2.2.2.1
          have es := es.trans (if_pos (by omega))
          have sv : am_l2i (mw 41 15) = K qq - 100 := by
            have g1 := hx.g (c := 42) (by unfold x_sg; omega)
            have g2 := hx.g (c := 47) (by unfold x_sg; omega)
            rw [am_l2i_eq (by omega)]
            omega
          refine And.intro (rfl) ?_
          refine And.intro (rfl) ?_
          refine ct_288 (by omega) hx (by omega) (by omega) (fun h5 mw2 h3 h6 h7 h8 h4 => ?_) (fun h5 mw2 h3 h6 h7 h8 h4 => ?_)
          · have kl := kl.G h3
            have hn2 := h3.2 41 54 (by omega) (by omega)
            have cn1 := h3.1
            have w5 := w5.G h3
            have fr := fr.trans h3
            have cn := fr.1
            have hx := h4
            have es := es.trans (c_pt_y (by omega))
            refine And.intro (rfl) ?_
            refine ct_199 (by omega) hx (fun _ => by omega) (fun h => absurd rfl h) (fun _ mw9 h10 h11 => ?_)
            have hn1 := h10 41 53 (by omega)
            have hn2 := h10 41 54 (by omega)
            have hn3 := h10 41 55 (by omega)
            have hn4 := h10 41 56 (by omega)
            have kl := kl.M h10
            have w5 := w5.M h10
            have fr := fr.M h10
            have cn := fr.1
            have hx := h11
            refine And.intro (rfl) ?_
            refine (ih i0 (by omega)).2.2.2.2.2 _ _ _ (dep + 1) _ _ _ g (by omega) hx w5 (by omega) (by omega) (by omega) (fun _ => by omega) (by omega) (fun h => absurd rfl h) (fun _ c20 pl21 h12 mw13 r14 qe15 h16 h18 h19 h22 h17 => ?_) (fun _ qo25 ko26 g27 h28 mw23 r24 h29 h35 h30 h31 h32 h33 h34 nd36 => ?_)
            · have kl := kl.G h16
              have hn2 := h16.2 41 54 (by omega) (by omega)
              have cn1 := h16.1
              have w5 := w5.G h16
              have fr := fr.trans h16
              have cn := fr.1
              have hx := h18
              have nz := h19
              have ec : c_x K A V i0 9 (dep + 1) (qq + 1) (mw 41 56 + 1) g = .inl (c20, pl21) := by rw [show (mw 41 56 + 1) = mw9 41 56 by omega]; exact h12
              have es := es.trans (c_bd_l ec)
              refine And.intro (rfl) ?_
              refine ct_296 (by omega) (by omega) (by omega) (fun mw37 h38 => ?_)
              have kl := kl.P h38
              have hn2 := h38.1 41 54 (by omega) (by omega)
              have w5 := w5.K (fun x u v => funext fun j => h38.1 x j (by omega) (by omega))
              have fr := h38.fr fr (by omega)
              have cn := fr.1
              have hx := h38.tx hx
              have pt1 := h38.2.1
              have pt5 := h38.1 41 55 (by omega) (by omega)
              have pt6 := h38.1 41 56 (by omega) (by omega)
              refine am_go 400 [] (am_wpc_cm _ _ _) wf_292 ?_
              refine And.intro (rfl) ?_
              refine ct_206 (by omega) hx (by unfold x_sg; omega) (fun h => absurd h nz) (fun _ => ?_)
              refine And.intro (fun h => absurd h (by decide)) (fun _ => ?_)
              refine And.intro (rfl) ?_
              refine ct_206 (by omega) hx (by unfold x_sg; omega) (fun h => absurd h nz) (fun _ => ?_)
              refine And.intro (fun _ => ?_) (fun h => absurd h (by decide))
              exact hQe rfl _ _ es _ _ _ fr hx nz (by omega) (by omega)
            · have kl := kl.G h29
              have hn2 := h29.2 41 54 (by omega) (by omega)
              have cn1 := h29.1
              have w5 := w5.G h29
              have fr := fr.trans h29
              have cn := fr.1
              have hx := h35
              have eo : c_x K A V i0 9 (dep + 1) (qq + 1) (mw 41 56 + 1) g = .inr (qo25, ko26, g27) := by rw [show (mw 41 56 + 1) = mw9 41 56 by omega]; exact h28
              have es := es.trans (c_bd_r eo)
              have nd2 := nd36
              refine And.intro (rfl) ?_
              refine ct_296 (by omega) (by omega) (by omega) (fun mw39 h40 => ?_)
              have kl := kl.P h40
              have hn2 := h40.1 41 54 (by omega) (by omega)
              have w5 := w5.K (fun x u v => funext fun j => h40.1 x j (by omega) (by omega))
              have fr := h40.fr fr (by omega)
              have cn := fr.1
              have hx := h40.tx hx
              have pt1 := h40.2.1
              have pt5 := h40.1 41 55 (by omega) (by omega)
              have pt6 := h40.1 41 56 (by omega) (by omega)
              refine ih5 _ ?_ (i0) (qo25) (d_two (A qq) (K qq) g g27) _ _ _ _ _ (Eq.refl _) ?_ ?_ ?_ ?_ ?_ ?_ ?_ ?_ ?_ ?_ ?_ ?_ ?_
              · omega
              · omega
              · omega
              · exact hx
              · exact w5
              · exact fr
              · omega
              · omega
              · omega
              · omega
              · refine (mNd_sign (lo := m 41 54) (hi := m 41 54 + mw39 41 53) (hi1 := m 41 54 + mw 41 53) (p1 := mw 41 56 - m 41 56) (hi2 := m 41 54 + mw23 41 53) (p2 := ko26 - mw9 41 56) (by omega) (h40.2.2.1.trans (by omega)) (h40.2.2.2.1.trans ap) (by omega) h40.2.2.2.2.1 h40.2.2.2.2.2 (ndl.keep (fun x j a b c e => kl.2 x j (by omega) (by omega))) ((nd2.cv (by omega) (by omega) rfl).keep (fun x j a b c e => h40.1 x j (by omega) (by omega))) (by omega) (by omega)).wd (by omega)
              · rw [show mw39 41 56 = ko26 by omega]; exact es
              · omega
              · omega
          · have kl := kl.G h3
            have hn2 := h3.2 41 54 (by omega) (by omega)
            have cn1 := h3.1
            have w5 := w5.G h3
            have fr := fr.trans h3
            have cn := fr.1
            have hx := h4
            have nz : (5 : Int) ≠ 0 := by omega
            have es := es.trans (c_pt_n (by omega))
            refine And.intro (rfl) ?_
            refine ct_199 (by omega) hx (fun h => absurd h nz) (fun _ => ?_) (fun h => absurd h nz)
            refine And.intro (rfl) ?_
            refine (ih i0 (by omega)).2.2.2.2.2 _ _ _ (dep + 1) _ _ _ g (by omega) hx w5 (by omega) (by omega) (by omega) (fun _ => by omega) (by omega) (fun _ mw42 r43 h45 h46 h47 => ?_) (fun h => absurd h nz) (fun h => absurd h nz)
            have kl := kl.G h45
            have hn2 := h45.2 41 54 (by omega) (by omega)
            have cn1 := h45.1
            have w5 := w5.G h45
            have fr := fr.trans h45
            have cn := fr.1
            have hx := h47
            refine And.intro (rfl) ?_
            refine ct_296 (by omega) (by omega) (by omega) (fun mw52 h53 => ?_)
            have kl := kl.P h53
            have hn2 := h53.1 41 54 (by omega) (by omega)
            have w5 := w5.K (fun x u v => funext fun j => h53.1 x j (by omega) (by omega))
            have fr := h53.fr fr (by omega)
            have cn := fr.1
            have hx := h53.tx hx
            have pt1 := h53.2.1
            have pt5 := h53.1 41 55 (by omega) (by omega)
            have pt6 := h53.1 41 56 (by omega) (by omega)
            refine am_go 400 [] (am_wpc_cm _ _ _) wf_292 ?_
            refine And.intro (rfl) ?_
            refine ct_206 (by omega) hx (by unfold x_sg; omega) (fun h => absurd h nz) (fun _ => ?_)
            refine And.intro (fun h => absurd h (by decide)) (fun _ => ?_)
            refine And.intro (rfl) ?_
            refine ct_206 (by omega) hx (by unfold x_sg; omega) (fun h => absurd h nz) (fun _ => ?_)
            refine And.intro (fun _ => ?_) (fun h => absurd h (by decide))
            exact hQe rfl _ _ es _ _ _ fr hx nz (by omega) (by omega)
        · replace h1 : K qq ≠ 142 := fun h => h1 ⟨rfl, h⟩
          refine And.intro (fun h => absurd h (by decide)) (fun _ => ?_)
          refine And.intro (rfl) ?_
          refine ct_206 (by omega) hx (by unfold x_sg; omega) (fun _ h54 => ?_) (fun h54 => ?_)
          · have ky : K qq = 147 := h54
            refine And.intro (fun h => absurd h (by decide)) (fun _ => ?_)
            refine And.intro (rfl) ?_
            have ap : mw 41 14 = A qq := (hx.2.2.2.2.2.2.1 rfl).2.2.2.1
            have es := es.trans (if_pos (by omega))
            have sv : am_l2i (mw 41 15) = K qq - 100 := by
              have g1 := hx.g (c := 42) (by unfold x_sg; omega)
              have g2 := hx.g (c := 47) (by unfold x_sg; omega)
              rw [am_l2i_eq (by omega)]
              omega
            refine And.intro (rfl) ?_
            refine And.intro (rfl) ?_
            refine ct_288 (by omega) hx (by omega) (by omega) (fun h58 mw55 h56 h59 h60 h61 h57 => ?_) (fun h58 mw55 h56 h59 h60 h61 h57 => ?_)
            · have kl := kl.G h56
              have hn2 := h56.2 41 54 (by omega) (by omega)
              have cn1 := h56.1
              have w5 := w5.G h56
              have fr := fr.trans h56
              have cn := fr.1
              have hx := h57
              have es := es.trans (c_pt_y (by omega))
              refine And.intro (rfl) ?_
              refine ct_199 (by omega) hx (fun _ => by omega) (fun h => absurd rfl h) (fun _ mw62 h63 h64 => ?_)
              have hn1 := h63 41 53 (by omega)
              have hn2 := h63 41 54 (by omega)
              have hn3 := h63 41 55 (by omega)
              have hn4 := h63 41 56 (by omega)
              have kl := kl.M h63
              have w5 := w5.M h63
              have fr := fr.M h63
              have cn := fr.1
              have hx := h64
              refine And.intro (rfl) ?_
              refine (ih i0 (by omega)).2.2.2.2.2 _ _ _ (dep + 1) _ _ _ g (by omega) hx w5 (by omega) (by omega) (by omega) (fun _ => by omega) (by omega) (fun h => absurd rfl h) (fun _ c73 pl74 h65 mw66 r67 qe68 h69 h71 h72 h75 h70 => ?_) (fun _ qo78 ko79 g80 h81 mw76 r77 h82 h88 h83 h84 h85 h86 h87 nd89 => ?_)
              · have kl := kl.G h69
                have hn2 := h69.2 41 54 (by omega) (by omega)
                have cn1 := h69.1
                have w5 := w5.G h69
                have fr := fr.trans h69
                have cn := fr.1
                have hx := h71
                have nz := h72
                have ec : c_x K A V i0 9 (dep + 1) (qq + 1) (mw 41 56 + 1) g = .inl (c73, pl74) := by rw [show (mw 41 56 + 1) = mw62 41 56 by omega]; exact h65
                have es := es.trans (c_bd_l ec)
                refine And.intro (rfl) ?_
                refine ct_296 (by omega) (by omega) (by omega) (fun mw90 h91 => ?_)
                have kl := kl.P h91
                have hn2 := h91.1 41 54 (by omega) (by omega)
                have w5 := w5.K (fun x u v => funext fun j => h91.1 x j (by omega) (by omega))
                have fr := h91.fr fr (by omega)
                have cn := fr.1
                have hx := h91.tx hx
                have pt1 := h91.2.1
                have pt5 := h91.1 41 55 (by omega) (by omega)
                have pt6 := h91.1 41 56 (by omega) (by omega)
                refine am_go 400 [] (am_wpc_cm _ _ _) wf_292 ?_
                refine And.intro (rfl) ?_
                refine ct_206 (by omega) hx (by unfold x_sg; omega) (fun h => absurd h nz) (fun _ => ?_)
                refine And.intro (fun h => absurd h (by decide)) (fun _ => ?_)
                refine And.intro (rfl) ?_
                refine ct_206 (by omega) hx (by unfold x_sg; omega) (fun h => absurd h nz) (fun _ => ?_)
                refine And.intro (fun _ => ?_) (fun h => absurd h (by decide))
                exact hQe rfl _ _ es _ _ _ fr hx nz (by omega) (by omega)
              · have kl := kl.G h82
                have hn2 := h82.2 41 54 (by omega) (by omega)
                have cn1 := h82.1
                have w5 := w5.G h82
                have fr := fr.trans h82
                have cn := fr.1
                have hx := h88
                have eo : c_x K A V i0 9 (dep + 1) (qq + 1) (mw 41 56 + 1) g = .inr (qo78, ko79, g80) := by rw [show (mw 41 56 + 1) = mw62 41 56 by omega]; exact h81
                have es := es.trans (c_bd_r eo)
                have nd2 := nd89
                refine And.intro (rfl) ?_
                refine ct_296 (by omega) (by omega) (by omega) (fun mw92 h93 => ?_)
                have kl := kl.P h93
                have hn2 := h93.1 41 54 (by omega) (by omega)
                have w5 := w5.K (fun x u v => funext fun j => h93.1 x j (by omega) (by omega))
                have fr := h93.fr fr (by omega)
                have cn := fr.1
                have hx := h93.tx hx
                have pt1 := h93.2.1
                have pt5 := h93.1 41 55 (by omega) (by omega)
                have pt6 := h93.1 41 56 (by omega) (by omega)
                refine ih5 _ ?_ (i0) (qo78) (d_two (A qq) (K qq) g g80) _ _ _ _ _ (Eq.refl _) ?_ ?_ ?_ ?_ ?_ ?_ ?_ ?_ ?_ ?_ ?_ ?_ ?_
                · omega
                · omega
                · omega
                · exact hx
                · exact w5
                · exact fr
                · omega
                · omega
                · omega
                · omega
                · refine (mNd_sign (lo := m 41 54) (hi := m 41 54 + mw92 41 53) (hi1 := m 41 54 + mw 41 53) (p1 := mw 41 56 - m 41 56) (hi2 := m 41 54 + mw76 41 53) (p2 := ko79 - mw62 41 56) (by omega) (h93.2.2.1.trans (by omega)) (h93.2.2.2.1.trans ap) (by omega) h93.2.2.2.2.1 h93.2.2.2.2.2 (ndl.keep (fun x j a b c e => kl.2 x j (by omega) (by omega))) ((nd2.cv (by omega) (by omega) rfl).keep (fun x j a b c e => h93.1 x j (by omega) (by omega))) (by omega) (by omega)).wd (by omega)
                · rw [show mw92 41 56 = ko79 by omega]; exact es
                · omega
                · omega
            · have kl := kl.G h56
              have hn2 := h56.2 41 54 (by omega) (by omega)
              have cn1 := h56.1
              have w5 := w5.G h56
              have fr := fr.trans h56
              have cn := fr.1
              have hx := h57
              have nz : (5 : Int) ≠ 0 := by omega
              have es := es.trans (c_pt_n (by omega))
              refine And.intro (rfl) ?_
              refine ct_199 (by omega) hx (fun h => absurd h nz) (fun _ => ?_) (fun h => absurd h nz)
              refine And.intro (rfl) ?_
              refine (ih i0 (by omega)).2.2.2.2.2 _ _ _ (dep + 1) _ _ _ g (by omega) hx w5 (by omega) (by omega) (by omega) (fun _ => by omega) (by omega) (fun _ mw95 r96 h98 h99 h100 => ?_) (fun h => absurd h nz) (fun h => absurd h nz)
              have kl := kl.G h98
              have hn2 := h98.2 41 54 (by omega) (by omega)
              have cn1 := h98.1
              have w5 := w5.G h98
              have fr := fr.trans h98
              have cn := fr.1
              have hx := h100
              refine And.intro (rfl) ?_
              refine ct_296 (by omega) (by omega) (by omega) (fun mw105 h106 => ?_)
              have kl := kl.P h106
              have hn2 := h106.1 41 54 (by omega) (by omega)
              have w5 := w5.K (fun x u v => funext fun j => h106.1 x j (by omega) (by omega))
              have fr := h106.fr fr (by omega)
              have cn := fr.1
              have hx := h106.tx hx
              have pt1 := h106.2.1
              have pt5 := h106.1 41 55 (by omega) (by omega)
              have pt6 := h106.1 41 56 (by omega) (by omega)
              refine am_go 400 [] (am_wpc_cm _ _ _) wf_292 ?_
              refine And.intro (rfl) ?_
              refine ct_206 (by omega) hx (by unfold x_sg; omega) (fun h => absurd h nz) (fun _ => ?_)
              refine And.intro (fun h => absurd h (by decide)) (fun _ => ?_)
              refine And.intro (rfl) ?_
              refine ct_206 (by omega) hx (by unfold x_sg; omega) (fun h => absurd h nz) (fun _ => ?_)
              refine And.intro (fun _ => ?_) (fun h => absurd h (by decide))
              exact hQe rfl _ _ es _ _ _ fr hx nz (by omega) (by omega)
          · replace h54 : K qq ≠ 147 := fun h => h54 ⟨rfl, h⟩
            refine And.intro (fun _ => ?_) (fun h => absurd h (by decide))
            have es := es.trans (if_neg (by omega))
            exact hQ rfl _ _ _ es _ _ fr hx (by omega) rfl (by omega) (by omega) (by omega) ndl
    refine am_go 400 [5] (am_wpc_cm _ _ _) wf_292 ?_
    refine And.intro (rfl) ?_
    refine (ih n0 (by omega)).2.2.2.2.2 _ _ _ (dep + 1) _ _ _ g0 (by omega) hx w5 (by omega) (by omega) (by omega) (fun _ => by omega) (by omega) (fun h => absurd rfl h) (fun _ c115 pl116 h107 mw108 r109 qe110 h111 h113 h114 h117 h112 => ?_) (fun _ qo120 ko121 g122 h123 mw118 r119 h124 h130 h125 h126 h127 h128 h129 nd131 => ?_)
    · have hn2 := h111.2 41 54 (by omega) (by omega)
      have cn1 := h111.1
      have w5 := w5.G h111
      have fr := fr.trans h111
      have cn := fr.1
      have hx := h113
      have nz := h114
      have ec : c_x K A V n0 9 (dep + 1) q (m 41 56) g0 = .inl (c115, pl116) := by rw [show (m 41 56) = m 41 56 by omega]; exact h107
      have es := es.trans (c_bd_l ec)
      refine am_go 400 [] (am_wpc_cm _ _ _) wf_292 ?_
      refine And.intro (rfl) ?_
      refine ct_206 (by omega) hx (by unfold x_sg; omega) (fun h => absurd h nz) (fun _ => ?_)
      refine And.intro (fun h => absurd h (by decide)) (fun _ => ?_)
      refine And.intro (rfl) ?_
      refine ct_206 (by omega) hx (by unfold x_sg; omega) (fun h => absurd h nz) (fun _ => ?_)
      refine And.intro (fun _ => ?_) (fun h => absurd h (by decide))
      exact hQe rfl _ _ es _ _ _ fr hx nz (by omega) (by omega)
    · have hn2 := h124.2 41 54 (by omega) (by omega)
      have cn1 := h124.1
      have w5 := w5.G h124
      have fr := fr.trans h124
      have cn := fr.1
      have hx := h130
      have eo : c_x K A V n0 9 (dep + 1) q (m 41 56) g0 = .inr (qo120, ko121, g122) := by rw [show (m 41 56) = m 41 56 by omega]; exact h123
      have es := es.trans (c_bd_r eo)
      have nd1 := nd131
      refine K5 _ (n0) (qo120) (g122) _ _ _ _ _ (Eq.refl _) ?_ ?_ ?_ ?_ ?_ ?_ ?_ ?_ ?_ ?_ ?_ ?_ ?_
      · omega
      · omega
      · exact hx
      · exact w5
      · exact fr
      · omega
      · omega
      · omega
      · omega
      · refine (nd1.cv (by omega) (by omega) (by omega))
      · rw [show mw118 41 56 = ko121 by omega]; exact es
      · omega
      · omega
  · skip
    refine am_go 400 [] (am_wpc_cm _ _ _) wf_292 ?_
    refine And.intro (rfl) ?_
    refine (ih n0 (by omega)).2.2.2.2.2 _ _ _ (dep + 1) _ _ _ g0 (by omega) hx w5 (by omega) (by omega) (by omega) (fun _ => by omega) (by omega) (fun _ mw2 r3 h5 h6 h7 => ?_) (fun h => absurd h nz) (fun h => absurd h nz)
    have hn2 := h5.2 41 54 (by omega) (by omega)
    have cn1 := h5.1
    have w5 := w5.G h5
    have fr := fr.trans h5
    have cn := fr.1
    have hx := h7
    refine And.intro (rfl) ?_
    refine ct_206 (by omega) hx (by unfold x_sg; omega) (fun h => absurd h nz) (fun _ => ?_)
    refine And.intro (fun h => absurd h (by decide)) (fun _ => ?_)
    refine And.intro (rfl) ?_
    refine ct_206 (by omega) hx (by unfold x_sg; omega) (fun h => absurd h nz) (fun _ => ?_)
    refine And.intro (fun _ => ?_) (fun h => absurd h (by decide))
    exact hQf nz _ _ fr (by omega) hx
