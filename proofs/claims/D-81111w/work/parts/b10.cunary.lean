/-! needs: b09 -/
/-! CONTRACTS: no, unary of the house, and the whole parser; by tools/genb10.py -/
set_option maxRecDepth 100000
set_option maxHeartbeats 8000000
theorem hc_127 {K A V : Int → Int} {N : Int} {n : Nat} (hT : xT K A V N) (ih : ∀ i, i < n → hCP K A V N i) : hCa K A V N 127 4 3 n := by
  intro d m Q dep q f p g0 hd hx hdp h0 hk hmu hQf hQe hQ
  have hb := hx.2.2.1
  have hN := hT.1
  obtain ⟨n0, rfl⟩ : ∃ i, n = i + 1 := ⟨n - 1, by omega⟩
  obtain ⟨dk, hdk⟩ : ∃ k, d = k + 1 := ⟨d - 1, by omega⟩
  have fr := fr_Cl.rfl m
  have cn := fr.1
  have cs := fr.2.1
  refine am_in (k := dk) rfl (by omega) (fun d hd => ?_)
  by_cases nz : f = 0
  · subst nz
    have es : c_x K A V (n0 + 1) 4 dep q (m 1 34) g0 = _ := c_x_4
    refine am_go 400 [] (am_wpc_cm _ _ _) wf_127 ?_
    refine And.intro (rfl) ?_
    refine ct_124 (by omega) hT hx (by omega) (by omega) (fun h => absurd rfl h) (fun _ h4 mw1 h2 h3 => ?_) (fun _ h4 h5 mw1 h2 h3 => ?_) (fun _ h4 h5 => ?_)
    · have hn1 := h2 1 34 (by omega)
      have hn2 := h2 0 0 (by omega)
      have hn3 := h2 0 1 (by omega)
      have fr := fr.trans (fr_t.C h2)
      have hx := h3
      have cn := fr.1
      have cs := fr.2.1
      have nz : x_wr (K q) ≠ 0 := by unfold x_wr; omega
      have es := es.trans (c_may_w h4)
      refine And.intro (fun h => absurd h (by decide)) (fun _ => ?_)
      exact hQe rfl _ _ es _ _ _ fr (by omega) hx nz (by omega)
    · have hn1 := h2 1 34 (by omega)
      have hn2 := h2 0 0 (by omega)
      have hn3 := h2 0 1 (by omega)
      have fr := fr.trans (fr_t.C h2)
      have hx := h3
      have cn := fr.1
      have cs := fr.2.1
      have nz : (5 : Int) ≠ 0 := by omega
      have es := es.trans (c_may_d h4 h5)
      refine And.intro (fun h => absurd h (by decide)) (fun _ => ?_)
      exact hQe rfl _ _ es _ _ _ fr (by omega) hx nz (by omega)
    · have bg := h4
      have es := es.trans (c_may_y h4 h5)
      refine And.intro (fun _ => ?_) (fun h => absurd h (by decide))
      have bg1 : K q = 51 ∨ K q = 145 ∨ K q = 70 ∨ K q = 140 ∨ (52 ≤ K q ∧ K q ≤ 65) := bg.1
      have bg2 := bg.2
      refine And.intro (rfl) ?_
      refine And.intro (rfl) ?_
      refine And.intro (rfl) ?_
      refine And.intro (rfl) ?_
      have hq := hx.2.1
      have hb := hx.2.2.1
      refine And.intro (⟨rfl, by omega⟩) ?_
      rw [show m 16 (m 13 5) = A q by rw [hx.2.1]; exact (hx.1 _ (by omega) (by omega)).2.1]
      refine And.intro (rfl) ?_
      refine And.intro (rfl) ?_
      refine ct_157 (by omega) hT hx (by omega) (fun _ h6 mw7 h8 h9 => ?_) (fun h6 => ?_)
      · have hn1 := h8 1 34 (by omega)
        have hn2 := h8 0 0 (by omega)
        have hn3 := h8 0 1 (by omega)
        have fr := fr.trans (fr_t.C h8)
        have hx := h9
        have cn := fr.1
        have cs := fr.2.1
        have es := es.trans (if_pos h6)
        refine And.intro (fun h => absurd h (by decide)) (fun _ => ?_)
        skip
        refine And.intro (rfl) ?_
        refine ct_128 (by omega) hT hx rfl (by omega) (fun h13 mw10 h11 h14 h12 h15 h16 => ?_) (fun h13 mw10 h11 h14 h12 h15 h16 => ?_)
        · have fr := fr.trans h11
          have hx := h12
          have cn := fr.1
          have cs := fr.2.1
          have es := es.trans (c_pt_y (by omega))
          refine And.intro (by first | omega | (simp only [mS_iff, eq_self, Int.reduceEq, true_and, and_true, false_and, and_false, and_self, ↓reduceIte]; omega) | (simp only [mS_iff, eq_self, Int.reduceEq, true_and, and_true, false_and, and_false, and_self, ↓reduceIte] at *; omega)) ?_
          generalize h19 : mN mw10 13 6 = mw17
          generalize h20 : mw10 0 0 + 1 = r18
          have rr := Eq.symm h20
          obtain ⟨n1, n2, n3, n4, n5, n6⟩ := mN_f h19 h20 (by omega)
          have n7 : mw17 1 34 = mw10 1 34 := n5 1 34 (by omega) (by omega)
          have hx := hx.keep (fun x j a b => n5 x j (by omega) (by omega))
          have fr := fr.N n1 n2 n5 n6 (Eq.symm h20) (by omega) (by omega)
          have cn := fr.1
          have cs := fr.2.1
          refine And.intro (show -2147483648 ≤ dep + 1 ∧ dep + 1 ≤ 2147483647 by first | omega | (simp only [mS_iff, eq_self, Int.reduceEq, true_and, and_true, false_and, and_false, and_self, ↓reduceIte]; omega) | (simp only [mS_iff, eq_self, Int.reduceEq, true_and, and_true, false_and, and_false, and_self, ↓reduceIte] at *; omega)) ?_
          refine And.intro (rfl) ?_
          refine (ih n0 (by omega)).2.2.1 _ _ _ (dep + 1) _ _ _ g0 (by omega) hx (by omega) (by omega) (fun _ => by omega) (by omega) (fun h => absurd rfl h) (fun _ c29 pl30 h21 mw22 r23 qe24 h25 h26 h27 h28 h31 => ?_) (fun _ qo34 ko35 g36 h37 mw32 r33 h38 h39 h40 h41 h42 nd43 => ?_)
          · have t7 := h25.K.2
            have cn1 := h25.1
            have cs1 := h25.2.1
            have fr := fr.trans h25
            have hx := h27
            have cn := fr.1
            have cs := fr.2.1
            have nz := h28
            have ec : c_x K A V n0 4 (dep + 1) (q + 1) (m 1 34 + 1) g0 = .inl (c29, pl30) := by rw [show (m 1 34 + 1) = mw17 1 34 by omega]; exact h21
            have es := es.trans (c_bd_l ec)
            refine And.intro (show 0 < r18 by first | omega | (simp only [mS_iff, eq_self, Int.reduceEq, true_and, and_true, false_and, and_false, and_self, ↓reduceIte]; omega) | (simp only [mS_iff, eq_self, Int.reduceEq, true_and, and_true, false_and, and_false, and_self, ↓reduceIte] at *; omega)) ?_
            refine ct_327 (by omega) (by omega) (by omega) (((t7 _ _ (by omega) (by omega)).trans n3)) (fun mw44 h45 h46 h47 h48 h49 h50 h51 h52 h53 h54 => ?_)
            have i7 : mw44 1 34 = mw22 1 34 := h45.2.2.1 1 34 (by omega) (by omega) (by omega)
            have hx := hx.keep (fun x j a b => h45.2.2.1 x j (by omega) (by omega) (by omega))
            have o1 := h45.1
            have o2 := h45.2.1
            have fr := fr.O h45 (by omega) (by omega) (by omega) (by omega)
            have cn := fr.1
            have cs := fr.2.1
            exact hQe rfl _ _ es _ _ _ fr (by omega) hx nz (by omega)
          · have t7 := h38.K.2
            have cn1 := h38.1
            have cs1 := h38.2.1
            have fr := fr.trans h38
            have hx := h42
            have cn := fr.1
            have cs := fr.2.1
            have eo : c_x K A V n0 4 (dep + 1) (q + 1) (m 1 34 + 1) g0 = .inr (qo34, ko35, g36) := by rw [show (m 1 34 + 1) = mw17 1 34 by omega]; exact h37
            have es := es.trans (c_bd_r eo)
            have nd3 := nd43
            refine And.intro (show 0 < r18 by first | omega | (simp only [mS_iff, eq_self, Int.reduceEq, true_and, and_true, false_and, and_false, and_self, ↓reduceIte]; omega) | (simp only [mS_iff, eq_self, Int.reduceEq, true_and, and_true, false_and, and_false, and_self, ↓reduceIte] at *; omega)) ?_
            refine ct_327 (by omega) (by omega) (by omega) (((t7 _ _ (by omega) (by omega)).trans n3)) (fun mw55 h56 h57 h58 h59 h60 h61 h62 h63 h64 h65 => ?_)
            have i7 : mw55 1 34 = mw32 1 34 := h56.2.2.1 1 34 (by omega) (by omega) (by omega)
            have hx := hx.keep (fun x j a b => h56.2.2.1 x j (by omega) (by omega) (by omega))
            have o1 := h56.1
            have o2 := h56.2.1
            have fr := fr.O h56 (by omega) (by omega) (by omega) (by omega)
            have cn := fr.1
            have cs := fr.2.1
            have ndx := nd3.mv (fun y j u v => h56.2.2.1 y j (by omega) (by omega) v)
            exact hQ rfl _ _ _ es _ _ fr (by omega) (by omega) (by omega) hx ((hNd_one (lo1 := mw17 0 0 + 1) (hi1 := mw32 0 0) (pc := ko35 - mw17 1 34) h58 ⟨by omega, by omega⟩ h59 h60 ⟨by omega, by omega⟩ (by rw [h64]; exact h65) h61 h62 (ndx) ⟨by omega, by omega⟩ (by omega)).wd (by omega))
        · have fr := fr.trans h11
          have hx := h12
          have cn := fr.1
          have cs := fr.2.1
          have nz : (5 : Int) ≠ 0 := by omega
          have es := es.trans (c_pt_n (by omega))
          refine And.intro (by first | omega | (simp only [mS_iff, eq_self, Int.reduceEq, true_and, and_true, false_and, and_false, and_self, ↓reduceIte]; omega) | (simp only [mS_iff, eq_self, Int.reduceEq, true_and, and_true, false_and, and_false, and_self, ↓reduceIte] at *; omega)) ?_
          generalize h68 : mN mw10 13 6 = mw66
          generalize h69 : mw10 0 0 + 1 = r67
          have rr := Eq.symm h69
          obtain ⟨n1, n2, n3, n4, n5, n6⟩ := mN_f h68 h69 (by omega)
          have n7 : mw66 1 34 = mw10 1 34 := n5 1 34 (by omega) (by omega)
          have hx := hx.keep (fun x j a b => n5 x j (by omega) (by omega))
          have fr := fr.N n1 n2 n5 n6 (Eq.symm h69) (by omega) (by omega)
          have cn := fr.1
          have cs := fr.2.1
          refine And.intro (show -2147483648 ≤ dep + 1 ∧ dep + 1 ≤ 2147483647 by first | omega | (simp only [mS_iff, eq_self, Int.reduceEq, true_and, and_true, false_and, and_false, and_self, ↓reduceIte]; omega) | (simp only [mS_iff, eq_self, Int.reduceEq, true_and, and_true, false_and, and_false, and_self, ↓reduceIte] at *; omega)) ?_
          refine And.intro (rfl) ?_
          refine (ih n0 (by omega)).2.2.1 _ _ _ (dep + 1) _ _ _ g0 (by omega) hx (by omega) (by omega) (fun _ => by omega) (by omega) (fun _ mw71 h74 h75 h76 => ?_) (fun h => absurd h nz) (fun h => absurd h nz)
          have t7 := h74.K.2
          have cn1 := h74.1
          have cs1 := h74.2.1
          have fr := fr.trans h74
          have hx := h76
          have cn := fr.1
          have cs := fr.2.1
          refine And.intro (show 0 < r67 by first | omega | (simp only [mS_iff, eq_self, Int.reduceEq, true_and, and_true, false_and, and_false, and_self, ↓reduceIte]; omega) | (simp only [mS_iff, eq_self, Int.reduceEq, true_and, and_true, false_and, and_false, and_self, ↓reduceIte] at *; omega)) ?_
          refine ct_327 (by omega) (by omega) (by omega) (((t7 _ _ (by omega) (by omega)).trans n3)) (fun mw81 h82 h83 h84 h85 h86 h87 h88 h89 h90 h91 => ?_)
          have i7 : mw81 1 34 = mw71 1 34 := h82.2.2.1 1 34 (by omega) (by omega) (by omega)
          have hx := hx.keep (fun x j a b => h82.2.2.1 x j (by omega) (by omega) (by omega))
          have o1 := h82.1
          have o2 := h82.2.1
          have fr := fr.O h82 (by omega) (by omega) (by omega) (by omega)
          have cn := fr.1
          have cs := fr.2.1
          exact hQe rfl _ _ es _ _ _ fr (by omega) hx nz (by omega)
      · replace h6 : K q ≠ 51 := fun h => h6 ⟨rfl, h⟩
        have es := es.trans (if_neg h6)
        refine And.intro (fun _ => ?_) (fun h => absurd h (by decide))
        refine And.intro (rfl) ?_
        refine (ih n0 (by omega)).2.2.2.1 _ _ _ dep _ _ _ g0 (by omega) hx (by omega) (by omega) (fun _ => by omega) (by omega) (fun h => absurd rfl h) (fun _ c100 pl101 h92 mw93 r94 qe95 h96 h97 h98 h99 h102 => ?_) (fun _ qo105 ko106 g107 h108 mw103 r104 h109 h110 h111 h112 h113 nd114 => ?_)
        · have t7 := h96.K.2
          have cn1 := h96.1
          have cs1 := h96.2.1
          have fr := fr.trans h96
          have hx := h98
          have cn := fr.1
          have cs := fr.2.1
          have nz := h99
          have ec : c_x K A V n0 5 dep q (m 1 34) g0 = .inl (c100, pl101) := by rw [show (m 1 34) = m 1 34 by omega]; exact h92
          have es := es.trans (c_bd_l ec)
          skip
          refine And.intro (rfl) ?_
          refine And.intro (rfl) ?_
          refine ct_158 (by omega) hT hx (fun h => absurd h nz) (fun _ => ?_)
          refine And.intro (fun h => absurd h (by decide)) (fun _ => ?_)
          refine And.intro (rfl) ?_
          refine And.intro (rfl) ?_
          refine ct_158 (by omega) hT hx (fun h => absurd h nz) (fun _ => ?_)
          refine And.intro (fun _ => ?_) (fun h => absurd h (by decide))
          exact hQe rfl _ _ es _ _ _ fr (by omega) hx nz (by omega)
        · have t7 := h109.K.2
          have cn1 := h109.1
          have cs1 := h109.2.1
          have fr := fr.trans h109
          have hx := h113
          have cn := fr.1
          have cs := fr.2.1
          have eo : c_x K A V n0 5 dep q (m 1 34) g0 = .inr (qo105, ko106, g107) := by rw [show (m 1 34) = m 1 34 by omega]; exact h108
          have es := es.trans (c_bd_r eo)
          have nd1 := nd114
          have kl := kK.rfl mw103
          refine And.intro (rfl) ?_
          refine And.intro (rfl) ?_
          refine ct_158 (by omega) hT hx (fun _ h115 => ?_) (fun h115 => ?_)
          · have ky := h115
            refine And.intro (fun _ => ?_) (fun h => absurd h (by decide))
            have es := es.trans (if_pos (by omega))
            skip
            refine And.intro (rfl) ?_
            refine And.intro (rfl) ?_
            refine ct_161 (by omega) hT hx (fun v116 h117 => ?_)
            subst h117
            refine And.intro (rfl) ?_
            refine And.intro (rfl) ?_
            refine And.intro (rfl) ?_
            refine And.intro (rfl) ?_
            have hq := hx.2.1
            have hb := hx.2.2.1
            refine And.intro (⟨rfl, by omega⟩) ?_
            rw [show mw103 16 (mw103 13 5) = A qo105 by rw [hx.2.1]; exact (hx.1 _ (by omega) (by omega)).2.1]
            refine And.intro (rfl) ?_
            refine And.intro (rfl) ?_
            refine ct_157 (by omega) hT hx (by omega) (fun _ _ mw118 h119 h120 => ?_) (fun h => absurd ⟨rfl, rfl⟩ h)
            have hn1 := h119 1 34 (by omega)
            have hn2 := h119 0 0 (by omega)
            have hn3 := h119 0 1 (by omega)
            have kl := kl.trans (fr_t.K h119)
            have fr := fr.trans (fr_t.C h119)
            have hx := h120
            have cn := fr.1
            have cs := fr.2.1
            refine And.intro (rfl) ?_
            refine ct_128 (by omega) hT hx rfl (by omega) (fun h124 mw121 h122 h125 h123 h126 h127 => ?_) (fun h124 mw121 h122 h125 h123 h126 h127 => ?_)
            · have kl := kl.trans h122.K
              have fr := fr.trans h122
              have hx := h123
              have cn := fr.1
              have cs := fr.2.1
              have es := es.trans (c_pt_y (by omega))
              refine And.intro (by first | omega | (simp only [mS_iff, eq_self, Int.reduceEq, true_and, and_true, false_and, and_false, and_self, ↓reduceIte]; omega) | (simp only [mS_iff, eq_self, Int.reduceEq, true_and, and_true, false_and, and_false, and_self, ↓reduceIte] at *; omega)) ?_
              generalize h130 : mN mw121 17 7 = mw128
              generalize h131 : mw121 0 0 + 1 = r129
              have rr := Eq.symm h131
              obtain ⟨n1, n2, n3, n4, n5, n6⟩ := mN_f h130 h131 (by omega)
              have n7 : mw128 1 34 = mw121 1 34 := n5 1 34 (by omega) (by omega)
              have hx := hx.keep (fun x j a b => n5 x j (by omega) (by omega))
              have fr := fr.N n1 n2 n5 n6 (Eq.symm h131) (by omega) (by omega)
              have cn := fr.1
              have cs := fr.2.1
              have kl := kl.N n1 n5 (Eq.symm h131)
              refine And.intro (rfl) ?_
              refine (ih n0 (by omega)).2.2.2.1 _ _ _ dep _ _ _ g0 (by omega) hx (by omega) (by omega) (fun _ => by omega) (by omega) (fun h => absurd rfl h) (fun _ c140 pl141 h132 mw133 r134 qe135 h136 h137 h138 h139 h142 => ?_) (fun _ qo145 ko146 g147 h148 mw143 r144 h149 h150 h151 h152 h153 nd154 => ?_)
              · have kl := kl.trans h136.K
                have t7 := h136.K.2
                have cn1 := h136.1
                have cs1 := h136.2.1
                have fr := fr.trans h136
                have hx := h138
                have cn := fr.1
                have cs := fr.2.1
                have nz := h139
                have ec : c_x K A V n0 5 dep (qo105 + 1) (ko106 + 1) g0 = .inl (c140, pl141) := by rw [show (ko106 + 1) = mw128 1 34 by omega]; exact h132
                have es := es.trans (c_bd_l ec)
                refine And.intro (show 0 < r129 by first | omega | (simp only [mS_iff, eq_self, Int.reduceEq, true_and, and_true, false_and, and_false, and_self, ↓reduceIte]; omega) | (simp only [mS_iff, eq_self, Int.reduceEq, true_and, and_true, false_and, and_false, and_self, ↓reduceIte] at *; omega)) ?_
                refine ct_335 (by omega) (by omega) (by omega) (((t7 _ _ (by omega) (by omega)).trans n3)) (fun mw155 h156 h157 h158 h159 h160 h161 h162 h163 h164 h165 h166 => ?_)
                have i7 : mw155 1 34 = mw133 1 34 := h156.2.2.1 1 34 (by omega) (by omega) (by omega)
                have hx := hx.keep (fun x j a b => h156.2.2.1 x j (by omega) (by omega) (by omega))
                have o1 := h156.1
                have o2 := h156.2.1
                have fr := fr.O h156 (by omega) (by omega) (by omega) (by omega)
                have cn := fr.1
                have cs := fr.2.1
                exact hQe rfl _ _ es _ _ _ fr (by omega) hx nz (by omega)
              · have kl := kl.trans h149.K
                have t7 := h149.K.2
                have cn1 := h149.1
                have cs1 := h149.2.1
                have fr := fr.trans h149
                have hx := h153
                have cn := fr.1
                have cs := fr.2.1
                have eo : c_x K A V n0 5 dep (qo105 + 1) (ko106 + 1) g0 = .inr (qo145, ko146, g147) := by rw [show (ko106 + 1) = mw128 1 34 by omega]; exact h148
                have es := es.trans (c_bd_r eo)
                have nd2 := nd154
                refine And.intro (show 0 < r129 by first | omega | (simp only [mS_iff, eq_self, Int.reduceEq, true_and, and_true, false_and, and_false, and_self, ↓reduceIte]; omega) | (simp only [mS_iff, eq_self, Int.reduceEq, true_and, and_true, false_and, and_false, and_self, ↓reduceIte] at *; omega)) ?_
                refine ct_335 (by omega) (by omega) (by omega) (((t7 _ _ (by omega) (by omega)).trans n3)) (fun mw167 h168 h169 h170 h171 h172 h173 h174 h175 h176 h177 h178 => ?_)
                have i7 : mw167 1 34 = mw143 1 34 := h168.2.2.1 1 34 (by omega) (by omega) (by omega)
                have hx := hx.keep (fun x j a b => h168.2.2.1 x j (by omega) (by omega) (by omega))
                have o1 := h168.1
                have o2 := h168.2.1
                have fr := fr.O h168 (by omega) (by omega) (by omega) (by omega)
                have cn := fr.1
                have cs := fr.2.1
                exact hQ rfl _ _ _ es _ _ fr (by omega) (by omega) (by omega) hx ((hNd_two (lo1 := m 0 0 + 1) (hi1 := mw103 0 0) (p1 := ko106 - m 1 34) (lo2 := mw128 0 0 + 1) (hi2 := mw143 0 0) (p2 := ko146 - mw128 1 34) h170 ⟨by omega, by omega⟩ h171 h172 ⟨by omega, by omega⟩ (by rw [h177]; exact h178) h173 h174 h175 (nd1.mv (fun y j u v => (h168.2.2.1 y j (by omega) (by omega) (by omega)).trans (kl.2 y j (by omega) v))) (nd2.mv (fun y j u v => h168.2.2.1 y j (by omega) (by omega) v)) ⟨by omega, by omega⟩ ⟨by omega, by omega⟩ (by omega) (by omega)).wd (by omega))
            · have kl := kl.trans h122.K
              have fr := fr.trans h122
              have hx := h123
              have cn := fr.1
              have cs := fr.2.1
              have nz : (5 : Int) ≠ 0 := by omega
              have es := es.trans (c_pt_n (by omega))
              refine And.intro (by first | omega | (simp only [mS_iff, eq_self, Int.reduceEq, true_and, and_true, false_and, and_false, and_self, ↓reduceIte]; omega) | (simp only [mS_iff, eq_self, Int.reduceEq, true_and, and_true, false_and, and_false, and_self, ↓reduceIte] at *; omega)) ?_
              generalize h181 : mN mw121 17 7 = mw179
              generalize h182 : mw121 0 0 + 1 = r180
              have rr := Eq.symm h182
              obtain ⟨n1, n2, n3, n4, n5, n6⟩ := mN_f h181 h182 (by omega)
              have n7 : mw179 1 34 = mw121 1 34 := n5 1 34 (by omega) (by omega)
              have hx := hx.keep (fun x j a b => n5 x j (by omega) (by omega))
              have fr := fr.N n1 n2 n5 n6 (Eq.symm h182) (by omega) (by omega)
              have cn := fr.1
              have cs := fr.2.1
              have kl := kl.N n1 n5 (Eq.symm h182)
              refine And.intro (rfl) ?_
              refine (ih n0 (by omega)).2.2.2.1 _ _ _ dep _ _ _ g0 (by omega) hx (by omega) (by omega) (fun _ => by omega) (by omega) (fun _ mw184 h187 h188 h189 => ?_) (fun h => absurd h nz) (fun h => absurd h nz)
              have kl := kl.trans h187.K
              have t7 := h187.K.2
              have cn1 := h187.1
              have cs1 := h187.2.1
              have fr := fr.trans h187
              have hx := h189
              have cn := fr.1
              have cs := fr.2.1
              refine And.intro (show 0 < r180 by first | omega | (simp only [mS_iff, eq_self, Int.reduceEq, true_and, and_true, false_and, and_false, and_self, ↓reduceIte]; omega) | (simp only [mS_iff, eq_self, Int.reduceEq, true_and, and_true, false_and, and_false, and_self, ↓reduceIte] at *; omega)) ?_
              refine ct_335 (by omega) (by omega) (by omega) (((t7 _ _ (by omega) (by omega)).trans n3)) (fun mw194 h195 h196 h197 h198 h199 h200 h201 h202 h203 h204 h205 => ?_)
              have i7 : mw194 1 34 = mw184 1 34 := h195.2.2.1 1 34 (by omega) (by omega) (by omega)
              have hx := hx.keep (fun x j a b => h195.2.2.1 x j (by omega) (by omega) (by omega))
              have o1 := h195.1
              have o2 := h195.2.1
              have fr := fr.O h195 (by omega) (by omega) (by omega) (by omega)
              have cn := fr.1
              have cs := fr.2.1
              exact hQe rfl _ _ es _ _ _ fr (by omega) hx nz (by omega)
          · replace h115 : K qo105 ≠ 160 := fun h => h115 ⟨rfl, h⟩
            refine And.intro (fun h => absurd h (by decide)) (fun _ => ?_)
            refine And.intro (rfl) ?_
            refine And.intro (rfl) ?_
            refine ct_158 (by omega) hT hx (fun _ h206 => ?_) (fun h206 => ?_)
            · have ky := h206
              refine And.intro (fun h => absurd h (by decide)) (fun _ => ?_)
              have es := es.trans (if_pos (by omega))
              skip
              refine And.intro (rfl) ?_
              refine And.intro (rfl) ?_
              refine ct_161 (by omega) hT hx (fun v207 h208 => ?_)
              subst h208
              refine And.intro (rfl) ?_
              refine And.intro (rfl) ?_
              refine And.intro (rfl) ?_
              refine And.intro (rfl) ?_
              have hq := hx.2.1
              have hb := hx.2.2.1
              refine And.intro (⟨rfl, by omega⟩) ?_
              rw [show mw103 16 (mw103 13 5) = A qo105 by rw [hx.2.1]; exact (hx.1 _ (by omega) (by omega)).2.1]
              refine And.intro (rfl) ?_
              refine And.intro (rfl) ?_
              refine ct_157 (by omega) hT hx (by omega) (fun _ _ mw209 h210 h211 => ?_) (fun h => absurd ⟨rfl, rfl⟩ h)
              have hn1 := h210 1 34 (by omega)
              have hn2 := h210 0 0 (by omega)
              have hn3 := h210 0 1 (by omega)
              have kl := kl.trans (fr_t.K h210)
              have fr := fr.trans (fr_t.C h210)
              have hx := h211
              have cn := fr.1
              have cs := fr.2.1
              refine And.intro (rfl) ?_
              refine ct_128 (by omega) hT hx rfl (by omega) (fun h215 mw212 h213 h216 h214 h217 h218 => ?_) (fun h215 mw212 h213 h216 h214 h217 h218 => ?_)
              · have kl := kl.trans h213.K
                have fr := fr.trans h213
                have hx := h214
                have cn := fr.1
                have cs := fr.2.1
                have es := es.trans (c_pt_y (by omega))
                refine And.intro (by first | omega | (simp only [mS_iff, eq_self, Int.reduceEq, true_and, and_true, false_and, and_false, and_self, ↓reduceIte]; omega) | (simp only [mS_iff, eq_self, Int.reduceEq, true_and, and_true, false_and, and_false, and_self, ↓reduceIte] at *; omega)) ?_
                generalize h221 : mN mw212 17 7 = mw219
                generalize h222 : mw212 0 0 + 1 = r220
                have rr := Eq.symm h222
                obtain ⟨n1, n2, n3, n4, n5, n6⟩ := mN_f h221 h222 (by omega)
                have n7 : mw219 1 34 = mw212 1 34 := n5 1 34 (by omega) (by omega)
                have hx := hx.keep (fun x j a b => n5 x j (by omega) (by omega))
                have fr := fr.N n1 n2 n5 n6 (Eq.symm h222) (by omega) (by omega)
                have cn := fr.1
                have cs := fr.2.1
                have kl := kl.N n1 n5 (Eq.symm h222)
                refine And.intro (rfl) ?_
                refine (ih n0 (by omega)).2.2.2.1 _ _ _ dep _ _ _ g0 (by omega) hx (by omega) (by omega) (fun _ => by omega) (by omega) (fun h => absurd rfl h) (fun _ c231 pl232 h223 mw224 r225 qe226 h227 h228 h229 h230 h233 => ?_) (fun _ qo236 ko237 g238 h239 mw234 r235 h240 h241 h242 h243 h244 nd245 => ?_)
                · have kl := kl.trans h227.K
                  have t7 := h227.K.2
                  have cn1 := h227.1
                  have cs1 := h227.2.1
                  have fr := fr.trans h227
                  have hx := h229
                  have cn := fr.1
                  have cs := fr.2.1
                  have nz := h230
                  have ec : c_x K A V n0 5 dep (qo105 + 1) (ko106 + 1) g0 = .inl (c231, pl232) := by rw [show (ko106 + 1) = mw219 1 34 by omega]; exact h223
                  have es := es.trans (c_bd_l ec)
                  refine And.intro (show 0 < r220 by first | omega | (simp only [mS_iff, eq_self, Int.reduceEq, true_and, and_true, false_and, and_false, and_self, ↓reduceIte]; omega) | (simp only [mS_iff, eq_self, Int.reduceEq, true_and, and_true, false_and, and_false, and_self, ↓reduceIte] at *; omega)) ?_
                  refine ct_335 (by omega) (by omega) (by omega) (((t7 _ _ (by omega) (by omega)).trans n3)) (fun mw246 h247 h248 h249 h250 h251 h252 h253 h254 h255 h256 h257 => ?_)
                  have i7 : mw246 1 34 = mw224 1 34 := h247.2.2.1 1 34 (by omega) (by omega) (by omega)
                  have hx := hx.keep (fun x j a b => h247.2.2.1 x j (by omega) (by omega) (by omega))
                  have o1 := h247.1
                  have o2 := h247.2.1
                  have fr := fr.O h247 (by omega) (by omega) (by omega) (by omega)
                  have cn := fr.1
                  have cs := fr.2.1
                  exact hQe rfl _ _ es _ _ _ fr (by omega) hx nz (by omega)
                · have kl := kl.trans h240.K
                  have t7 := h240.K.2
                  have cn1 := h240.1
                  have cs1 := h240.2.1
                  have fr := fr.trans h240
                  have hx := h244
                  have cn := fr.1
                  have cs := fr.2.1
                  have eo : c_x K A V n0 5 dep (qo105 + 1) (ko106 + 1) g0 = .inr (qo236, ko237, g238) := by rw [show (ko106 + 1) = mw219 1 34 by omega]; exact h239
                  have es := es.trans (c_bd_r eo)
                  have nd2 := nd245
                  refine And.intro (show 0 < r220 by first | omega | (simp only [mS_iff, eq_self, Int.reduceEq, true_and, and_true, false_and, and_false, and_self, ↓reduceIte]; omega) | (simp only [mS_iff, eq_self, Int.reduceEq, true_and, and_true, false_and, and_false, and_self, ↓reduceIte] at *; omega)) ?_
                  refine ct_335 (by omega) (by omega) (by omega) (((t7 _ _ (by omega) (by omega)).trans n3)) (fun mw258 h259 h260 h261 h262 h263 h264 h265 h266 h267 h268 h269 => ?_)
                  have i7 : mw258 1 34 = mw234 1 34 := h259.2.2.1 1 34 (by omega) (by omega) (by omega)
                  have hx := hx.keep (fun x j a b => h259.2.2.1 x j (by omega) (by omega) (by omega))
                  have o1 := h259.1
                  have o2 := h259.2.1
                  have fr := fr.O h259 (by omega) (by omega) (by omega) (by omega)
                  have cn := fr.1
                  have cs := fr.2.1
                  exact hQ rfl _ _ _ es _ _ fr (by omega) (by omega) (by omega) hx ((hNd_two (lo1 := m 0 0 + 1) (hi1 := mw103 0 0) (p1 := ko106 - m 1 34) (lo2 := mw219 0 0 + 1) (hi2 := mw234 0 0) (p2 := ko237 - mw219 1 34) h261 ⟨by omega, by omega⟩ h262 h263 ⟨by omega, by omega⟩ (by rw [h268]; exact h269) h264 h265 h266 (nd1.mv (fun y j u v => (h259.2.2.1 y j (by omega) (by omega) (by omega)).trans (kl.2 y j (by omega) v))) (nd2.mv (fun y j u v => h259.2.2.1 y j (by omega) (by omega) v)) ⟨by omega, by omega⟩ ⟨by omega, by omega⟩ (by omega) (by omega)).wd (by omega))
              · have kl := kl.trans h213.K
                have fr := fr.trans h213
                have hx := h214
                have cn := fr.1
                have cs := fr.2.1
                have nz : (5 : Int) ≠ 0 := by omega
                have es := es.trans (c_pt_n (by omega))
                refine And.intro (by first | omega | (simp only [mS_iff, eq_self, Int.reduceEq, true_and, and_true, false_and, and_false, and_self, ↓reduceIte]; omega) | (simp only [mS_iff, eq_self, Int.reduceEq, true_and, and_true, false_and, and_false, and_self, ↓reduceIte] at *; omega)) ?_
                generalize h272 : mN mw212 17 7 = mw270
                generalize h273 : mw212 0 0 + 1 = r271
                have rr := Eq.symm h273
                obtain ⟨n1, n2, n3, n4, n5, n6⟩ := mN_f h272 h273 (by omega)
                have n7 : mw270 1 34 = mw212 1 34 := n5 1 34 (by omega) (by omega)
                have hx := hx.keep (fun x j a b => n5 x j (by omega) (by omega))
                have fr := fr.N n1 n2 n5 n6 (Eq.symm h273) (by omega) (by omega)
                have cn := fr.1
                have cs := fr.2.1
                have kl := kl.N n1 n5 (Eq.symm h273)
                refine And.intro (rfl) ?_
                refine (ih n0 (by omega)).2.2.2.1 _ _ _ dep _ _ _ g0 (by omega) hx (by omega) (by omega) (fun _ => by omega) (by omega) (fun _ mw275 h278 h279 h280 => ?_) (fun h => absurd h nz) (fun h => absurd h nz)
                have kl := kl.trans h278.K
                have t7 := h278.K.2
                have cn1 := h278.1
                have cs1 := h278.2.1
                have fr := fr.trans h278
                have hx := h280
                have cn := fr.1
                have cs := fr.2.1
                refine And.intro (show 0 < r271 by first | omega | (simp only [mS_iff, eq_self, Int.reduceEq, true_and, and_true, false_and, and_false, and_self, ↓reduceIte]; omega) | (simp only [mS_iff, eq_self, Int.reduceEq, true_and, and_true, false_and, and_false, and_self, ↓reduceIte] at *; omega)) ?_
                refine ct_335 (by omega) (by omega) (by omega) (((t7 _ _ (by omega) (by omega)).trans n3)) (fun mw285 h286 h287 h288 h289 h290 h291 h292 h293 h294 h295 h296 => ?_)
                have i7 : mw285 1 34 = mw275 1 34 := h286.2.2.1 1 34 (by omega) (by omega) (by omega)
                have hx := hx.keep (fun x j a b => h286.2.2.1 x j (by omega) (by omega) (by omega))
                have o1 := h286.1
                have o2 := h286.2.1
                have fr := fr.O h286 (by omega) (by omega) (by omega) (by omega)
                have cn := fr.1
                have cs := fr.2.1
                exact hQe rfl _ _ es _ _ _ fr (by omega) hx nz (by omega)
            · replace h206 : K qo105 ≠ 161 := fun h => h206 ⟨rfl, h⟩
              refine And.intro (fun _ => ?_) (fun h => absurd h (by decide))
              have es := es.trans (if_neg (by omega))
              exact hQ rfl _ _ _ es _ _ fr (by omega) (by omega) (by omega) hx (nd1)
  · skip
    refine am_go 400 [] (am_wpc_cm _ _ _) wf_127 ?_
    refine And.intro (rfl) ?_
    refine ct_124 (by omega) hT hx (by omega) (by omega) (fun _ mw1 h2 h3 => ?_) (fun h => absurd h nz) (fun h => absurd h nz) (fun h => absurd h nz)
    have hn1 := h2 1 34 (by omega)
    have hn2 := h2 0 0 (by omega)
    have hn3 := h2 0 1 (by omega)
    have fr := fr.trans (fr_t.C h2)
    have hx := h3
    have cn := fr.1
    have cs := fr.2.1
    refine And.intro (fun h => absurd h (by decide)) (fun _ => ?_)
    exact hQf nz _ fr (by omega) hx
theorem hc_131 {K A V : Int → Int} {N : Int} {n : Nat} (hT : xT K A V N) (ih : ∀ i, i < n → hCP K A V N i) : hCa K A V N 131 9 3 n := by
  intro d m Q dep q f p g0 hd hx hdp h0 hk hmu hQf hQe hQ
  have hb := hx.2.2.1
  have hN := hT.1
  obtain ⟨n0, rfl⟩ : ∃ i, n = i + 1 := ⟨n - 1, by omega⟩
  obtain ⟨dk, hdk⟩ : ∃ k, d = k + 1 := ⟨d - 1, by omega⟩
  have fr := fr_Cl.rfl m
  have cn := fr.1
  have cs := fr.2.1
  refine am_in (k := dk) rfl (by omega) (fun d hd => ?_)
  by_cases nz : f = 0
  · subst nz
    have es : c_x K A V (n0 + 1) 9 dep q (m 1 34) g0 = _ := c_x_9
    refine am_go 400 [] (am_wpc_cm _ _ _) wf_131 ?_
    refine And.intro (rfl) ?_
    refine ct_124 (by omega) hT hx (by omega) (by omega) (fun h => absurd rfl h) (fun _ h4 mw1 h2 h3 => ?_) (fun _ h4 h5 mw1 h2 h3 => ?_) (fun _ h4 h5 => ?_)
    · have hn1 := h2 1 34 (by omega)
      have hn2 := h2 0 0 (by omega)
      have hn3 := h2 0 1 (by omega)
      have fr := fr.trans (fr_t.C h2)
      have hx := h3
      have cn := fr.1
      have cs := fr.2.1
      have nz : x_wr (K q) ≠ 0 := by unfold x_wr; omega
      have es := es.trans (c_may_w h4)
      refine And.intro (fun h => absurd h (by decide)) (fun _ => ?_)
      exact hQe rfl _ _ es _ _ _ fr (by omega) hx nz (by omega)
    · have hn1 := h2 1 34 (by omega)
      have hn2 := h2 0 0 (by omega)
      have hn3 := h2 0 1 (by omega)
      have fr := fr.trans (fr_t.C h2)
      have hx := h3
      have cn := fr.1
      have cs := fr.2.1
      have nz : (5 : Int) ≠ 0 := by omega
      have es := es.trans (c_may_d h4 h5)
      refine And.intro (fun h => absurd h (by decide)) (fun _ => ?_)
      exact hQe rfl _ _ es _ _ _ fr (by omega) hx nz (by omega)
    · have bg := h4
      have es := es.trans (c_may_y h4 h5)
      refine And.intro (fun _ => ?_) (fun h => absurd h (by decide))
      have bg1 : K q = 51 ∨ K q = 145 ∨ K q = 70 ∨ K q = 140 ∨ (52 ≤ K q ∧ K q ≤ 65) := bg.1
      have bg2 := bg.2
      refine And.intro (rfl) ?_
      refine And.intro (rfl) ?_
      refine ct_161 (by omega) hT hx (fun v6 h7 => ?_)
      subst h7
      refine And.intro (rfl) ?_
      refine And.intro (rfl) ?_
      refine And.intro (rfl) ?_
      refine And.intro (rfl) ?_
      have hq := hx.2.1
      have hb := hx.2.2.1
      refine And.intro (⟨rfl, by omega⟩) ?_
      rw [show m 16 (m 13 5) = A q by rw [hx.2.1]; exact (hx.1 _ (by omega) (by omega)).2.1]
      refine And.intro (rfl) ?_
      refine And.intro (rfl) ?_
      refine ct_157 (by omega) hT hx (by omega) (fun _ _ mw8 h9 h10 => ?_) (fun h => absurd ⟨rfl, rfl⟩ h)
      have hn1 := h9 1 34 (by omega)
      have hn2 := h9 0 0 (by omega)
      have hn3 := h9 0 1 (by omega)
      have fr := fr.trans (fr_t.C h9)
      have hx := h10
      have cn := fr.1
      have cs := fr.2.1
      refine And.intro (fun h11 => ?_) (fun h11 => ?_)
      · have es := es.trans (if_neg (by omega))
        refine And.intro (rfl) ?_
        refine ct_128 (by omega) hT hx rfl (by omega) (fun h15 mw12 h13 h16 h14 h17 h18 => ?_) (fun h15 mw12 h13 h16 h14 h17 h18 => ?_)
        · have fr := fr.trans h13
          have hx := h14
          have cn := fr.1
          have cs := fr.2.1
          have es := es.trans (c_pt_y (by omega))
          refine And.intro (rfl) ?_
          refine And.intro (rfl) ?_
          refine And.intro (fun _ => ?_) (fun h => absurd h (by have := hx.2.2.2.1; have := hx.2.2.2.2.1; omega))
          refine And.intro (And.intro (fun h19 => ?_) (And.intro (fun h19 => ?_) (And.intro (fun h19 => ?_) (And.intro (fun h19 => ?_) (And.intro (fun h19 => ?_) (And.intro (fun h19 => ?_) (True.intro))))))) (fun h19 => ?_)
          · replace h19 : (K q) = 52 := h19
            have es := es.trans ((if_neg (by omega)).trans (if_pos (by omega)))
            skip
            skip
            refine And.intro (by first | omega | (simp only [mS_iff, eq_self, Int.reduceEq, true_and, and_true, false_and, and_false, and_self, ↓reduceIte]; omega) | (simp only [mS_iff, eq_self, Int.reduceEq, true_and, and_true, false_and, and_false, and_self, ↓reduceIte] at *; omega)) ?_
            generalize h22 : mN mw12 15 5 = mw20
            generalize h23 : mw12 0 0 + 1 = r21
            have rr := Eq.symm h23
            obtain ⟨n1, n2, n3, n4, n5, n6⟩ := mN_f h22 h23 (by omega)
            have n7 : mw20 1 34 = mw12 1 34 := n5 1 34 (by omega) (by omega)
            have hx := hx.keep (fun x j a b => n5 x j (by omega) (by omega))
            have fr := fr.N n1 n2 n5 n6 (Eq.symm h23) (by omega) (by omega)
            have cn := fr.1
            have cs := fr.2.1
            refine And.intro (show 0 < r21 by first | omega | (simp only [mS_iff, eq_self, Int.reduceEq, true_and, and_true, false_and, and_false, and_self, ↓reduceIte]; omega) | (simp only [mS_iff, eq_self, Int.reduceEq, true_and, and_true, false_and, and_false, and_self, ↓reduceIte] at *; omega)) ?_
            refine ct_333 (by omega) (by omega) (by omega) (n3) (fun mw24 h25 h26 h27 h28 h29 h30 h31 h32 h33 => ?_)
            have i7 : mw24 1 34 = mw20 1 34 := h25.2.2.1 1 34 (by omega) (by omega) (by omega)
            have hx := hx.keep (fun x j a b => h25.2.2.1 x j (by omega) (by omega) (by omega))
            have o1 := h25.1
            have o2 := h25.2.1
            have fr := fr.O h25 (by omega) (by omega) (by omega) (by omega)
            have cn := fr.1
            have cs := fr.2.1
            exact hQ rfl _ _ _ es _ _ fr (by omega) (by omega) (by omega) hx ((hNd_pl h27 ⟨by omega, by omega⟩ h28 h29 ⟨by omega, by omega⟩ (by rw [h32]; exact h33) h30 h31 (by omega)).wd (by omega))
          · replace h19 : (K q) = 53 := h19
            have es := es.trans ((if_neg (by omega)).trans (if_pos (by omega)))
            skip
            skip
            refine And.intro (by first | omega | (simp only [mS_iff, eq_self, Int.reduceEq, true_and, and_true, false_and, and_false, and_self, ↓reduceIte]; omega) | (simp only [mS_iff, eq_self, Int.reduceEq, true_and, and_true, false_and, and_false, and_self, ↓reduceIte] at *; omega)) ?_
            generalize h36 : mN mw12 15 5 = mw34
            generalize h37 : mw12 0 0 + 1 = r35
            have rr := Eq.symm h37
            obtain ⟨n1, n2, n3, n4, n5, n6⟩ := mN_f h36 h37 (by omega)
            have n7 : mw34 1 34 = mw12 1 34 := n5 1 34 (by omega) (by omega)
            have hx := hx.keep (fun x j a b => n5 x j (by omega) (by omega))
            have fr := fr.N n1 n2 n5 n6 (Eq.symm h37) (by omega) (by omega)
            have cn := fr.1
            have cs := fr.2.1
            refine And.intro (show 0 < r35 by first | omega | (simp only [mS_iff, eq_self, Int.reduceEq, true_and, and_true, false_and, and_false, and_self, ↓reduceIte]; omega) | (simp only [mS_iff, eq_self, Int.reduceEq, true_and, and_true, false_and, and_false, and_self, ↓reduceIte] at *; omega)) ?_
            refine ct_333 (by omega) (by omega) (by omega) (n3) (fun mw38 h39 h40 h41 h42 h43 h44 h45 h46 h47 => ?_)
            have i7 : mw38 1 34 = mw34 1 34 := h39.2.2.1 1 34 (by omega) (by omega) (by omega)
            have hx := hx.keep (fun x j a b => h39.2.2.1 x j (by omega) (by omega) (by omega))
            have o1 := h39.1
            have o2 := h39.2.1
            have fr := fr.O h39 (by omega) (by omega) (by omega) (by omega)
            have cn := fr.1
            have cs := fr.2.1
            exact hQ rfl _ _ _ es _ _ fr (by omega) (by omega) (by omega) hx ((hNd_pl h41 ⟨by omega, by omega⟩ h42 h43 ⟨by omega, by omega⟩ (by rw [h46]; exact h47) h44 h45 (by omega)).wd (by omega))
          · replace h19 : (K q) = 54 := h19
            have es := es.trans ((if_neg (by omega)).trans (if_pos (by omega)))
            skip
            skip
            refine And.intro (by first | omega | (simp only [mS_iff, eq_self, Int.reduceEq, true_and, and_true, false_and, and_false, and_self, ↓reduceIte]; omega) | (simp only [mS_iff, eq_self, Int.reduceEq, true_and, and_true, false_and, and_false, and_self, ↓reduceIte] at *; omega)) ?_
            generalize h50 : mN mw12 15 5 = mw48
            generalize h51 : mw12 0 0 + 1 = r49
            have rr := Eq.symm h51
            obtain ⟨n1, n2, n3, n4, n5, n6⟩ := mN_f h50 h51 (by omega)
            have n7 : mw48 1 34 = mw12 1 34 := n5 1 34 (by omega) (by omega)
            have hx := hx.keep (fun x j a b => n5 x j (by omega) (by omega))
            have fr := fr.N n1 n2 n5 n6 (Eq.symm h51) (by omega) (by omega)
            have cn := fr.1
            have cs := fr.2.1
            refine And.intro (show 0 < r49 by first | omega | (simp only [mS_iff, eq_self, Int.reduceEq, true_and, and_true, false_and, and_false, and_self, ↓reduceIte]; omega) | (simp only [mS_iff, eq_self, Int.reduceEq, true_and, and_true, false_and, and_false, and_self, ↓reduceIte] at *; omega)) ?_
            refine ct_333 (by omega) (by omega) (by omega) (n3) (fun mw52 h53 h54 h55 h56 h57 h58 h59 h60 h61 => ?_)
            have i7 : mw52 1 34 = mw48 1 34 := h53.2.2.1 1 34 (by omega) (by omega) (by omega)
            have hx := hx.keep (fun x j a b => h53.2.2.1 x j (by omega) (by omega) (by omega))
            have o1 := h53.1
            have o2 := h53.2.1
            have fr := fr.O h53 (by omega) (by omega) (by omega) (by omega)
            have cn := fr.1
            have cs := fr.2.1
            exact hQ rfl _ _ _ es _ _ fr (by omega) (by omega) (by omega) hx ((hNd_pl h55 ⟨by omega, by omega⟩ h56 h57 ⟨by omega, by omega⟩ (by rw [h60]; exact h61) h58 h59 (by omega)).wd (by omega))
          · replace h19 : (K q) = 65 := h19
            have es := es.trans ((if_neg (by omega)).trans ((if_neg (by omega)).trans ((if_neg (by omega)).trans (if_pos (by omega)))))
            skip
            refine And.intro (show -2147483648 ≤ dep + 1 ∧ dep + 1 ≤ 2147483647 by first | omega | (simp only [mS_iff, eq_self, Int.reduceEq, true_and, and_true, false_and, and_false, and_self, ↓reduceIte]; omega) | (simp only [mS_iff, eq_self, Int.reduceEq, true_and, and_true, false_and, and_false, and_self, ↓reduceIte] at *; omega)) ?_
            refine And.intro (rfl) ?_
            refine (ih n0 (by omega)).2.2.2.2.2 _ _ _ (dep + 1) _ _ _ g0 (by omega) hx (by omega) (by omega) (fun _ => by omega) (by omega) (fun h => absurd rfl h) (fun _ c70 pl71 h62 mw63 r64 qe65 h66 h67 h68 h69 h72 => ?_) (fun _ qo75 ko76 g77 h78 mw73 r74 h79 h80 h81 h82 h83 nd84 => ?_)
            · have t7 := h66.K.2
              have cn1 := h66.1
              have cs1 := h66.2.1
              have fr := fr.trans h66
              have hx := h68
              have cn := fr.1
              have cs := fr.2.1
              have nz := h69
              have ec : c_x K A V n0 9 (dep + 1) (q + 1) (m 1 34 + 1) g0 = .inl (c70, pl71) := by rw [show (m 1 34 + 1) = mw12 1 34 by omega]; exact h62
              have es := es.trans (c_bd_l ec)
              skip
              refine And.intro (rfl) ?_
              refine And.intro (rfl) ?_
              refine ct_159 (by omega) hT hx (by omega) (fun _ => ?_) (fun h => absurd h nz) (fun h => absurd h nz)
              refine And.intro (by first | omega | (simp only [mS_iff, eq_self, Int.reduceEq, true_and, and_true, false_and, and_false, and_self, ↓reduceIte]; omega) | (simp only [mS_iff, eq_self, Int.reduceEq, true_and, and_true, false_and, and_false, and_self, ↓reduceIte] at *; omega)) ?_
              generalize h87 : mN mw63 16 6 = mw85
              generalize h88 : mw63 0 0 + 1 = r86
              have rr := Eq.symm h88
              obtain ⟨n1, n2, n3, n4, n5, n6⟩ := mN_f h87 h88 (by omega)
              have n7 : mw85 1 34 = mw63 1 34 := n5 1 34 (by omega) (by omega)
              have hx := hx.keep (fun x j a b => n5 x j (by omega) (by omega))
              have fr := fr.N n1 n2 n5 n6 (Eq.symm h88) (by omega) (by omega)
              have cn := fr.1
              have cs := fr.2.1
              refine And.intro (show -2147483648 ≤ dep + 1 ∧ dep + 1 ≤ 2147483647 by first | omega | (simp only [mS_iff, eq_self, Int.reduceEq, true_and, and_true, false_and, and_false, and_self, ↓reduceIte]; omega) | (simp only [mS_iff, eq_self, Int.reduceEq, true_and, and_true, false_and, and_false, and_self, ↓reduceIte] at *; omega)) ?_
              refine And.intro (rfl) ?_
              refine (ih n0 (by omega)).2.2.2.2.2 _ _ _ (dep + 1) _ _ _ g0 (by omega) hx (by omega) (by omega) (fun _ => by omega) (by omega) (fun _ mw90 h93 h94 h95 => ?_) (fun h => absurd h nz) (fun h => absurd h nz)
              have t7 := h93.K.2
              have cn1 := h93.1
              have cs1 := h93.2.1
              have fr := fr.trans h93
              have hx := h95
              have cn := fr.1
              have cs := fr.2.1
              refine And.intro (show 0 < r86 by first | omega | (simp only [mS_iff, eq_self, Int.reduceEq, true_and, and_true, false_and, and_false, and_self, ↓reduceIte]; omega) | (simp only [mS_iff, eq_self, Int.reduceEq, true_and, and_true, false_and, and_false, and_self, ↓reduceIte] at *; omega)) ?_
              refine ct_334 (by omega) (by omega) (by omega) (((t7 _ _ (by omega) (by omega)).trans n3)) (fun mw100 h101 h102 h103 h104 h105 h106 h107 h108 h109 h110 => ?_)
              have i7 : mw100 1 34 = mw90 1 34 := h101.2.2.1 1 34 (by omega) (by omega) (by omega)
              have hx := hx.keep (fun x j a b => h101.2.2.1 x j (by omega) (by omega) (by omega))
              have o1 := h101.1
              have o2 := h101.2.1
              have fr := fr.O h101 (by omega) (by omega) (by omega) (by omega)
              have cn := fr.1
              have cs := fr.2.1
              exact hQe rfl _ _ es _ _ _ fr (by omega) hx nz (by omega)
            · have t7 := h79.K.2
              have cn1 := h79.1
              have cs1 := h79.2.1
              have fr := fr.trans h79
              have hx := h83
              have cn := fr.1
              have cs := fr.2.1
              have eo : c_x K A V n0 9 (dep + 1) (q + 1) (m 1 34 + 1) g0 = .inr (qo75, ko76, g77) := by rw [show (m 1 34 + 1) = mw12 1 34 by omega]; exact h78
              have es := es.trans (c_bd_r eo)
              have nd3 := nd84
              have kl := kK.rfl mw73
              refine And.intro (rfl) ?_
              refine And.intro (rfl) ?_
              refine ct_159 (by omega) hT hx (by omega) (fun h => absurd rfl h) (fun _ h111 mw112 h113 h114 => ?_) (fun _ h111 mw112 h113 h114 => ?_)
              · have hn1 := h113 1 34 (by omega)
                have hn2 := h113 0 0 (by omega)
                have hn3 := h113 0 1 (by omega)
                have kl := kl.trans (fr_t.K h113)
                have fr := fr.trans (fr_t.C h113)
                have hx := h114
                have cn := fr.1
                have cs := fr.2.1
                have es := es.trans (c_wt_y h111)
                refine And.intro (by first | omega | (simp only [mS_iff, eq_self, Int.reduceEq, true_and, and_true, false_and, and_false, and_self, ↓reduceIte]; omega) | (simp only [mS_iff, eq_self, Int.reduceEq, true_and, and_true, false_and, and_false, and_self, ↓reduceIte] at *; omega)) ?_
                generalize h117 : mN mw112 16 6 = mw115
                generalize h118 : mw112 0 0 + 1 = r116
                have rr := Eq.symm h118
                obtain ⟨n1, n2, n3, n4, n5, n6⟩ := mN_f h117 h118 (by omega)
                have n7 : mw115 1 34 = mw112 1 34 := n5 1 34 (by omega) (by omega)
                have hx := hx.keep (fun x j a b => n5 x j (by omega) (by omega))
                have fr := fr.N n1 n2 n5 n6 (Eq.symm h118) (by omega) (by omega)
                have cn := fr.1
                have cs := fr.2.1
                have kl := kl.N n1 n5 (Eq.symm h118)
                refine And.intro (show -2147483648 ≤ dep + 1 ∧ dep + 1 ≤ 2147483647 by first | omega | (simp only [mS_iff, eq_self, Int.reduceEq, true_and, and_true, false_and, and_false, and_self, ↓reduceIte]; omega) | (simp only [mS_iff, eq_self, Int.reduceEq, true_and, and_true, false_and, and_false, and_self, ↓reduceIte] at *; omega)) ?_
                refine And.intro (rfl) ?_
                refine (ih n0 (by omega)).2.2.2.2.2 _ _ _ (dep + 1) _ _ _ g0 (by omega) hx (by omega) (by omega) (fun _ => by omega) (by omega) (fun h => absurd rfl h) (fun _ c127 pl128 h119 mw120 r121 qe122 h123 h124 h125 h126 h129 => ?_) (fun _ qo132 ko133 g134 h135 mw130 r131 h136 h137 h138 h139 h140 nd141 => ?_)
                · have kl := kl.trans h123.K
                  have t7 := h123.K.2
                  have cn1 := h123.1
                  have cs1 := h123.2.1
                  have fr := fr.trans h123
                  have hx := h125
                  have cn := fr.1
                  have cs := fr.2.1
                  have nz := h126
                  have ec : c_x K A V n0 9 (dep + 1) (qo75 + 1) ko76 g0 = .inl (c127, pl128) := by rw [show ko76 = mw115 1 34 by omega]; exact h119
                  have es := es.trans (c_bd_l ec)
                  refine And.intro (show 0 < r116 by first | omega | (simp only [mS_iff, eq_self, Int.reduceEq, true_and, and_true, false_and, and_false, and_self, ↓reduceIte]; omega) | (simp only [mS_iff, eq_self, Int.reduceEq, true_and, and_true, false_and, and_false, and_self, ↓reduceIte] at *; omega)) ?_
                  refine ct_334 (by omega) (by omega) (by omega) (((t7 _ _ (by omega) (by omega)).trans n3)) (fun mw142 h143 h144 h145 h146 h147 h148 h149 h150 h151 h152 => ?_)
                  have i7 : mw142 1 34 = mw120 1 34 := h143.2.2.1 1 34 (by omega) (by omega) (by omega)
                  have hx := hx.keep (fun x j a b => h143.2.2.1 x j (by omega) (by omega) (by omega))
                  have o1 := h143.1
                  have o2 := h143.2.1
                  have fr := fr.O h143 (by omega) (by omega) (by omega) (by omega)
                  have cn := fr.1
                  have cs := fr.2.1
                  exact hQe rfl _ _ es _ _ _ fr (by omega) hx nz (by omega)
                · have kl := kl.trans h136.K
                  have t7 := h136.K.2
                  have cn1 := h136.1
                  have cs1 := h136.2.1
                  have fr := fr.trans h136
                  have hx := h140
                  have cn := fr.1
                  have cs := fr.2.1
                  have eo : c_x K A V n0 9 (dep + 1) (qo75 + 1) ko76 g0 = .inr (qo132, ko133, g134) := by rw [show ko76 = mw115 1 34 by omega]; exact h135
                  have es := es.trans (c_bd_r eo)
                  have nd4 := nd141
                  refine And.intro (show 0 < r116 by first | omega | (simp only [mS_iff, eq_self, Int.reduceEq, true_and, and_true, false_and, and_false, and_self, ↓reduceIte]; omega) | (simp only [mS_iff, eq_self, Int.reduceEq, true_and, and_true, false_and, and_false, and_self, ↓reduceIte] at *; omega)) ?_
                  refine ct_334 (by omega) (by omega) (by omega) (((t7 _ _ (by omega) (by omega)).trans n3)) (fun mw153 h154 h155 h156 h157 h158 h159 h160 h161 h162 h163 => ?_)
                  have i7 : mw153 1 34 = mw130 1 34 := h154.2.2.1 1 34 (by omega) (by omega) (by omega)
                  have hx := hx.keep (fun x j a b => h154.2.2.1 x j (by omega) (by omega) (by omega))
                  have o1 := h154.1
                  have o2 := h154.2.1
                  have fr := fr.O h154 (by omega) (by omega) (by omega) (by omega)
                  have cn := fr.1
                  have cs := fr.2.1
                  exact hQ rfl _ _ _ es _ _ fr (by omega) (by omega) (by omega) hx ((hNd_try (lo1 := mw12 0 0 + 1) (hi1 := mw73 0 0) (p1 := ko76 - mw12 1 34) (lo2 := mw115 0 0 + 1) (hi2 := mw130 0 0) (p2 := ko133 - mw115 1 34) h156 ⟨by omega, by omega⟩ h157 h158 ⟨by omega, by omega⟩ (by rw [h162]; exact h163) h159 h160 (nd3.mv (fun y j u v => (h154.2.2.1 y j (by omega) (by omega) (by omega)).trans (kl.2 y j (by omega) v))) (nd4.mv (fun y j u v => h154.2.2.1 y j (by omega) (by omega) v)) ⟨by omega, by omega⟩ ⟨by omega, by omega⟩).wd (by omega))
              · have hn1 := h113 1 34 (by omega)
                have hn2 := h113 0 0 (by omega)
                have hn3 := h113 0 1 (by omega)
                have kl := kl.trans (fr_t.K h113)
                have fr := fr.trans (fr_t.C h113)
                have hx := h114
                have cn := fr.1
                have cs := fr.2.1
                have nz : x_wr (K qo75) ≠ 0 := by unfold x_wr; omega
                have es := es.trans (c_wt_n h111)
                refine And.intro (by first | omega | (simp only [mS_iff, eq_self, Int.reduceEq, true_and, and_true, false_and, and_false, and_self, ↓reduceIte]; omega) | (simp only [mS_iff, eq_self, Int.reduceEq, true_and, and_true, false_and, and_false, and_self, ↓reduceIte] at *; omega)) ?_
                generalize h166 : mN mw112 16 6 = mw164
                generalize h167 : mw112 0 0 + 1 = r165
                have rr := Eq.symm h167
                obtain ⟨n1, n2, n3, n4, n5, n6⟩ := mN_f h166 h167 (by omega)
                have n7 : mw164 1 34 = mw112 1 34 := n5 1 34 (by omega) (by omega)
                have hx := hx.keep (fun x j a b => n5 x j (by omega) (by omega))
                have fr := fr.N n1 n2 n5 n6 (Eq.symm h167) (by omega) (by omega)
                have cn := fr.1
                have cs := fr.2.1
                have kl := kl.N n1 n5 (Eq.symm h167)
                refine And.intro (show -2147483648 ≤ dep + 1 ∧ dep + 1 ≤ 2147483647 by first | omega | (simp only [mS_iff, eq_self, Int.reduceEq, true_and, and_true, false_and, and_false, and_self, ↓reduceIte]; omega) | (simp only [mS_iff, eq_self, Int.reduceEq, true_and, and_true, false_and, and_false, and_self, ↓reduceIte] at *; omega)) ?_
                refine And.intro (rfl) ?_
                refine (ih n0 (by omega)).2.2.2.2.2 _ _ _ (dep + 1) _ _ _ g0 (by omega) hx (by omega) (by omega) (fun _ => by omega) (by omega) (fun _ mw169 h172 h173 h174 => ?_) (fun h => absurd h nz) (fun h => absurd h nz)
                have kl := kl.trans h172.K
                have t7 := h172.K.2
                have cn1 := h172.1
                have cs1 := h172.2.1
                have fr := fr.trans h172
                have hx := h174
                have cn := fr.1
                have cs := fr.2.1
                refine And.intro (show 0 < r165 by first | omega | (simp only [mS_iff, eq_self, Int.reduceEq, true_and, and_true, false_and, and_false, and_self, ↓reduceIte]; omega) | (simp only [mS_iff, eq_self, Int.reduceEq, true_and, and_true, false_and, and_false, and_self, ↓reduceIte] at *; omega)) ?_
                refine ct_334 (by omega) (by omega) (by omega) (((t7 _ _ (by omega) (by omega)).trans n3)) (fun mw179 h180 h181 h182 h183 h184 h185 h186 h187 h188 h189 => ?_)
                have i7 : mw179 1 34 = mw169 1 34 := h180.2.2.1 1 34 (by omega) (by omega) (by omega)
                have hx := hx.keep (fun x j a b => h180.2.2.1 x j (by omega) (by omega) (by omega))
                have o1 := h180.1
                have o2 := h180.2.1
                have fr := fr.O h180 (by omega) (by omega) (by omega) (by omega)
                have cn := fr.1
                have cs := fr.2.1
                exact hQe rfl _ _ es _ _ _ fr (by omega) hx nz (by omega)
          · replace h19 : (K q) = 70 := h19
            have es := es.trans (if_pos (by omega))
            skip
            skip
            refine And.intro (by first | omega | (simp only [mS_iff, eq_self, Int.reduceEq, true_and, and_true, false_and, and_false, and_self, ↓reduceIte]; omega) | (simp only [mS_iff, eq_self, Int.reduceEq, true_and, and_true, false_and, and_false, and_self, ↓reduceIte] at *; omega)) ?_
            generalize h192 : mN mw12 14 5 = mw190
            generalize h193 : mw12 0 0 + 1 = r191
            have rr := Eq.symm h193
            obtain ⟨n1, n2, n3, n4, n5, n6⟩ := mN_f h192 h193 (by omega)
            have n7 : mw190 1 34 = mw12 1 34 := n5 1 34 (by omega) (by omega)
            have hx := hx.keep (fun x j a b => n5 x j (by omega) (by omega))
            have fr := fr.N n1 n2 n5 n6 (Eq.symm h193) (by omega) (by omega)
            have cn := fr.1
            have cs := fr.2.1
            refine And.intro (rfl) ?_
            refine And.intro (rfl) ?_
            refine And.intro (rfl) ?_
            refine And.intro (rfl) ?_
            have hq := hx.2.1
            have hb := hx.2.2.1
            refine And.intro (show -2147483648 ≤ (mw190 13 5) - 1 ∧ (mw190 13 5) - 1 ≤ 2147483647 by first | omega | (simp only [mS_iff, eq_self, Int.reduceEq, true_and, and_true, false_and, and_false, and_self, ↓reduceIte]; omega) | (simp only [mS_iff, eq_self, Int.reduceEq, true_and, and_true, false_and, and_false, and_self, ↓reduceIte] at *; omega)) ?_
            refine And.intro (⟨rfl, by omega⟩) ?_
            rw [show mw190 17 (mw190 13 5 - 1) = V q by rw [hx.2.1, show (q + 1) - 1 = q by omega]; exact (hx.1 _ (by omega) (by omega)).2.2]
            refine And.intro (show 0 < r191 by first | omega | (simp only [mS_iff, eq_self, Int.reduceEq, true_and, and_true, false_and, and_false, and_self, ↓reduceIte]; omega) | (simp only [mS_iff, eq_self, Int.reduceEq, true_and, and_true, false_and, and_false, and_self, ↓reduceIte] at *; omega)) ?_
            refine ct_332 (by omega) (by omega) (by omega) (n3) (fun mw194 h195 h196 h197 h198 h199 h200 h201 h202 h203 => ?_)
            have i7 : mw194 1 34 = mw190 1 34 := h195.2.2.1 1 34 (by omega) (by omega) (by omega)
            have hx := hx.keep (fun x j a b => h195.2.2.1 x j (by omega) (by omega) (by omega))
            have o1 := h195.1
            have o2 := h195.2.1
            have fr := fr.O h195 (by omega) (by omega) (by omega) (by omega)
            have cn := fr.1
            have cs := fr.2.1
            exact hQ rfl _ _ _ es _ _ fr (by omega) (by omega) (by omega) hx ((hNd_num h197 ⟨by omega, by omega⟩ h198 h199 ⟨by omega, by omega⟩ (by rw [h202]; exact h203) h200).wd (by omega))
          · replace h19 : (K q) = 145 := h19
            have es := es.trans ((if_neg (by omega)).trans ((if_neg (by omega)).trans (if_pos (by omega))))
            skip
            refine And.intro (by first | omega | (simp only [mS_iff, eq_self, Int.reduceEq, true_and, and_true, false_and, and_false, and_self, ↓reduceIte]; omega) | (simp only [mS_iff, eq_self, Int.reduceEq, true_and, and_true, false_and, and_false, and_self, ↓reduceIte] at *; omega)) ?_
            generalize h206 : mN mw12 13 6 = mw204
            generalize h207 : mw12 0 0 + 1 = r205
            have rr := Eq.symm h207
            obtain ⟨n1, n2, n3, n4, n5, n6⟩ := mN_f h206 h207 (by omega)
            have n7 : mw204 1 34 = mw12 1 34 := n5 1 34 (by omega) (by omega)
            have hx := hx.keep (fun x j a b => n5 x j (by omega) (by omega))
            have fr := fr.N n1 n2 n5 n6 (Eq.symm h207) (by omega) (by omega)
            have cn := fr.1
            have cs := fr.2.1
            refine And.intro (show -2147483648 ≤ dep + 1 ∧ dep + 1 ≤ 2147483647 by first | omega | (simp only [mS_iff, eq_self, Int.reduceEq, true_and, and_true, false_and, and_false, and_self, ↓reduceIte]; omega) | (simp only [mS_iff, eq_self, Int.reduceEq, true_and, and_true, false_and, and_false, and_self, ↓reduceIte] at *; omega)) ?_
            refine And.intro (rfl) ?_
            refine (ih n0 (by omega)).2.2.2.2.2 _ _ _ (dep + 1) _ _ _ g0 (by omega) hx (by omega) (by omega) (fun _ => by omega) (by omega) (fun h => absurd rfl h) (fun _ c216 pl217 h208 mw209 r210 qe211 h212 h213 h214 h215 h218 => ?_) (fun _ qo221 ko222 g223 h224 mw219 r220 h225 h226 h227 h228 h229 nd230 => ?_)
            · have t7 := h212.K.2
              have cn1 := h212.1
              have cs1 := h212.2.1
              have fr := fr.trans h212
              have hx := h214
              have cn := fr.1
              have cs := fr.2.1
              have nz := h215
              have ec : c_x K A V n0 9 (dep + 1) (q + 1) (m 1 34 + 1) g0 = .inl (c216, pl217) := by rw [show (m 1 34 + 1) = mw204 1 34 by omega]; exact h208
              have es := es.trans (c_bd_l ec)
              refine And.intro (show 0 < r205 by first | omega | (simp only [mS_iff, eq_self, Int.reduceEq, true_and, and_true, false_and, and_false, and_self, ↓reduceIte]; omega) | (simp only [mS_iff, eq_self, Int.reduceEq, true_and, and_true, false_and, and_false, and_self, ↓reduceIte] at *; omega)) ?_
              refine ct_327 (by omega) (by omega) (by omega) (((t7 _ _ (by omega) (by omega)).trans n3)) (fun mw231 h232 h233 h234 h235 h236 h237 h238 h239 h240 h241 => ?_)
              have i7 : mw231 1 34 = mw209 1 34 := h232.2.2.1 1 34 (by omega) (by omega) (by omega)
              have hx := hx.keep (fun x j a b => h232.2.2.1 x j (by omega) (by omega) (by omega))
              have o1 := h232.1
              have o2 := h232.2.1
              have fr := fr.O h232 (by omega) (by omega) (by omega) (by omega)
              have cn := fr.1
              have cs := fr.2.1
              exact hQe rfl _ _ es _ _ _ fr (by omega) hx nz (by omega)
            · have t7 := h225.K.2
              have cn1 := h225.1
              have cs1 := h225.2.1
              have fr := fr.trans h225
              have hx := h229
              have cn := fr.1
              have cs := fr.2.1
              have eo : c_x K A V n0 9 (dep + 1) (q + 1) (m 1 34 + 1) g0 = .inr (qo221, ko222, g223) := by rw [show (m 1 34 + 1) = mw204 1 34 by omega]; exact h224
              have es := es.trans (c_bd_r eo)
              have nd2 := nd230
              refine And.intro (show 0 < r205 by first | omega | (simp only [mS_iff, eq_self, Int.reduceEq, true_and, and_true, false_and, and_false, and_self, ↓reduceIte]; omega) | (simp only [mS_iff, eq_self, Int.reduceEq, true_and, and_true, false_and, and_false, and_self, ↓reduceIte] at *; omega)) ?_
              refine ct_327 (by omega) (by omega) (by omega) (((t7 _ _ (by omega) (by omega)).trans n3)) (fun mw242 h243 h244 h245 h246 h247 h248 h249 h250 h251 h252 => ?_)
              have i7 : mw242 1 34 = mw219 1 34 := h243.2.2.1 1 34 (by omega) (by omega) (by omega)
              have hx := hx.keep (fun x j a b => h243.2.2.1 x j (by omega) (by omega) (by omega))
              have o1 := h243.1
              have o2 := h243.2.1
              have fr := fr.O h243 (by omega) (by omega) (by omega) (by omega)
              have cn := fr.1
              have cs := fr.2.1
              have ndx := nd2.mv (fun y j u v => h243.2.2.1 y j (by omega) (by omega) v)
              exact hQ rfl _ _ _ es _ _ fr (by omega) (by omega) (by omega) hx ((hNd_one (lo1 := mw204 0 0 + 1) (hi1 := mw219 0 0) (pc := ko222 - mw204 1 34) h245 ⟨by omega, by omega⟩ h246 h247 ⟨by omega, by omega⟩ (by rw [h251]; exact h252) h248 h249 (ndx) ⟨by omega, by omega⟩ (by omega)).wd (by omega))
          · simp only [am_none] at h19
            have es := es.trans ((if_neg (by omega)).trans ((if_neg (by omega)).trans ((if_neg (by omega)).trans (if_neg (by omega)))))
            skip
            refine And.intro (rfl) ?_
            refine And.intro (rfl) ?_
            refine ct_159 (by omega) hT hx (by omega) (fun h => absurd rfl h) (fun _ h253 mw254 h255 h256 => ?_) (fun _ h253 mw254 h255 h256 => ?_)
            · have hn1 := h255 1 34 (by omega)
              have hn2 := h255 0 0 (by omega)
              have hn3 := h255 0 1 (by omega)
              have fr := fr.trans (fr_t.C h255)
              have hx := h256
              have cn := fr.1
              have cs := fr.2.1
              have es := es.trans (c_wt_y h253)
              refine And.intro (show -2147483648 ≤ dep + 1 ∧ dep + 1 ≤ 2147483647 by first | omega | (simp only [mS_iff, eq_self, Int.reduceEq, true_and, and_true, false_and, and_false, and_self, ↓reduceIte]; omega) | (simp only [mS_iff, eq_self, Int.reduceEq, true_and, and_true, false_and, and_false, and_self, ↓reduceIte] at *; omega)) ?_
              refine And.intro (rfl) ?_
              refine (ih n0 (by omega)).1 _ _ _ (dep + 1) _ _ _ g0 (by omega) hx (by omega) (by omega) (fun _ => by omega) (by omega) (fun h => absurd rfl h) (fun _ c265 pl266 h257 mw258 r259 qe260 h261 h262 h263 h264 h267 => ?_) (fun _ qo270 ko271 g272 h273 mw268 r269 h274 h275 h276 h277 h278 nd279 => ?_)
              · have t7 := h261.K.2
                have cn1 := h261.1
                have cs1 := h261.2.1
                have fr := fr.trans h261
                have hx := h263
                have cn := fr.1
                have cs := fr.2.1
                have nz := h264
                have ec : c_x K A V n0 0 (dep + 1) ((q + 1) + 1) (m 1 34 + 1) g0 = .inl (c265, pl266) := by rw [show (m 1 34 + 1) = mw254 1 34 by omega]; exact h257
                have es := es.trans (c_bd_l ec)
                skip
                refine And.intro (rfl) ?_
                refine And.intro (rfl) ?_
                refine ct_159 (by omega) hT hx (by omega) (fun _ => ?_) (fun h => absurd h nz) (fun h => absurd h nz)
                skip
                refine And.intro (by first | omega | (simp only [mS_iff, eq_self, Int.reduceEq, true_and, and_true, false_and, and_false, and_self, ↓reduceIte]; omega) | (simp only [mS_iff, eq_self, Int.reduceEq, true_and, and_true, false_and, and_false, and_self, ↓reduceIte] at *; omega)) ?_
                generalize h282 : mN mw258 13 6 = mw280
                generalize h283 : mw258 0 0 + 1 = r281
                have rr := Eq.symm h283
                obtain ⟨n1, n2, n3, n4, n5, n6⟩ := mN_f h282 h283 (by omega)
                have n7 : mw280 1 34 = mw258 1 34 := n5 1 34 (by omega) (by omega)
                have hx := hx.keep (fun x j a b => n5 x j (by omega) (by omega))
                have fr := fr.N n1 n2 n5 n6 (Eq.symm h283) (by omega) (by omega)
                have cn := fr.1
                have cs := fr.2.1
                refine And.intro (show 0 < r281 by first | omega | (simp only [mS_iff, eq_self, Int.reduceEq, true_and, and_true, false_and, and_false, and_self, ↓reduceIte]; omega) | (simp only [mS_iff, eq_self, Int.reduceEq, true_and, and_true, false_and, and_false, and_self, ↓reduceIte] at *; omega)) ?_
                refine ct_327 (by omega) (by omega) (by omega) (n3) (fun mw284 h285 h286 h287 h288 h289 h290 h291 h292 h293 h294 => ?_)
                have i7 : mw284 1 34 = mw280 1 34 := h285.2.2.1 1 34 (by omega) (by omega) (by omega)
                have hx := hx.keep (fun x j a b => h285.2.2.1 x j (by omega) (by omega) (by omega))
                have o1 := h285.1
                have o2 := h285.2.1
                have fr := fr.O h285 (by omega) (by omega) (by omega) (by omega)
                have cn := fr.1
                have cs := fr.2.1
                exact hQe rfl _ _ es _ _ _ fr (by omega) hx nz (by omega)
              · have t7 := h274.K.2
                have cn1 := h274.1
                have cs1 := h274.2.1
                have fr := fr.trans h274
                have hx := h278
                have cn := fr.1
                have cs := fr.2.1
                have eo : c_x K A V n0 0 (dep + 1) ((q + 1) + 1) (m 1 34 + 1) g0 = .inr (qo270, ko271, g272) := by rw [show (m 1 34 + 1) = mw254 1 34 by omega]; exact h273
                have es := es.trans (c_bd_r eo)
                have nd5 := nd279
                have kl := kK.rfl mw268
                refine And.intro (rfl) ?_
                refine And.intro (rfl) ?_
                refine ct_159 (by omega) hT hx (by omega) (fun h => absurd rfl h) (fun _ h295 mw296 h297 h298 => ?_) (fun _ h295 mw296 h297 h298 => ?_)
                · have hn1 := h297 1 34 (by omega)
                  have hn2 := h297 0 0 (by omega)
                  have hn3 := h297 0 1 (by omega)
                  have kl := kl.trans (fr_t.K h297)
                  have fr := fr.trans (fr_t.C h297)
                  have hx := h298
                  have cn := fr.1
                  have cs := fr.2.1
                  have es := es.trans (c_wt_y h295)
                  skip
                  refine And.intro (by first | omega | (simp only [mS_iff, eq_self, Int.reduceEq, true_and, and_true, false_and, and_false, and_self, ↓reduceIte]; omega) | (simp only [mS_iff, eq_self, Int.reduceEq, true_and, and_true, false_and, and_false, and_self, ↓reduceIte] at *; omega)) ?_
                  generalize h301 : mN mw296 13 6 = mw299
                  generalize h302 : mw296 0 0 + 1 = r300
                  have rr := Eq.symm h302
                  obtain ⟨n1, n2, n3, n4, n5, n6⟩ := mN_f h301 h302 (by omega)
                  have n7 : mw299 1 34 = mw296 1 34 := n5 1 34 (by omega) (by omega)
                  have hx := hx.keep (fun x j a b => n5 x j (by omega) (by omega))
                  have fr := fr.N n1 n2 n5 n6 (Eq.symm h302) (by omega) (by omega)
                  have cn := fr.1
                  have cs := fr.2.1
                  have kl := kl.N n1 n5 (Eq.symm h302)
                  refine And.intro (show 0 < r300 by first | omega | (simp only [mS_iff, eq_self, Int.reduceEq, true_and, and_true, false_and, and_false, and_self, ↓reduceIte]; omega) | (simp only [mS_iff, eq_self, Int.reduceEq, true_and, and_true, false_and, and_false, and_self, ↓reduceIte] at *; omega)) ?_
                  refine ct_327 (by omega) (by omega) (by omega) (n3) (fun mw303 h304 h305 h306 h307 h308 h309 h310 h311 h312 h313 => ?_)
                  have i7 : mw303 1 34 = mw299 1 34 := h304.2.2.1 1 34 (by omega) (by omega) (by omega)
                  have hx := hx.keep (fun x j a b => h304.2.2.1 x j (by omega) (by omega) (by omega))
                  have o1 := h304.1
                  have o2 := h304.2.1
                  have fr := fr.O h304 (by omega) (by omega) (by omega) (by omega)
                  have cn := fr.1
                  have cs := fr.2.1
                  have ndx := nd5.mv (fun y j u v => (h304.2.2.1 y j (by omega) (by omega) (by omega)).trans (kl.2 y j (by omega) v))
                  exact hQ rfl _ _ _ es _ _ fr (by omega) (by omega) (by omega) hx ((hNd_one (lo1 := mw254 0 0 + 1) (hi1 := mw268 0 0) (pc := ko271 - mw254 1 34) h306 ⟨by omega, by omega⟩ h307 h308 ⟨by omega, by omega⟩ (by rw [h312]; exact h313) h309 h310 (ndx) ⟨by omega, by omega⟩ (by omega)).wd (by omega))
                · have hn1 := h297 1 34 (by omega)
                  have hn2 := h297 0 0 (by omega)
                  have hn3 := h297 0 1 (by omega)
                  have kl := kl.trans (fr_t.K h297)
                  have fr := fr.trans (fr_t.C h297)
                  have hx := h298
                  have cn := fr.1
                  have cs := fr.2.1
                  have nz : x_wr (K qo270) ≠ 0 := by unfold x_wr; omega
                  have es := es.trans (c_wt_n h295)
                  skip
                  refine And.intro (by first | omega | (simp only [mS_iff, eq_self, Int.reduceEq, true_and, and_true, false_and, and_false, and_self, ↓reduceIte]; omega) | (simp only [mS_iff, eq_self, Int.reduceEq, true_and, and_true, false_and, and_false, and_self, ↓reduceIte] at *; omega)) ?_
                  generalize h316 : mN mw296 13 6 = mw314
                  generalize h317 : mw296 0 0 + 1 = r315
                  have rr := Eq.symm h317
                  obtain ⟨n1, n2, n3, n4, n5, n6⟩ := mN_f h316 h317 (by omega)
                  have n7 : mw314 1 34 = mw296 1 34 := n5 1 34 (by omega) (by omega)
                  have hx := hx.keep (fun x j a b => n5 x j (by omega) (by omega))
                  have fr := fr.N n1 n2 n5 n6 (Eq.symm h317) (by omega) (by omega)
                  have cn := fr.1
                  have cs := fr.2.1
                  have kl := kl.N n1 n5 (Eq.symm h317)
                  refine And.intro (show 0 < r315 by first | omega | (simp only [mS_iff, eq_self, Int.reduceEq, true_and, and_true, false_and, and_false, and_self, ↓reduceIte]; omega) | (simp only [mS_iff, eq_self, Int.reduceEq, true_and, and_true, false_and, and_false, and_self, ↓reduceIte] at *; omega)) ?_
                  refine ct_327 (by omega) (by omega) (by omega) (n3) (fun mw318 h319 h320 h321 h322 h323 h324 h325 h326 h327 h328 => ?_)
                  have i7 : mw318 1 34 = mw314 1 34 := h319.2.2.1 1 34 (by omega) (by omega) (by omega)
                  have hx := hx.keep (fun x j a b => h319.2.2.1 x j (by omega) (by omega) (by omega))
                  have o1 := h319.1
                  have o2 := h319.2.1
                  have fr := fr.O h319 (by omega) (by omega) (by omega) (by omega)
                  have cn := fr.1
                  have cs := fr.2.1
                  exact hQe rfl _ _ es _ _ _ fr (by omega) hx nz (by omega)
            · have hn1 := h255 1 34 (by omega)
              have hn2 := h255 0 0 (by omega)
              have hn3 := h255 0 1 (by omega)
              have fr := fr.trans (fr_t.C h255)
              have hx := h256
              have cn := fr.1
              have cs := fr.2.1
              have nz : x_wr (K (q + 1)) ≠ 0 := by unfold x_wr; omega
              have es := es.trans (c_wt_n h253)
              refine And.intro (show -2147483648 ≤ dep + 1 ∧ dep + 1 ≤ 2147483647 by first | omega | (simp only [mS_iff, eq_self, Int.reduceEq, true_and, and_true, false_and, and_false, and_self, ↓reduceIte]; omega) | (simp only [mS_iff, eq_self, Int.reduceEq, true_and, and_true, false_and, and_false, and_self, ↓reduceIte] at *; omega)) ?_
              refine And.intro (rfl) ?_
              refine (ih n0 (by omega)).1 _ _ _ (dep + 1) _ _ _ g0 (by omega) hx (by omega) (by omega) (fun _ => by omega) (by omega) (fun _ mw330 h333 h334 h335 => ?_) (fun h => absurd h nz) (fun h => absurd h nz)
              have t7 := h333.K.2
              have cn1 := h333.1
              have cs1 := h333.2.1
              have fr := fr.trans h333
              have hx := h335
              have cn := fr.1
              have cs := fr.2.1
              skip
              refine And.intro (rfl) ?_
              refine And.intro (rfl) ?_
              refine ct_159 (by omega) hT hx (by omega) (fun _ => ?_) (fun h => absurd h nz) (fun h => absurd h nz)
              skip
              refine And.intro (by first | omega | (simp only [mS_iff, eq_self, Int.reduceEq, true_and, and_true, false_and, and_false, and_self, ↓reduceIte]; omega) | (simp only [mS_iff, eq_self, Int.reduceEq, true_and, and_true, false_and, and_false, and_self, ↓reduceIte] at *; omega)) ?_
              generalize h342 : mN mw330 13 6 = mw340
              generalize h343 : mw330 0 0 + 1 = r341
              have rr := Eq.symm h343
              obtain ⟨n1, n2, n3, n4, n5, n6⟩ := mN_f h342 h343 (by omega)
              have n7 : mw340 1 34 = mw330 1 34 := n5 1 34 (by omega) (by omega)
              have hx := hx.keep (fun x j a b => n5 x j (by omega) (by omega))
              have fr := fr.N n1 n2 n5 n6 (Eq.symm h343) (by omega) (by omega)
              have cn := fr.1
              have cs := fr.2.1
              refine And.intro (show 0 < r341 by first | omega | (simp only [mS_iff, eq_self, Int.reduceEq, true_and, and_true, false_and, and_false, and_self, ↓reduceIte]; omega) | (simp only [mS_iff, eq_self, Int.reduceEq, true_and, and_true, false_and, and_false, and_self, ↓reduceIte] at *; omega)) ?_
              refine ct_327 (by omega) (by omega) (by omega) (n3) (fun mw344 h345 h346 h347 h348 h349 h350 h351 h352 h353 h354 => ?_)
              have i7 : mw344 1 34 = mw340 1 34 := h345.2.2.1 1 34 (by omega) (by omega) (by omega)
              have hx := hx.keep (fun x j a b => h345.2.2.1 x j (by omega) (by omega) (by omega))
              have o1 := h345.1
              have o2 := h345.2.1
              have fr := fr.O h345 (by omega) (by omega) (by omega) (by omega)
              have cn := fr.1
              have cs := fr.2.1
              exact hQe rfl _ _ es _ _ _ fr (by omega) hx nz (by omega)
        · have fr := fr.trans h13
          have hx := h14
          have cn := fr.1
          have cs := fr.2.1
          have nz : (5 : Int) ≠ 0 := by omega
          have es := es.trans (c_pt_n (by omega))
          refine And.intro (rfl) ?_
          refine And.intro (rfl) ?_
          refine And.intro (fun h => absurd h (by have := hx.2.2.2.1; have := hx.2.2.2.2.1; omega)) (fun _ => ?_)
          exact hQe rfl _ _ es _ _ _ fr (by omega) hx nz (by omega)
      · have es := es.trans (if_pos (by omega))
        skip
        refine And.intro (show -2147483648 ≤ dep + 1 ∧ dep + 1 ≤ 2147483647 by first | omega | (simp only [mS_iff, eq_self, Int.reduceEq, true_and, and_true, false_and, and_false, and_self, ↓reduceIte]; omega) | (simp only [mS_iff, eq_self, Int.reduceEq, true_and, and_true, false_and, and_false, and_self, ↓reduceIte] at *; omega)) ?_
        refine And.intro (rfl) ?_
        refine (ih n0 (by omega)).1 _ _ _ (dep + 1) _ _ _ g0 (by omega) hx (by omega) (by omega) (fun _ => by omega) (by omega) (fun h => absurd rfl h) (fun _ c363 pl364 h355 mw356 r357 qe358 h359 h360 h361 h362 h365 => ?_) (fun _ qo368 ko369 g370 h371 mw366 r367 h372 h373 h374 h375 h376 nd377 => ?_)
        · have t7 := h359.K.2
          have cn1 := h359.1
          have cs1 := h359.2.1
          have fr := fr.trans h359
          have hx := h361
          have cn := fr.1
          have cs := fr.2.1
          have nz := h362
          have ec : c_x K A V n0 0 (dep + 1) (q + 1) (m 1 34) g0 = .inl (c363, pl364) := by rw [show (m 1 34) = mw8 1 34 by omega]; exact h355
          have es := es.trans (c_bd_l ec)
          skip
          refine And.intro (rfl) ?_
          refine And.intro (rfl) ?_
          refine ct_159 (by omega) hT hx (by omega) (fun _ => ?_) (fun h => absurd h nz) (fun h => absurd h nz)
          exact hQe rfl _ _ es _ _ _ fr (by omega) hx nz (by omega)
        · have t7 := h372.K.2
          have cn1 := h372.1
          have cs1 := h372.2.1
          have fr := fr.trans h372
          have hx := h376
          have cn := fr.1
          have cs := fr.2.1
          have eo : c_x K A V n0 0 (dep + 1) (q + 1) (m 1 34) g0 = .inr (qo368, ko369, g370) := by rw [show (m 1 34) = mw8 1 34 by omega]; exact h371
          have es := es.trans (c_bd_r eo)
          have nd1 := nd377
          have kl := kK.rfl mw366
          refine And.intro (rfl) ?_
          refine And.intro (rfl) ?_
          refine ct_159 (by omega) hT hx (by omega) (fun h => absurd rfl h) (fun _ h378 mw379 h380 h381 => ?_) (fun _ h378 mw379 h380 h381 => ?_)
          · have hn1 := h380 1 34 (by omega)
            have hn2 := h380 0 0 (by omega)
            have hn3 := h380 0 1 (by omega)
            have kl := kl.trans (fr_t.K h380)
            have fr := fr.trans (fr_t.C h380)
            have hx := h381
            have cn := fr.1
            have cs := fr.2.1
            have es := es.trans (c_wt_y h378)
            have ndx := (nd1.mv (fun y j u v => kl.2 y j (by omega) v)).hi (lo' := m 0 0 + 1) (hi' := mw379 0 0) (by omega) (by omega)
            exact hQ rfl _ _ _ es _ _ fr (by omega) (by omega) (by omega) hx (ndx.wd (by omega))
          · have hn1 := h380 1 34 (by omega)
            have hn2 := h380 0 0 (by omega)
            have hn3 := h380 0 1 (by omega)
            have kl := kl.trans (fr_t.K h380)
            have fr := fr.trans (fr_t.C h380)
            have hx := h381
            have cn := fr.1
            have cs := fr.2.1
            have nz : x_wr (K qo368) ≠ 0 := by unfold x_wr; omega
            have es := es.trans (c_wt_n h378)
            exact hQe rfl _ _ es _ _ _ fr (by omega) hx nz (by omega)
  · skip
    refine am_go 400 [] (am_wpc_cm _ _ _) wf_131 ?_
    refine And.intro (rfl) ?_
    refine ct_124 (by omega) hT hx (by omega) (by omega) (fun _ mw1 h2 h3 => ?_) (fun h => absurd h nz) (fun h => absurd h nz) (fun h => absurd h nz)
    have hn1 := h2 1 34 (by omega)
    have hn2 := h2 0 0 (by omega)
    have hn3 := h2 0 1 (by omega)
    have fr := fr.trans (fr_t.C h2)
    have hx := h3
    have cn := fr.1
    have cs := fr.2.1
    refine And.intro (fun h => absurd h (by decide)) (fun _ => ?_)
    exact hQf nz _ fr (by omega) hx
theorem hc_all {K A V : Int → Int} {N : Int} (hT : xT K A V N) (n : Nat) : hCP K A V N n := by
  induction n using Nat.strongRecOn with
  | _ n ih => exact ⟨hc_123 hT ih, hc_126 hT ih, hc_127 hT ih, hc_129 hT ih, hc_130 hT ih, hc_131 hT ih⟩
