/-! needs: b08 -/
/-! CONTRACTS: either, both, added, multiplied of the house; by tools/genb9.py -/
set_option maxRecDepth 100000
set_option maxHeartbeats 8000000
theorem hc_123 {K A V : Int → Int} {N : Int} {n : Nat} (hT : xT K A V N) (ih : ∀ i, i < n → hCP K A V N i) : hCa K A V N 123 0 3 n := by
  intro d m Q dep q f p g0 hd hx hdp h0 hk hmu hQf hQe hQ
  have hb := hx.2.2.1
  have hN := hT.1
  obtain ⟨n0, rfl⟩ : ∃ i, n = i + 1 := ⟨n - 1, by omega⟩
  obtain ⟨dk, hdk⟩ : ∃ k, d = k + 1 := ⟨d - 1, by omega⟩
  have fr := fr_Cl.rfl m
  have cn := fr.1
  have cs := fr.2.1
  refine am_in (k := dk) rfl (by omega) (fun d hd => ?_)
  by_cases nz : f = 0
  · subst nz
    have es : c_x K A V (n0 + 1) 0 dep q (m 1 34) g0 = _ := c_x_0
    have K17 : ∀ (Nm : Nat), ∀ (i : Nat) (qq : Int) (g : aD) (x : Int) (z3 : aV), ∀ (mw : aM), (N - qq).toNat = Nm → (i < n0 + 1) → (20 * (N - qq) + 9 ≤ (i : Int)) → (hTx mw K A V N qq 0 p) → (fr_Cl m mw) → (m 1 34 < mw 1 34 ∧ mw 1 34 ≤ 24) → (hNd mw (m 0 0 + 1) (mw 0 0) x g (mw 1 34 - m 1 34)) → (c_x K A V (n0 + 1) 0 dep q (m 1 34) g0 = c_x K A V i 1 dep qq (mw 1 34) g) → (q < qq) → (dep ≤ 14) → am_WP am_G (am_wpc am_G am_T d) [] cd_123 Q 17 [aR 1, aI dep, aR x, z3] [] mw := by
      intro Nm
      induction Nm using Nat.strongRecOn with
      | _ Nm ih17 =>
        intro i qq g x z3 mw hN hi hmw hx fr hkw ndl es hqq hd14
        have hb := hx.2.2.1
        have cn := fr.1
        have cs := fr.2.1
        have kl := kK.rfl mw
        obtain ⟨i0, rfl⟩ : ∃ k, i = k + 1 := ⟨i - 1, by omega⟩
        replace es := es.trans c_x_1
        refine am_go 400 [17] (am_wpc_cm _ _ _) wf_123 ?_
        refine And.intro (rfl) ?_
        refine And.intro (rfl) ?_
        refine ct_157 (by omega) hT hx (by omega) (fun _ h1 mw2 h3 h4 => ?_) (fun h1 => ?_)
        · have hn1 := h3 1 34 (by omega)
          have hn2 := h3 0 0 (by omega)
          have hn3 := h3 0 1 (by omega)
          have kl := kl.trans (fr_t.K h3)
          have fr := fr.trans (fr_t.C h3)
          have hx := h4
          have cn := fr.1
          have cs := fr.2.1
          have es := es.trans (if_pos h1)
          refine And.intro (fun h => absurd h (by decide)) (fun _ => ?_)
          refine And.intro (rfl) ?_
          refine And.intro (rfl) ?_
          refine And.intro (rfl) ?_
          refine And.intro (rfl) ?_
          have hq := hx.2.1
          have hb := hx.2.2.1
          refine And.intro (show -2147483648 ≤ (mw2 13 5) - 1 ∧ (mw2 13 5) - 1 ≤ 2147483647 by first | omega | (simp only [mS_iff, eq_self, Int.reduceEq, true_and, and_true, false_and, and_false, and_self, ↓reduceIte]; omega) | (simp only [mS_iff, eq_self, Int.reduceEq, true_and, and_true, false_and, and_false, and_self, ↓reduceIte] at *; omega)) ?_
          refine And.intro (⟨rfl, by omega⟩) ?_
          rw [show mw2 16 (mw2 13 5 - 1) = A qq by rw [hx.2.1, show (qq + 1) - 1 = qq by omega]; exact (hx.1 _ (by omega) (by omega)).2.1]
          refine And.intro (rfl) ?_
          refine ct_128 (by omega) hT hx rfl (by omega) (fun h8 mw5 h6 h9 h7 h10 h11 => ?_) (fun h8 mw5 h6 h9 h7 h10 h11 => ?_)
          · have kl := kl.trans h6.K
            have fr := fr.trans h6
            have hx := h7
            have cn := fr.1
            have cs := fr.2.1
            have es := es.trans (c_pt_y (by omega))
            refine And.intro (by first | omega | (simp only [mS_iff, eq_self, Int.reduceEq, true_and, and_true, false_and, and_false, and_self, ↓reduceIte]; omega) | (simp only [mS_iff, eq_self, Int.reduceEq, true_and, and_true, false_and, and_false, and_self, ↓reduceIte] at *; omega)) ?_
            generalize h14 : mN mw5 17 7 = mw12
            generalize h15 : mw5 0 0 + 1 = r13
            have rr := Eq.symm h15
            obtain ⟨n1, n2, n3, n4, n5, n6⟩ := mN_f h14 h15 (by omega)
            have n7 : mw12 1 34 = mw5 1 34 := n5 1 34 (by omega) (by omega)
            have hx := hx.keep (fun x j a b => n5 x j (by omega) (by omega))
            have fr := fr.N n1 n2 n5 n6 (Eq.symm h15) (by omega) (by omega)
            have cn := fr.1
            have cs := fr.2.1
            have kl := kl.N n1 n5 (Eq.symm h15)
            refine And.intro (rfl) ?_
            refine (ih i0 (by omega)).2.1 _ _ _ dep _ _ _ g (by omega) hx (by omega) (by omega) (fun _ => by omega) (by omega) (fun h => absurd rfl h) (fun _ c24 pl25 h16 mw17 r18 qe19 h20 h21 h22 h23 h26 => ?_) (fun _ qo29 ko30 g31 h32 mw27 r28 h33 h34 h35 h36 h37 nd38 => ?_)
            · have kl := kl.trans h20.K
              have t7 := h20.K.2
              have cn1 := h20.1
              have cs1 := h20.2.1
              have fr := fr.trans h20
              have hx := h22
              have cn := fr.1
              have cs := fr.2.1
              have nz := h23
              have ec : c_x K A V i0 2 dep (qq + 1) (mw 1 34 + 1) g = .inl (c24, pl25) := by rw [show (mw 1 34 + 1) = mw12 1 34 by omega]; exact h16
              have es := es.trans (c_bd_l ec)
              refine And.intro (show 0 < r13 by first | omega | (simp only [mS_iff, eq_self, Int.reduceEq, true_and, and_true, false_and, and_false, and_self, ↓reduceIte]; omega) | (simp only [mS_iff, eq_self, Int.reduceEq, true_and, and_true, false_and, and_false, and_self, ↓reduceIte] at *; omega)) ?_
              refine ct_335 (by omega) (by omega) (by omega) (((t7 _ _ (by omega) (by omega)).trans n3)) (fun mw39 h40 h41 h42 h43 h44 h45 h46 h47 h48 h49 h50 => ?_)
              have i7 : mw39 1 34 = mw17 1 34 := h40.2.2.1 1 34 (by omega) (by omega) (by omega)
              have hx := hx.keep (fun x j a b => h40.2.2.1 x j (by omega) (by omega) (by omega))
              have o1 := h40.1
              have o2 := h40.2.1
              have fr := fr.O h40 (by omega) (by omega) (by omega) (by omega)
              have cn := fr.1
              have cs := fr.2.1
              refine am_go 400 [] (am_wpc_cm _ _ _) wf_123 ?_
              refine And.intro (rfl) ?_
              refine And.intro (rfl) ?_
              refine ct_157 (by omega) hT hx (by omega) (fun h => absurd h nz) (fun _ => ?_)
              refine And.intro (fun _ => ?_) (fun h => absurd h (by decide))
              exact hQe rfl _ _ es _ _ _ fr (by omega) hx nz (by omega)
            · have kl := kl.trans h33.K
              have t7 := h33.K.2
              have cn1 := h33.1
              have cs1 := h33.2.1
              have fr := fr.trans h33
              have hx := h37
              have cn := fr.1
              have cs := fr.2.1
              have eo : c_x K A V i0 2 dep (qq + 1) (mw 1 34 + 1) g = .inr (qo29, ko30, g31) := by rw [show (mw 1 34 + 1) = mw12 1 34 by omega]; exact h32
              have es := es.trans (c_bd_r eo)
              have nd2 := nd38
              refine And.intro (show 0 < r13 by first | omega | (simp only [mS_iff, eq_self, Int.reduceEq, true_and, and_true, false_and, and_false, and_self, ↓reduceIte]; omega) | (simp only [mS_iff, eq_self, Int.reduceEq, true_and, and_true, false_and, and_false, and_self, ↓reduceIte] at *; omega)) ?_
              refine ct_335 (by omega) (by omega) (by omega) (((t7 _ _ (by omega) (by omega)).trans n3)) (fun mw51 h52 h53 h54 h55 h56 h57 h58 h59 h60 h61 h62 => ?_)
              have i7 : mw51 1 34 = mw27 1 34 := h52.2.2.1 1 34 (by omega) (by omega) (by omega)
              have hx := hx.keep (fun x j a b => h52.2.2.1 x j (by omega) (by omega) (by omega))
              have o1 := h52.1
              have o2 := h52.2.1
              have fr := fr.O h52 (by omega) (by omega) (by omega) (by omega)
              have cn := fr.1
              have cs := fr.2.1
              refine ih17 _ ?_ (i0) (qo29) (d_two (A qq) 0 g g31) _ _ _ (Eq.refl _) ?_ ?_ ?_ ?_ ?_ ?_ ?_ ?_ ?_
              · omega
              · omega
              · omega
              · exact hx
              · exact fr
              · omega
              · refine (hNd_two (lo1 := m 0 0 + 1) (hi1 := mw 0 0) (p1 := mw 1 34 - m 1 34) (lo2 := mw12 0 0 + 1) (hi2 := mw27 0 0) (p2 := ko30 - mw12 1 34) h54 ⟨by omega, by omega⟩ h55 h56 ⟨by omega, by omega⟩ (by rw [h61]; exact h62) h57 h58 h59 (ndl.mv (fun y j u v => (h52.2.2.1 y j (by omega) (by omega) (by omega)).trans (kl.2 y j (by omega) v))) (nd2.mv (fun y j u v => h52.2.2.1 y j (by omega) (by omega) v)) ⟨by omega, by omega⟩ ⟨by omega, by omega⟩ (by omega) (by omega)).wd (by omega)
              · rw [show mw51 1 34 = ko30 by omega]; exact es
              · omega
              · omega
          · have kl := kl.trans h6.K
            have fr := fr.trans h6
            have hx := h7
            have cn := fr.1
            have cs := fr.2.1
            have nz : (5 : Int) ≠ 0 := by omega
            have es := es.trans (c_pt_n (by omega))
            refine And.intro (by first | omega | (simp only [mS_iff, eq_self, Int.reduceEq, true_and, and_true, false_and, and_false, and_self, ↓reduceIte]; omega) | (simp only [mS_iff, eq_self, Int.reduceEq, true_and, and_true, false_and, and_false, and_self, ↓reduceIte] at *; omega)) ?_
            generalize h65 : mN mw5 17 7 = mw63
            generalize h66 : mw5 0 0 + 1 = r64
            have rr := Eq.symm h66
            obtain ⟨n1, n2, n3, n4, n5, n6⟩ := mN_f h65 h66 (by omega)
            have n7 : mw63 1 34 = mw5 1 34 := n5 1 34 (by omega) (by omega)
            have hx := hx.keep (fun x j a b => n5 x j (by omega) (by omega))
            have fr := fr.N n1 n2 n5 n6 (Eq.symm h66) (by omega) (by omega)
            have cn := fr.1
            have cs := fr.2.1
            have kl := kl.N n1 n5 (Eq.symm h66)
            refine And.intro (rfl) ?_
            refine (ih i0 (by omega)).2.1 _ _ _ dep _ _ _ g (by omega) hx (by omega) (by omega) (fun _ => by omega) (by omega) (fun _ mw68 h71 h72 h73 => ?_) (fun h => absurd h nz) (fun h => absurd h nz)
            have kl := kl.trans h71.K
            have t7 := h71.K.2
            have cn1 := h71.1
            have cs1 := h71.2.1
            have fr := fr.trans h71
            have hx := h73
            have cn := fr.1
            have cs := fr.2.1
            refine And.intro (show 0 < r64 by first | omega | (simp only [mS_iff, eq_self, Int.reduceEq, true_and, and_true, false_and, and_false, and_self, ↓reduceIte]; omega) | (simp only [mS_iff, eq_self, Int.reduceEq, true_and, and_true, false_and, and_false, and_self, ↓reduceIte] at *; omega)) ?_
            refine ct_335 (by omega) (by omega) (by omega) (((t7 _ _ (by omega) (by omega)).trans n3)) (fun mw78 h79 h80 h81 h82 h83 h84 h85 h86 h87 h88 h89 => ?_)
            have i7 : mw78 1 34 = mw68 1 34 := h79.2.2.1 1 34 (by omega) (by omega) (by omega)
            have hx := hx.keep (fun x j a b => h79.2.2.1 x j (by omega) (by omega) (by omega))
            have o1 := h79.1
            have o2 := h79.2.1
            have fr := fr.O h79 (by omega) (by omega) (by omega) (by omega)
            have cn := fr.1
            have cs := fr.2.1
            refine am_go 400 [] (am_wpc_cm _ _ _) wf_123 ?_
            refine And.intro (rfl) ?_
            refine And.intro (rfl) ?_
            refine ct_157 (by omega) hT hx (by omega) (fun h => absurd h nz) (fun _ => ?_)
            refine And.intro (fun _ => ?_) (fun h => absurd h (by decide))
            exact hQe rfl _ _ es _ _ _ fr (by omega) hx nz (by omega)
        · replace h1 : K qq ≠ 0 := fun h => h1 ⟨rfl, h⟩
          have es := es.trans (if_neg h1)
          refine And.intro (fun _ => ?_) (fun h => absurd h (by decide))
          exact hQ rfl _ _ _ es _ _ fr rfl (by omega) (by omega) hx ndl
    refine am_go 400 [17] (am_wpc_cm _ _ _) wf_123 ?_
    refine And.intro (rfl) ?_
    refine ct_124 (by omega) hT hx (by omega) (by omega) (fun h => absurd rfl h) (fun _ h93 mw90 h91 h92 => ?_) (fun _ h93 h94 mw90 h91 h92 => ?_) (fun _ h93 h94 => ?_)
    · have hn1 := h91 1 34 (by omega)
      have hn2 := h91 0 0 (by omega)
      have hn3 := h91 0 1 (by omega)
      have fr := fr.trans (fr_t.C h91)
      have hx := h92
      have cn := fr.1
      have cs := fr.2.1
      have nz : x_wr (K q) ≠ 0 := by unfold x_wr; omega
      have es := es.trans (c_may_w h93)
      refine And.intro (fun h => absurd h (by decide)) (fun _ => ?_)
      exact hQe rfl _ _ es _ _ _ fr (by omega) hx nz (by omega)
    · have hn1 := h91 1 34 (by omega)
      have hn2 := h91 0 0 (by omega)
      have hn3 := h91 0 1 (by omega)
      have fr := fr.trans (fr_t.C h91)
      have hx := h92
      have cn := fr.1
      have cs := fr.2.1
      have nz : (5 : Int) ≠ 0 := by omega
      have es := es.trans (c_may_d h93 h94)
      refine And.intro (fun h => absurd h (by decide)) (fun _ => ?_)
      exact hQe rfl _ _ es _ _ _ fr (by omega) hx nz (by omega)
    · have bg := h93
      have es := es.trans (c_may_y h93 h94)
      refine And.intro (fun _ => ?_) (fun h => absurd h (by decide))
      refine And.intro (rfl) ?_
      refine (ih n0 (by omega)).2.1 _ _ _ dep _ _ _ g0 (by omega) hx (by omega) (by omega) (fun _ => by omega) (by omega) (fun h => absurd rfl h) (fun _ c103 pl104 h95 mw96 r97 qe98 h99 h100 h101 h102 h105 => ?_) (fun _ qo108 ko109 g110 h111 mw106 r107 h112 h113 h114 h115 h116 nd117 => ?_)
      · have t7 := h99.K.2
        have cn1 := h99.1
        have cs1 := h99.2.1
        have fr := fr.trans h99
        have hx := h101
        have cn := fr.1
        have cs := fr.2.1
        have nz := h102
        have ec : c_x K A V n0 2 dep q (m 1 34) g0 = .inl (c103, pl104) := by rw [show (m 1 34) = m 1 34 by omega]; exact h95
        have es := es.trans (c_bd_l ec)
        refine am_go 400 [] (am_wpc_cm _ _ _) wf_123 ?_
        refine And.intro (rfl) ?_
        refine And.intro (rfl) ?_
        refine ct_157 (by omega) hT hx (by omega) (fun h => absurd h nz) (fun _ => ?_)
        refine And.intro (fun _ => ?_) (fun h => absurd h (by decide))
        exact hQe rfl _ _ es _ _ _ fr (by omega) hx nz (by omega)
      · have t7 := h112.K.2
        have cn1 := h112.1
        have cs1 := h112.2.1
        have fr := fr.trans h112
        have hx := h116
        have cn := fr.1
        have cs := fr.2.1
        have eo : c_x K A V n0 2 dep q (m 1 34) g0 = .inr (qo108, ko109, g110) := by rw [show (m 1 34) = m 1 34 by omega]; exact h111
        have es := es.trans (c_bd_r eo)
        have nd1 := nd117
        refine K17 _ (n0) (qo108) (g110) _ _ _ (Eq.refl _) ?_ ?_ ?_ ?_ ?_ ?_ ?_ ?_ ?_
        · omega
        · omega
        · exact hx
        · exact fr
        · omega
        · refine (nd1.wd (by omega))
        · rw [show mw106 1 34 = ko109 by omega]; exact es
        · omega
        · omega
  · skip
    refine am_go 400 [] (am_wpc_cm _ _ _) wf_123 ?_
    refine And.intro (rfl) ?_
    refine ct_124 (by omega) hT hx (by omega) (by omega) (fun _ mw1 h2 h3 => ?_) (fun h => absurd h nz) (fun h => absurd h nz) (fun h => absurd h nz)
    have hn1 := h2 1 34 (by omega)
    have hn2 := h2 0 0 (by omega)
    have hn3 := h2 0 1 (by omega)
    have fr := fr.trans (fr_t.C h2)
    have hx := h3
    have cn := fr.1
    have cs := fr.2.1
    refine And.intro (fun h => absurd h (by decide)) (fun _ => ?_)
    exact hQf nz _ fr (by omega) hx
theorem hc_126 {K A V : Int → Int} {N : Int} {n : Nat} (hT : xT K A V N) (ih : ∀ i, i < n → hCP K A V N i) : hCa K A V N 126 2 2 n := by
  intro d m Q dep q f p g0 hd hx hdp h0 hk hmu hQf hQe hQ
  have hb := hx.2.2.1
  have hN := hT.1
  obtain ⟨n0, rfl⟩ : ∃ i, n = i + 1 := ⟨n - 1, by omega⟩
  obtain ⟨dk, hdk⟩ : ∃ k, d = k + 1 := ⟨d - 1, by omega⟩
  have fr := fr_Cl.rfl m
  have cn := fr.1
  have cs := fr.2.1
  refine am_in (k := dk) rfl (by omega) (fun d hd => ?_)
  by_cases nz : f = 0
  · subst nz
    have es : c_x K A V (n0 + 1) 2 dep q (m 1 34) g0 = _ := c_x_2
    have K8 : ∀ (Nm : Nat), ∀ (i : Nat) (qq : Int) (g : aD) (x : Int) (z3 : aV), ∀ (mw : aM), (N - qq).toNat = Nm → (i < n0 + 1) → (20 * (N - qq) + 7 ≤ (i : Int)) → (hTx mw K A V N qq 0 p) → (fr_Cl m mw) → (m 1 34 < mw 1 34 ∧ mw 1 34 ≤ 24) → (hNd mw (m 0 0 + 1) (mw 0 0) x g (mw 1 34 - m 1 34)) → (c_x K A V (n0 + 1) 2 dep q (m 1 34) g0 = c_x K A V i 3 dep qq (mw 1 34) g) → (q < qq) → (dep ≤ 14) → am_WP am_G (am_wpc am_G am_T d) [] cd_126 Q 8 [aR 1, aI dep, aR x, z3] [] mw := by
      intro Nm
      induction Nm using Nat.strongRecOn with
      | _ Nm ih8 =>
        intro i qq g x z3 mw hN hi hmw hx fr hkw ndl es hqq hd14
        have hb := hx.2.2.1
        have cn := fr.1
        have cs := fr.2.1
        have kl := kK.rfl mw
        obtain ⟨i0, rfl⟩ : ∃ k, i = k + 1 := ⟨i - 1, by omega⟩
        replace es := es.trans c_x_3
        refine am_go 400 [8] (am_wpc_cm _ _ _) wf_126 ?_
        refine And.intro (rfl) ?_
        refine And.intro (rfl) ?_
        refine ct_157 (by omega) hT hx (by omega) (fun _ h1 mw2 h3 h4 => ?_) (fun h1 => ?_)
        · have hn1 := h3 1 34 (by omega)
          have hn2 := h3 0 0 (by omega)
          have hn3 := h3 0 1 (by omega)
          have kl := kl.trans (fr_t.K h3)
          have fr := fr.trans (fr_t.C h3)
          have hx := h4
          have cn := fr.1
          have cs := fr.2.1
          have es := es.trans (if_pos h1)
          refine And.intro (fun h => absurd h (by decide)) (fun _ => ?_)
          refine And.intro (rfl) ?_
          refine And.intro (rfl) ?_
          refine And.intro (rfl) ?_
          refine And.intro (rfl) ?_
          have hq := hx.2.1
          have hb := hx.2.2.1
          refine And.intro (show -2147483648 ≤ (mw2 13 5) - 1 ∧ (mw2 13 5) - 1 ≤ 2147483647 by first | omega | (simp only [mS_iff, eq_self, Int.reduceEq, true_and, and_true, false_and, and_false, and_self, ↓reduceIte]; omega) | (simp only [mS_iff, eq_self, Int.reduceEq, true_and, and_true, false_and, and_false, and_self, ↓reduceIte] at *; omega)) ?_
          refine And.intro (⟨rfl, by omega⟩) ?_
          rw [show mw2 16 (mw2 13 5 - 1) = A qq by rw [hx.2.1, show (qq + 1) - 1 = qq by omega]; exact (hx.1 _ (by omega) (by omega)).2.1]
          refine And.intro (rfl) ?_
          refine ct_128 (by omega) hT hx rfl (by omega) (fun h8 mw5 h6 h9 h7 h10 h11 => ?_) (fun h8 mw5 h6 h9 h7 h10 h11 => ?_)
          · have kl := kl.trans h6.K
            have fr := fr.trans h6
            have hx := h7
            have cn := fr.1
            have cs := fr.2.1
            have es := es.trans (c_pt_y (by omega))
            refine And.intro (by first | omega | (simp only [mS_iff, eq_self, Int.reduceEq, true_and, and_true, false_and, and_false, and_self, ↓reduceIte]; omega) | (simp only [mS_iff, eq_self, Int.reduceEq, true_and, and_true, false_and, and_false, and_self, ↓reduceIte] at *; omega)) ?_
            generalize h14 : mN mw5 17 7 = mw12
            generalize h15 : mw5 0 0 + 1 = r13
            have rr := Eq.symm h15
            obtain ⟨n1, n2, n3, n4, n5, n6⟩ := mN_f h14 h15 (by omega)
            have n7 : mw12 1 34 = mw5 1 34 := n5 1 34 (by omega) (by omega)
            have hx := hx.keep (fun x j a b => n5 x j (by omega) (by omega))
            have fr := fr.N n1 n2 n5 n6 (Eq.symm h15) (by omega) (by omega)
            have cn := fr.1
            have cs := fr.2.1
            have kl := kl.N n1 n5 (Eq.symm h15)
            refine And.intro (show -2147483648 ≤ dep + 1 ∧ dep + 1 ≤ 2147483647 by first | omega | (simp only [mS_iff, eq_self, Int.reduceEq, true_and, and_true, false_and, and_false, and_self, ↓reduceIte]; omega) | (simp only [mS_iff, eq_self, Int.reduceEq, true_and, and_true, false_and, and_false, and_self, ↓reduceIte] at *; omega)) ?_
            refine And.intro (rfl) ?_
            refine (ih i0 (by omega)).2.2.1 _ _ _ (dep + 1) _ _ _ g (by omega) hx (by omega) (by omega) (fun _ => by omega) (by omega) (fun h => absurd rfl h) (fun _ c24 pl25 h16 mw17 r18 qe19 h20 h21 h22 h23 h26 => ?_) (fun _ qo29 ko30 g31 h32 mw27 r28 h33 h34 h35 h36 h37 nd38 => ?_)
            · have kl := kl.trans h20.K
              have t7 := h20.K.2
              have cn1 := h20.1
              have cs1 := h20.2.1
              have fr := fr.trans h20
              have hx := h22
              have cn := fr.1
              have cs := fr.2.1
              have nz := h23
              have ec : c_x K A V i0 4 (dep + 1) (qq + 1) (mw 1 34 + 1) g = .inl (c24, pl25) := by rw [show (mw 1 34 + 1) = mw12 1 34 by omega]; exact h16
              have es := es.trans (c_bd_l ec)
              refine And.intro (show 0 < r13 by first | omega | (simp only [mS_iff, eq_self, Int.reduceEq, true_and, and_true, false_and, and_false, and_self, ↓reduceIte]; omega) | (simp only [mS_iff, eq_self, Int.reduceEq, true_and, and_true, false_and, and_false, and_self, ↓reduceIte] at *; omega)) ?_
              refine ct_335 (by omega) (by omega) (by omega) (((t7 _ _ (by omega) (by omega)).trans n3)) (fun mw39 h40 h41 h42 h43 h44 h45 h46 h47 h48 h49 h50 => ?_)
              have i7 : mw39 1 34 = mw17 1 34 := h40.2.2.1 1 34 (by omega) (by omega) (by omega)
              have hx := hx.keep (fun x j a b => h40.2.2.1 x j (by omega) (by omega) (by omega))
              have o1 := h40.1
              have o2 := h40.2.1
              have fr := fr.O h40 (by omega) (by omega) (by omega) (by omega)
              have cn := fr.1
              have cs := fr.2.1
              refine am_go 400 [] (am_wpc_cm _ _ _) wf_126 ?_
              refine And.intro (rfl) ?_
              refine And.intro (rfl) ?_
              refine ct_157 (by omega) hT hx (by omega) (fun h => absurd h nz) (fun _ => ?_)
              refine And.intro (fun _ => ?_) (fun h => absurd h (by decide))
              exact hQe rfl _ _ es _ _ _ fr (by omega) hx nz (by omega)
            · have kl := kl.trans h33.K
              have t7 := h33.K.2
              have cn1 := h33.1
              have cs1 := h33.2.1
              have fr := fr.trans h33
              have hx := h37
              have cn := fr.1
              have cs := fr.2.1
              have eo : c_x K A V i0 4 (dep + 1) (qq + 1) (mw 1 34 + 1) g = .inr (qo29, ko30, g31) := by rw [show (mw 1 34 + 1) = mw12 1 34 by omega]; exact h32
              have es := es.trans (c_bd_r eo)
              have nd2 := nd38
              refine And.intro (show 0 < r13 by first | omega | (simp only [mS_iff, eq_self, Int.reduceEq, true_and, and_true, false_and, and_false, and_self, ↓reduceIte]; omega) | (simp only [mS_iff, eq_self, Int.reduceEq, true_and, and_true, false_and, and_false, and_self, ↓reduceIte] at *; omega)) ?_
              refine ct_335 (by omega) (by omega) (by omega) (((t7 _ _ (by omega) (by omega)).trans n3)) (fun mw51 h52 h53 h54 h55 h56 h57 h58 h59 h60 h61 h62 => ?_)
              have i7 : mw51 1 34 = mw27 1 34 := h52.2.2.1 1 34 (by omega) (by omega) (by omega)
              have hx := hx.keep (fun x j a b => h52.2.2.1 x j (by omega) (by omega) (by omega))
              have o1 := h52.1
              have o2 := h52.2.1
              have fr := fr.O h52 (by omega) (by omega) (by omega) (by omega)
              have cn := fr.1
              have cs := fr.2.1
              refine ih8 _ ?_ (i0) (qo29) (d_two (A qq) 34 g g31) _ _ _ (Eq.refl _) ?_ ?_ ?_ ?_ ?_ ?_ ?_ ?_ ?_
              · omega
              · omega
              · omega
              · exact hx
              · exact fr
              · omega
              · refine (hNd_two (lo1 := m 0 0 + 1) (hi1 := mw 0 0) (p1 := mw 1 34 - m 1 34) (lo2 := mw12 0 0 + 1) (hi2 := mw27 0 0) (p2 := ko30 - mw12 1 34) h54 ⟨by omega, by omega⟩ h55 h56 ⟨by omega, by omega⟩ (by rw [h61]; exact h62) h57 h58 h59 (ndl.mv (fun y j u v => (h52.2.2.1 y j (by omega) (by omega) (by omega)).trans (kl.2 y j (by omega) v))) (nd2.mv (fun y j u v => h52.2.2.1 y j (by omega) (by omega) v)) ⟨by omega, by omega⟩ ⟨by omega, by omega⟩ (by omega) (by omega)).wd (by omega)
              · rw [show mw51 1 34 = ko30 by omega]; exact es
              · omega
              · omega
          · have kl := kl.trans h6.K
            have fr := fr.trans h6
            have hx := h7
            have cn := fr.1
            have cs := fr.2.1
            have nz : (5 : Int) ≠ 0 := by omega
            have es := es.trans (c_pt_n (by omega))
            refine And.intro (by first | omega | (simp only [mS_iff, eq_self, Int.reduceEq, true_and, and_true, false_and, and_false, and_self, ↓reduceIte]; omega) | (simp only [mS_iff, eq_self, Int.reduceEq, true_and, and_true, false_and, and_false, and_self, ↓reduceIte] at *; omega)) ?_
            generalize h65 : mN mw5 17 7 = mw63
            generalize h66 : mw5 0 0 + 1 = r64
            have rr := Eq.symm h66
            obtain ⟨n1, n2, n3, n4, n5, n6⟩ := mN_f h65 h66 (by omega)
            have n7 : mw63 1 34 = mw5 1 34 := n5 1 34 (by omega) (by omega)
            have hx := hx.keep (fun x j a b => n5 x j (by omega) (by omega))
            have fr := fr.N n1 n2 n5 n6 (Eq.symm h66) (by omega) (by omega)
            have cn := fr.1
            have cs := fr.2.1
            have kl := kl.N n1 n5 (Eq.symm h66)
            refine And.intro (show -2147483648 ≤ dep + 1 ∧ dep + 1 ≤ 2147483647 by first | omega | (simp only [mS_iff, eq_self, Int.reduceEq, true_and, and_true, false_and, and_false, and_self, ↓reduceIte]; omega) | (simp only [mS_iff, eq_self, Int.reduceEq, true_and, and_true, false_and, and_false, and_self, ↓reduceIte] at *; omega)) ?_
            refine And.intro (rfl) ?_
            refine (ih i0 (by omega)).2.2.1 _ _ _ (dep + 1) _ _ _ g (by omega) hx (by omega) (by omega) (fun _ => by omega) (by omega) (fun _ mw68 h71 h72 h73 => ?_) (fun h => absurd h nz) (fun h => absurd h nz)
            have kl := kl.trans h71.K
            have t7 := h71.K.2
            have cn1 := h71.1
            have cs1 := h71.2.1
            have fr := fr.trans h71
            have hx := h73
            have cn := fr.1
            have cs := fr.2.1
            refine And.intro (show 0 < r64 by first | omega | (simp only [mS_iff, eq_self, Int.reduceEq, true_and, and_true, false_and, and_false, and_self, ↓reduceIte]; omega) | (simp only [mS_iff, eq_self, Int.reduceEq, true_and, and_true, false_and, and_false, and_self, ↓reduceIte] at *; omega)) ?_
            refine ct_335 (by omega) (by omega) (by omega) (((t7 _ _ (by omega) (by omega)).trans n3)) (fun mw78 h79 h80 h81 h82 h83 h84 h85 h86 h87 h88 h89 => ?_)
            have i7 : mw78 1 34 = mw68 1 34 := h79.2.2.1 1 34 (by omega) (by omega) (by omega)
            have hx := hx.keep (fun x j a b => h79.2.2.1 x j (by omega) (by omega) (by omega))
            have o1 := h79.1
            have o2 := h79.2.1
            have fr := fr.O h79 (by omega) (by omega) (by omega) (by omega)
            have cn := fr.1
            have cs := fr.2.1
            refine am_go 400 [] (am_wpc_cm _ _ _) wf_126 ?_
            refine And.intro (rfl) ?_
            refine And.intro (rfl) ?_
            refine ct_157 (by omega) hT hx (by omega) (fun h => absurd h nz) (fun _ => ?_)
            refine And.intro (fun _ => ?_) (fun h => absurd h (by decide))
            exact hQe rfl _ _ es _ _ _ fr (by omega) hx nz (by omega)
        · replace h1 : K qq ≠ 34 := fun h => h1 ⟨rfl, h⟩
          have es := es.trans (if_neg h1)
          refine And.intro (fun _ => ?_) (fun h => absurd h (by decide))
          exact hQ rfl _ _ _ es _ _ fr rfl (by omega) (by omega) hx ndl
    refine am_go 400 [8] (am_wpc_cm _ _ _) wf_126 ?_
    refine And.intro (show -2147483648 ≤ dep + 1 ∧ dep + 1 ≤ 2147483647 by first | omega | (simp only [mS_iff, eq_self, Int.reduceEq, true_and, and_true, false_and, and_false, and_self, ↓reduceIte]; omega) | (simp only [mS_iff, eq_self, Int.reduceEq, true_and, and_true, false_and, and_false, and_self, ↓reduceIte] at *; omega)) ?_
    refine And.intro (rfl) ?_
    refine (ih n0 (by omega)).2.2.1 _ _ _ (dep + 1) _ _ _ g0 (by omega) hx (by omega) (by omega) (fun _ => by omega) (by omega) (fun h => absurd rfl h) (fun _ c98 pl99 h90 mw91 r92 qe93 h94 h95 h96 h97 h100 => ?_) (fun _ qo103 ko104 g105 h106 mw101 r102 h107 h108 h109 h110 h111 nd112 => ?_)
    · have t7 := h94.K.2
      have cn1 := h94.1
      have cs1 := h94.2.1
      have fr := fr.trans h94
      have hx := h96
      have cn := fr.1
      have cs := fr.2.1
      have nz := h97
      have ec : c_x K A V n0 4 (dep + 1) q (m 1 34) g0 = .inl (c98, pl99) := by rw [show (m 1 34) = m 1 34 by omega]; exact h90
      have es := es.trans (c_bd_l ec)
      refine am_go 400 [] (am_wpc_cm _ _ _) wf_126 ?_
      refine And.intro (rfl) ?_
      refine And.intro (rfl) ?_
      refine ct_157 (by omega) hT hx (by omega) (fun h => absurd h nz) (fun _ => ?_)
      refine And.intro (fun _ => ?_) (fun h => absurd h (by decide))
      exact hQe rfl _ _ es _ _ _ fr (by omega) hx nz (by omega)
    · have t7 := h107.K.2
      have cn1 := h107.1
      have cs1 := h107.2.1
      have fr := fr.trans h107
      have hx := h111
      have cn := fr.1
      have cs := fr.2.1
      have eo : c_x K A V n0 4 (dep + 1) q (m 1 34) g0 = .inr (qo103, ko104, g105) := by rw [show (m 1 34) = m 1 34 by omega]; exact h106
      have es := es.trans (c_bd_r eo)
      have nd1 := nd112
      refine K8 _ (n0) (qo103) (g105) _ _ _ (Eq.refl _) ?_ ?_ ?_ ?_ ?_ ?_ ?_ ?_ ?_
      · omega
      · omega
      · exact hx
      · exact fr
      · omega
      · refine (nd1.wd (by omega))
      · rw [show mw101 1 34 = ko104 by omega]; exact es
      · omega
      · omega
  · skip
    refine am_go 400 [] (am_wpc_cm _ _ _) wf_126 ?_
    refine And.intro (show -2147483648 ≤ dep + 1 ∧ dep + 1 ≤ 2147483647 by first | omega | (simp only [mS_iff, eq_self, Int.reduceEq, true_and, and_true, false_and, and_false, and_self, ↓reduceIte]; omega) | (simp only [mS_iff, eq_self, Int.reduceEq, true_and, and_true, false_and, and_false, and_self, ↓reduceIte] at *; omega)) ?_
    refine And.intro (rfl) ?_
    refine (ih n0 (by omega)).2.2.1 _ _ _ (dep + 1) _ _ _ g0 (by omega) hx (by omega) (by omega) (fun _ => by omega) (by omega) (fun _ mw2 h5 h6 h7 => ?_) (fun h => absurd h nz) (fun h => absurd h nz)
    have t7 := h5.K.2
    have cn1 := h5.1
    have cs1 := h5.2.1
    have fr := fr.trans h5
    have hx := h7
    have cn := fr.1
    have cs := fr.2.1
    refine And.intro (rfl) ?_
    refine And.intro (rfl) ?_
    refine ct_157 (by omega) hT hx (by omega) (fun h => absurd h nz) (fun _ => ?_)
    refine And.intro (fun _ => ?_) (fun h => absurd h (by decide))
    exact hQf nz _ fr (by omega) hx
theorem hc_129 {K A V : Int → Int} {N : Int} {n : Nat} (hT : xT K A V N) (ih : ∀ i, i < n → hCP K A V N i) : hCa K A V N 129 5 2 n := by
  intro d m Q dep q f p g0 hd hx hdp h0 hk hmu hQf hQe hQ
  have hb := hx.2.2.1
  have hN := hT.1
  obtain ⟨n0, rfl⟩ : ∃ i, n = i + 1 := ⟨n - 1, by omega⟩
  obtain ⟨dk, hdk⟩ : ∃ k, d = k + 1 := ⟨d - 1, by omega⟩
  have fr := fr_Cl.rfl m
  have cn := fr.1
  have cs := fr.2.1
  refine am_in (k := dk) rfl (by omega) (fun d hd => ?_)
  by_cases nz : f = 0
  · subst nz
    have es : c_x K A V (n0 + 1) 5 dep q (m 1 34) g0 = _ := c_x_5
    have K6 : ∀ (Nm : Nat), ∀ (i : Nat) (qq : Int) (g : aD) (x : Int) (z3 : aV) (z4 : aV), ∀ (mw : aM), (N - qq).toNat = Nm → (i < n0 + 1) → (20 * (N - qq) + 4 ≤ (i : Int)) → (hTx mw K A V N qq 0 p) → (fr_Cl m mw) → (m 1 34 < mw 1 34 ∧ mw 1 34 ≤ 24) → (hNd mw (m 0 0 + 1) (mw 0 0) x g (mw 1 34 - m 1 34)) → (c_x K A V (n0 + 1) 5 dep q (m 1 34) g0 = c_x K A V i 6 dep qq (mw 1 34) g) → (q < qq) → (dep ≤ 14) → am_WP am_G (am_wpc am_G am_T d) [] cd_129 Q 6 [aR 1, aI dep, aR x, z3, z4] [] mw := by
      intro Nm
      induction Nm using Nat.strongRecOn with
      | _ Nm ih6 =>
        intro i qq g x z3 z4 mw hN hi hmw hx fr hkw ndl es hqq hd14
        have hb := hx.2.2.1
        have cn := fr.1
        have cs := fr.2.1
        have kl := kK.rfl mw
        obtain ⟨i0, rfl⟩ : ∃ k, i = k + 1 := ⟨i - 1, by omega⟩
        replace es := es.trans c_x_6
        refine am_go 400 [6] (am_wpc_cm _ _ _) wf_129 ?_
        refine And.intro (rfl) ?_
        refine And.intro (rfl) ?_
        refine ct_158 (by omega) hT hx (fun _ h1 => ?_) (fun h1 => ?_)
        · have ky := h1
          refine And.intro (fun _ => ?_) (fun h => absurd h (by decide))
          have es := es.trans (if_pos (by omega))
          refine And.intro (rfl) ?_
          refine And.intro (rfl) ?_
          refine ct_161 (by omega) hT hx (fun v2 h3 => ?_)
          subst h3
          refine And.intro (rfl) ?_
          refine And.intro (rfl) ?_
          refine And.intro (rfl) ?_
          refine And.intro (rfl) ?_
          have hq := hx.2.1
          have hb := hx.2.2.1
          refine And.intro (⟨rfl, by omega⟩) ?_
          rw [show mw 16 (mw 13 5) = A qq by rw [hx.2.1]; exact (hx.1 _ (by omega) (by omega)).2.1]
          refine And.intro (rfl) ?_
          refine And.intro (rfl) ?_
          refine ct_157 (by omega) hT hx (by omega) (fun _ _ mw4 h5 h6 => ?_) (fun h => absurd ⟨rfl, rfl⟩ h)
          have hn1 := h5 1 34 (by omega)
          have hn2 := h5 0 0 (by omega)
          have hn3 := h5 0 1 (by omega)
          have kl := kl.trans (fr_t.K h5)
          have fr := fr.trans (fr_t.C h5)
          have hx := h6
          have cn := fr.1
          have cs := fr.2.1
          refine And.intro (rfl) ?_
          refine ct_128 (by omega) hT hx rfl (by omega) (fun h10 mw7 h8 h11 h9 h12 h13 => ?_) (fun h10 mw7 h8 h11 h9 h12 h13 => ?_)
          · have kl := kl.trans h8.K
            have fr := fr.trans h8
            have hx := h9
            have cn := fr.1
            have cs := fr.2.1
            have es := es.trans (c_pt_y (by omega))
            refine And.intro (by first | omega | (simp only [mS_iff, eq_self, Int.reduceEq, true_and, and_true, false_and, and_false, and_self, ↓reduceIte]; omega) | (simp only [mS_iff, eq_self, Int.reduceEq, true_and, and_true, false_and, and_false, and_self, ↓reduceIte] at *; omega)) ?_
            generalize h16 : mN mw7 17 7 = mw14
            generalize h17 : mw7 0 0 + 1 = r15
            have rr := Eq.symm h17
            obtain ⟨n1, n2, n3, n4, n5, n6⟩ := mN_f h16 h17 (by omega)
            have n7 : mw14 1 34 = mw7 1 34 := n5 1 34 (by omega) (by omega)
            have hx := hx.keep (fun x j a b => n5 x j (by omega) (by omega))
            have fr := fr.N n1 n2 n5 n6 (Eq.symm h17) (by omega) (by omega)
            have cn := fr.1
            have cs := fr.2.1
            have kl := kl.N n1 n5 (Eq.symm h17)
            refine And.intro (rfl) ?_
            refine (ih i0 (by omega)).2.2.2.2.1 _ _ _ dep _ _ _ g (by omega) hx (by omega) (by omega) (fun _ => by omega) (by omega) (fun h => absurd rfl h) (fun _ c26 pl27 h18 mw19 r20 qe21 h22 h23 h24 h25 h28 => ?_) (fun _ qo31 ko32 g33 h34 mw29 r30 h35 h36 h37 h38 h39 nd40 => ?_)
            · have kl := kl.trans h22.K
              have t7 := h22.K.2
              have cn1 := h22.1
              have cs1 := h22.2.1
              have fr := fr.trans h22
              have hx := h24
              have cn := fr.1
              have cs := fr.2.1
              have nz := h25
              have ec : c_x K A V i0 7 dep (qq + 1) (mw 1 34 + 1) g = .inl (c26, pl27) := by rw [show (mw 1 34 + 1) = mw14 1 34 by omega]; exact h18
              have es := es.trans (c_bd_l ec)
              refine And.intro (show 0 < r15 by first | omega | (simp only [mS_iff, eq_self, Int.reduceEq, true_and, and_true, false_and, and_false, and_self, ↓reduceIte]; omega) | (simp only [mS_iff, eq_self, Int.reduceEq, true_and, and_true, false_and, and_false, and_self, ↓reduceIte] at *; omega)) ?_
              refine ct_335 (by omega) (by omega) (by omega) (((t7 _ _ (by omega) (by omega)).trans n3)) (fun mw41 h42 h43 h44 h45 h46 h47 h48 h49 h50 h51 h52 => ?_)
              have i7 : mw41 1 34 = mw19 1 34 := h42.2.2.1 1 34 (by omega) (by omega) (by omega)
              have hx := hx.keep (fun x j a b => h42.2.2.1 x j (by omega) (by omega) (by omega))
              have o1 := h42.1
              have o2 := h42.2.1
              have fr := fr.O h42 (by omega) (by omega) (by omega) (by omega)
              have cn := fr.1
              have cs := fr.2.1
              refine am_go 400 [] (am_wpc_cm _ _ _) wf_129 ?_
              refine And.intro (rfl) ?_
              refine And.intro (rfl) ?_
              refine ct_158 (by omega) hT hx (fun h => absurd h nz) (fun _ => ?_)
              refine And.intro (fun h => absurd h (by decide)) (fun _ => ?_)
              refine And.intro (rfl) ?_
              refine And.intro (rfl) ?_
              refine ct_158 (by omega) hT hx (fun h => absurd h nz) (fun _ => ?_)
              refine And.intro (fun _ => ?_) (fun h => absurd h (by decide))
              exact hQe rfl _ _ es _ _ _ fr (by omega) hx nz (by omega)
            · have kl := kl.trans h35.K
              have t7 := h35.K.2
              have cn1 := h35.1
              have cs1 := h35.2.1
              have fr := fr.trans h35
              have hx := h39
              have cn := fr.1
              have cs := fr.2.1
              have eo : c_x K A V i0 7 dep (qq + 1) (mw 1 34 + 1) g = .inr (qo31, ko32, g33) := by rw [show (mw 1 34 + 1) = mw14 1 34 by omega]; exact h34
              have es := es.trans (c_bd_r eo)
              have nd2 := nd40
              refine And.intro (show 0 < r15 by first | omega | (simp only [mS_iff, eq_self, Int.reduceEq, true_and, and_true, false_and, and_false, and_self, ↓reduceIte]; omega) | (simp only [mS_iff, eq_self, Int.reduceEq, true_and, and_true, false_and, and_false, and_self, ↓reduceIte] at *; omega)) ?_
              refine ct_335 (by omega) (by omega) (by omega) (((t7 _ _ (by omega) (by omega)).trans n3)) (fun mw53 h54 h55 h56 h57 h58 h59 h60 h61 h62 h63 h64 => ?_)
              have i7 : mw53 1 34 = mw29 1 34 := h54.2.2.1 1 34 (by omega) (by omega) (by omega)
              have hx := hx.keep (fun x j a b => h54.2.2.1 x j (by omega) (by omega) (by omega))
              have o1 := h54.1
              have o2 := h54.2.1
              have fr := fr.O h54 (by omega) (by omega) (by omega) (by omega)
              have cn := fr.1
              have cs := fr.2.1
              refine ih6 _ ?_ (i0) (qo31) (d_two (A qq) (K qq) g g33) _ _ _ _ (Eq.refl _) ?_ ?_ ?_ ?_ ?_ ?_ ?_ ?_ ?_
              · omega
              · omega
              · omega
              · exact hx
              · exact fr
              · omega
              · refine (hNd_two (lo1 := m 0 0 + 1) (hi1 := mw 0 0) (p1 := mw 1 34 - m 1 34) (lo2 := mw14 0 0 + 1) (hi2 := mw29 0 0) (p2 := ko32 - mw14 1 34) h56 ⟨by omega, by omega⟩ h57 h58 ⟨by omega, by omega⟩ (by rw [h63]; exact h64) h59 h60 h61 (ndl.mv (fun y j u v => (h54.2.2.1 y j (by omega) (by omega) (by omega)).trans (kl.2 y j (by omega) v))) (nd2.mv (fun y j u v => h54.2.2.1 y j (by omega) (by omega) v)) ⟨by omega, by omega⟩ ⟨by omega, by omega⟩ (by omega) (by omega)).wd (by omega)
              · rw [show mw53 1 34 = ko32 by omega]; exact es
              · omega
              · omega
          · have kl := kl.trans h8.K
            have fr := fr.trans h8
            have hx := h9
            have cn := fr.1
            have cs := fr.2.1
            have nz : (5 : Int) ≠ 0 := by omega
            have es := es.trans (c_pt_n (by omega))
            refine And.intro (by first | omega | (simp only [mS_iff, eq_self, Int.reduceEq, true_and, and_true, false_and, and_false, and_self, ↓reduceIte]; omega) | (simp only [mS_iff, eq_self, Int.reduceEq, true_and, and_true, false_and, and_false, and_self, ↓reduceIte] at *; omega)) ?_
            generalize h67 : mN mw7 17 7 = mw65
            generalize h68 : mw7 0 0 + 1 = r66
            have rr := Eq.symm h68
            obtain ⟨n1, n2, n3, n4, n5, n6⟩ := mN_f h67 h68 (by omega)
            have n7 : mw65 1 34 = mw7 1 34 := n5 1 34 (by omega) (by omega)
            have hx := hx.keep (fun x j a b => n5 x j (by omega) (by omega))
            have fr := fr.N n1 n2 n5 n6 (Eq.symm h68) (by omega) (by omega)
            have cn := fr.1
            have cs := fr.2.1
            have kl := kl.N n1 n5 (Eq.symm h68)
            refine And.intro (rfl) ?_
            refine (ih i0 (by omega)).2.2.2.2.1 _ _ _ dep _ _ _ g (by omega) hx (by omega) (by omega) (fun _ => by omega) (by omega) (fun _ mw70 h73 h74 h75 => ?_) (fun h => absurd h nz) (fun h => absurd h nz)
            have kl := kl.trans h73.K
            have t7 := h73.K.2
            have cn1 := h73.1
            have cs1 := h73.2.1
            have fr := fr.trans h73
            have hx := h75
            have cn := fr.1
            have cs := fr.2.1
            refine And.intro (show 0 < r66 by first | omega | (simp only [mS_iff, eq_self, Int.reduceEq, true_and, and_true, false_and, and_false, and_self, ↓reduceIte]; omega) | (simp only [mS_iff, eq_self, Int.reduceEq, true_and, and_true, false_and, and_false, and_self, ↓reduceIte] at *; omega)) ?_
            refine ct_335 (by omega) (by omega) (by omega) (((t7 _ _ (by omega) (by omega)).trans n3)) (fun mw80 h81 h82 h83 h84 h85 h86 h87 h88 h89 h90 h91 => ?_)
            have i7 : mw80 1 34 = mw70 1 34 := h81.2.2.1 1 34 (by omega) (by omega) (by omega)
            have hx := hx.keep (fun x j a b => h81.2.2.1 x j (by omega) (by omega) (by omega))
            have o1 := h81.1
            have o2 := h81.2.1
            have fr := fr.O h81 (by omega) (by omega) (by omega) (by omega)
            have cn := fr.1
            have cs := fr.2.1
            refine am_go 400 [] (am_wpc_cm _ _ _) wf_129 ?_
            refine And.intro (rfl) ?_
            refine And.intro (rfl) ?_
            refine ct_158 (by omega) hT hx (fun h => absurd h nz) (fun _ => ?_)
            refine And.intro (fun h => absurd h (by decide)) (fun _ => ?_)
            refine And.intro (rfl) ?_
            refine And.intro (rfl) ?_
            refine ct_158 (by omega) hT hx (fun h => absurd h nz) (fun _ => ?_)
            refine And.intro (fun _ => ?_) (fun h => absurd h (by decide))
            exact hQe rfl _ _ es _ _ _ fr (by omega) hx nz (by omega)
        · replace h1 : K qq ≠ 143 := fun h => h1 ⟨rfl, h⟩
          refine And.intro (fun h => absurd h (by decide)) (fun _ => ?_)
          refine And.intro (rfl) ?_
          refine And.intro (rfl) ?_
          refine ct_158 (by omega) hT hx (fun _ h92 => ?_) (fun h92 => ?_)
          · have ky := h92
            refine And.intro (fun h => absurd h (by decide)) (fun _ => ?_)
            have es := es.trans (if_pos (by omega))
            refine And.intro (rfl) ?_
            refine And.intro (rfl) ?_
            refine ct_161 (by omega) hT hx (fun v93 h94 => ?_)
            subst h94
            refine And.intro (rfl) ?_
            refine And.intro (rfl) ?_
            refine And.intro (rfl) ?_
            refine And.intro (rfl) ?_
            have hq := hx.2.1
            have hb := hx.2.2.1
            refine And.intro (⟨rfl, by omega⟩) ?_
            rw [show mw 16 (mw 13 5) = A qq by rw [hx.2.1]; exact (hx.1 _ (by omega) (by omega)).2.1]
            refine And.intro (rfl) ?_
            refine And.intro (rfl) ?_
            refine ct_157 (by omega) hT hx (by omega) (fun _ _ mw95 h96 h97 => ?_) (fun h => absurd ⟨rfl, rfl⟩ h)
            have hn1 := h96 1 34 (by omega)
            have hn2 := h96 0 0 (by omega)
            have hn3 := h96 0 1 (by omega)
            have kl := kl.trans (fr_t.K h96)
            have fr := fr.trans (fr_t.C h96)
            have hx := h97
            have cn := fr.1
            have cs := fr.2.1
            refine And.intro (rfl) ?_
            refine ct_128 (by omega) hT hx rfl (by omega) (fun h101 mw98 h99 h102 h100 h103 h104 => ?_) (fun h101 mw98 h99 h102 h100 h103 h104 => ?_)
            · have kl := kl.trans h99.K
              have fr := fr.trans h99
              have hx := h100
              have cn := fr.1
              have cs := fr.2.1
              have es := es.trans (c_pt_y (by omega))
              refine And.intro (by first | omega | (simp only [mS_iff, eq_self, Int.reduceEq, true_and, and_true, false_and, and_false, and_self, ↓reduceIte]; omega) | (simp only [mS_iff, eq_self, Int.reduceEq, true_and, and_true, false_and, and_false, and_self, ↓reduceIte] at *; omega)) ?_
              generalize h107 : mN mw98 17 7 = mw105
              generalize h108 : mw98 0 0 + 1 = r106
              have rr := Eq.symm h108
              obtain ⟨n1, n2, n3, n4, n5, n6⟩ := mN_f h107 h108 (by omega)
              have n7 : mw105 1 34 = mw98 1 34 := n5 1 34 (by omega) (by omega)
              have hx := hx.keep (fun x j a b => n5 x j (by omega) (by omega))
              have fr := fr.N n1 n2 n5 n6 (Eq.symm h108) (by omega) (by omega)
              have cn := fr.1
              have cs := fr.2.1
              have kl := kl.N n1 n5 (Eq.symm h108)
              refine And.intro (rfl) ?_
              refine (ih i0 (by omega)).2.2.2.2.1 _ _ _ dep _ _ _ g (by omega) hx (by omega) (by omega) (fun _ => by omega) (by omega) (fun h => absurd rfl h) (fun _ c117 pl118 h109 mw110 r111 qe112 h113 h114 h115 h116 h119 => ?_) (fun _ qo122 ko123 g124 h125 mw120 r121 h126 h127 h128 h129 h130 nd131 => ?_)
              · have kl := kl.trans h113.K
                have t7 := h113.K.2
                have cn1 := h113.1
                have cs1 := h113.2.1
                have fr := fr.trans h113
                have hx := h115
                have cn := fr.1
                have cs := fr.2.1
                have nz := h116
                have ec : c_x K A V i0 7 dep (qq + 1) (mw 1 34 + 1) g = .inl (c117, pl118) := by rw [show (mw 1 34 + 1) = mw105 1 34 by omega]; exact h109
                have es := es.trans (c_bd_l ec)
                refine And.intro (show 0 < r106 by first | omega | (simp only [mS_iff, eq_self, Int.reduceEq, true_and, and_true, false_and, and_false, and_self, ↓reduceIte]; omega) | (simp only [mS_iff, eq_self, Int.reduceEq, true_and, and_true, false_and, and_false, and_self, ↓reduceIte] at *; omega)) ?_
                refine ct_335 (by omega) (by omega) (by omega) (((t7 _ _ (by omega) (by omega)).trans n3)) (fun mw132 h133 h134 h135 h136 h137 h138 h139 h140 h141 h142 h143 => ?_)
                have i7 : mw132 1 34 = mw110 1 34 := h133.2.2.1 1 34 (by omega) (by omega) (by omega)
                have hx := hx.keep (fun x j a b => h133.2.2.1 x j (by omega) (by omega) (by omega))
                have o1 := h133.1
                have o2 := h133.2.1
                have fr := fr.O h133 (by omega) (by omega) (by omega) (by omega)
                have cn := fr.1
                have cs := fr.2.1
                refine am_go 400 [] (am_wpc_cm _ _ _) wf_129 ?_
                refine And.intro (rfl) ?_
                refine And.intro (rfl) ?_
                refine ct_158 (by omega) hT hx (fun h => absurd h nz) (fun _ => ?_)
                refine And.intro (fun h => absurd h (by decide)) (fun _ => ?_)
                refine And.intro (rfl) ?_
                refine And.intro (rfl) ?_
                refine ct_158 (by omega) hT hx (fun h => absurd h nz) (fun _ => ?_)
                refine And.intro (fun _ => ?_) (fun h => absurd h (by decide))
                exact hQe rfl _ _ es _ _ _ fr (by omega) hx nz (by omega)
              · have kl := kl.trans h126.K
                have t7 := h126.K.2
                have cn1 := h126.1
                have cs1 := h126.2.1
                have fr := fr.trans h126
                have hx := h130
                have cn := fr.1
                have cs := fr.2.1
                have eo : c_x K A V i0 7 dep (qq + 1) (mw 1 34 + 1) g = .inr (qo122, ko123, g124) := by rw [show (mw 1 34 + 1) = mw105 1 34 by omega]; exact h125
                have es := es.trans (c_bd_r eo)
                have nd2 := nd131
                refine And.intro (show 0 < r106 by first | omega | (simp only [mS_iff, eq_self, Int.reduceEq, true_and, and_true, false_and, and_false, and_self, ↓reduceIte]; omega) | (simp only [mS_iff, eq_self, Int.reduceEq, true_and, and_true, false_and, and_false, and_self, ↓reduceIte] at *; omega)) ?_
                refine ct_335 (by omega) (by omega) (by omega) (((t7 _ _ (by omega) (by omega)).trans n3)) (fun mw144 h145 h146 h147 h148 h149 h150 h151 h152 h153 h154 h155 => ?_)
                have i7 : mw144 1 34 = mw120 1 34 := h145.2.2.1 1 34 (by omega) (by omega) (by omega)
                have hx := hx.keep (fun x j a b => h145.2.2.1 x j (by omega) (by omega) (by omega))
                have o1 := h145.1
                have o2 := h145.2.1
                have fr := fr.O h145 (by omega) (by omega) (by omega) (by omega)
                have cn := fr.1
                have cs := fr.2.1
                refine ih6 _ ?_ (i0) (qo122) (d_two (A qq) (K qq) g g124) _ _ _ _ (Eq.refl _) ?_ ?_ ?_ ?_ ?_ ?_ ?_ ?_ ?_
                · omega
                · omega
                · omega
                · exact hx
                · exact fr
                · omega
                · refine (hNd_two (lo1 := m 0 0 + 1) (hi1 := mw 0 0) (p1 := mw 1 34 - m 1 34) (lo2 := mw105 0 0 + 1) (hi2 := mw120 0 0) (p2 := ko123 - mw105 1 34) h147 ⟨by omega, by omega⟩ h148 h149 ⟨by omega, by omega⟩ (by rw [h154]; exact h155) h150 h151 h152 (ndl.mv (fun y j u v => (h145.2.2.1 y j (by omega) (by omega) (by omega)).trans (kl.2 y j (by omega) v))) (nd2.mv (fun y j u v => h145.2.2.1 y j (by omega) (by omega) v)) ⟨by omega, by omega⟩ ⟨by omega, by omega⟩ (by omega) (by omega)).wd (by omega)
                · rw [show mw144 1 34 = ko123 by omega]; exact es
                · omega
                · omega
            · have kl := kl.trans h99.K
              have fr := fr.trans h99
              have hx := h100
              have cn := fr.1
              have cs := fr.2.1
              have nz : (5 : Int) ≠ 0 := by omega
              have es := es.trans (c_pt_n (by omega))
              refine And.intro (by first | omega | (simp only [mS_iff, eq_self, Int.reduceEq, true_and, and_true, false_and, and_false, and_self, ↓reduceIte]; omega) | (simp only [mS_iff, eq_self, Int.reduceEq, true_and, and_true, false_and, and_false, and_self, ↓reduceIte] at *; omega)) ?_
              generalize h158 : mN mw98 17 7 = mw156
              generalize h159 : mw98 0 0 + 1 = r157
              have rr := Eq.symm h159
              obtain ⟨n1, n2, n3, n4, n5, n6⟩ := mN_f h158 h159 (by omega)
              have n7 : mw156 1 34 = mw98 1 34 := n5 1 34 (by omega) (by omega)
              have hx := hx.keep (fun x j a b => n5 x j (by omega) (by omega))
              have fr := fr.N n1 n2 n5 n6 (Eq.symm h159) (by omega) (by omega)
              have cn := fr.1
              have cs := fr.2.1
              have kl := kl.N n1 n5 (Eq.symm h159)
              refine And.intro (rfl) ?_
              refine (ih i0 (by omega)).2.2.2.2.1 _ _ _ dep _ _ _ g (by omega) hx (by omega) (by omega) (fun _ => by omega) (by omega) (fun _ mw161 h164 h165 h166 => ?_) (fun h => absurd h nz) (fun h => absurd h nz)
              have kl := kl.trans h164.K
              have t7 := h164.K.2
              have cn1 := h164.1
              have cs1 := h164.2.1
              have fr := fr.trans h164
              have hx := h166
              have cn := fr.1
              have cs := fr.2.1
              refine And.intro (show 0 < r157 by first | omega | (simp only [mS_iff, eq_self, Int.reduceEq, true_and, and_true, false_and, and_false, and_self, ↓reduceIte]; omega) | (simp only [mS_iff, eq_self, Int.reduceEq, true_and, and_true, false_and, and_false, and_self, ↓reduceIte] at *; omega)) ?_
              refine ct_335 (by omega) (by omega) (by omega) (((t7 _ _ (by omega) (by omega)).trans n3)) (fun mw171 h172 h173 h174 h175 h176 h177 h178 h179 h180 h181 h182 => ?_)
              have i7 : mw171 1 34 = mw161 1 34 := h172.2.2.1 1 34 (by omega) (by omega) (by omega)
              have hx := hx.keep (fun x j a b => h172.2.2.1 x j (by omega) (by omega) (by omega))
              have o1 := h172.1
              have o2 := h172.2.1
              have fr := fr.O h172 (by omega) (by omega) (by omega) (by omega)
              have cn := fr.1
              have cs := fr.2.1
              refine am_go 400 [] (am_wpc_cm _ _ _) wf_129 ?_
              refine And.intro (rfl) ?_
              refine And.intro (rfl) ?_
              refine ct_158 (by omega) hT hx (fun h => absurd h nz) (fun _ => ?_)
              refine And.intro (fun h => absurd h (by decide)) (fun _ => ?_)
              refine And.intro (rfl) ?_
              refine And.intro (rfl) ?_
              refine ct_158 (by omega) hT hx (fun h => absurd h nz) (fun _ => ?_)
              refine And.intro (fun _ => ?_) (fun h => absurd h (by decide))
              exact hQe rfl _ _ es _ _ _ fr (by omega) hx nz (by omega)
          · replace h92 : K qq ≠ 145 := fun h => h92 ⟨rfl, h⟩
            refine And.intro (fun _ => ?_) (fun h => absurd h (by decide))
            have es := es.trans (if_neg (by omega))
            exact hQ rfl _ _ _ es _ _ fr rfl (by omega) (by omega) hx ndl
    refine am_go 400 [6] (am_wpc_cm _ _ _) wf_129 ?_
    refine And.intro (rfl) ?_
    refine (ih n0 (by omega)).2.2.2.2.1 _ _ _ dep _ _ _ g0 (by omega) hx (by omega) (by omega) (fun _ => by omega) (by omega) (fun h => absurd rfl h) (fun _ c191 pl192 h183 mw184 r185 qe186 h187 h188 h189 h190 h193 => ?_) (fun _ qo196 ko197 g198 h199 mw194 r195 h200 h201 h202 h203 h204 nd205 => ?_)
    · have t7 := h187.K.2
      have cn1 := h187.1
      have cs1 := h187.2.1
      have fr := fr.trans h187
      have hx := h189
      have cn := fr.1
      have cs := fr.2.1
      have nz := h190
      have ec : c_x K A V n0 7 dep q (m 1 34) g0 = .inl (c191, pl192) := by rw [show (m 1 34) = m 1 34 by omega]; exact h183
      have es := es.trans (c_bd_l ec)
      refine am_go 400 [] (am_wpc_cm _ _ _) wf_129 ?_
      refine And.intro (rfl) ?_
      refine And.intro (rfl) ?_
      refine ct_158 (by omega) hT hx (fun h => absurd h nz) (fun _ => ?_)
      refine And.intro (fun h => absurd h (by decide)) (fun _ => ?_)
      refine And.intro (rfl) ?_
      refine And.intro (rfl) ?_
      refine ct_158 (by omega) hT hx (fun h => absurd h nz) (fun _ => ?_)
      refine And.intro (fun _ => ?_) (fun h => absurd h (by decide))
      exact hQe rfl _ _ es _ _ _ fr (by omega) hx nz (by omega)
    · have t7 := h200.K.2
      have cn1 := h200.1
      have cs1 := h200.2.1
      have fr := fr.trans h200
      have hx := h204
      have cn := fr.1
      have cs := fr.2.1
      have eo : c_x K A V n0 7 dep q (m 1 34) g0 = .inr (qo196, ko197, g198) := by rw [show (m 1 34) = m 1 34 by omega]; exact h199
      have es := es.trans (c_bd_r eo)
      have nd1 := nd205
      refine K6 _ (n0) (qo196) (g198) _ _ _ _ (Eq.refl _) ?_ ?_ ?_ ?_ ?_ ?_ ?_ ?_ ?_
      · omega
      · omega
      · exact hx
      · exact fr
      · omega
      · refine (nd1.wd (by omega))
      · rw [show mw194 1 34 = ko197 by omega]; exact es
      · omega
      · omega
  · skip
    refine am_go 400 [] (am_wpc_cm _ _ _) wf_129 ?_
    refine And.intro (rfl) ?_
    refine (ih n0 (by omega)).2.2.2.2.1 _ _ _ dep _ _ _ g0 (by omega) hx (by omega) (by omega) (fun _ => by omega) (by omega) (fun _ mw2 h5 h6 h7 => ?_) (fun h => absurd h nz) (fun h => absurd h nz)
    have t7 := h5.K.2
    have cn1 := h5.1
    have cs1 := h5.2.1
    have fr := fr.trans h5
    have hx := h7
    have cn := fr.1
    have cs := fr.2.1
    refine And.intro (rfl) ?_
    refine And.intro (rfl) ?_
    refine ct_158 (by omega) hT hx (fun h => absurd h nz) (fun _ => ?_)
    refine And.intro (fun h => absurd h (by decide)) (fun _ => ?_)
    refine And.intro (rfl) ?_
    refine And.intro (rfl) ?_
    refine ct_158 (by omega) hT hx (fun h => absurd h nz) (fun _ => ?_)
    refine And.intro (fun _ => ?_) (fun h => absurd h (by decide))
    exact hQf nz _ fr (by omega) hx
theorem hc_130 {K A V : Int → Int} {N : Int} {n : Nat} (hT : xT K A V N) (ih : ∀ i, i < n → hCP K A V N i) : hCa K A V N 130 7 1 n := by
  intro d m Q dep q f p g0 hd hx hdp h0 hk hmu hQf hQe hQ
  have hb := hx.2.2.1
  have hN := hT.1
  obtain ⟨n0, rfl⟩ : ∃ i, n = i + 1 := ⟨n - 1, by omega⟩
  obtain ⟨dk, hdk⟩ : ∃ k, d = k + 1 := ⟨d - 1, by omega⟩
  have fr := fr_Cl.rfl m
  have cn := fr.1
  have cs := fr.2.1
  refine am_in (k := dk) rfl (by omega) (fun d hd => ?_)
  by_cases nz : f = 0
  · subst nz
    have es : c_x K A V (n0 + 1) 7 dep q (m 1 34) g0 = _ := c_x_7
    have K8 : ∀ (Nm : Nat), ∀ (i : Nat) (qq : Int) (g : aD) (x : Int) (z3 : aV) (z4 : aV), ∀ (mw : aM), (N - qq).toNat = Nm → (i < n0 + 1) → (20 * (N - qq) + 2 ≤ (i : Int)) → (hTx mw K A V N qq 0 p) → (fr_Cl m mw) → (m 1 34 < mw 1 34 ∧ mw 1 34 ≤ 24) → (hNd mw (m 0 0 + 1) (mw 0 0) x g (mw 1 34 - m 1 34)) → (c_x K A V (n0 + 1) 7 dep q (m 1 34) g0 = c_x K A V i 8 dep qq (mw 1 34) g) → (q < qq) → (dep ≤ 14) → am_WP am_G (am_wpc am_G am_T d) [] cd_130 Q 8 [aR 1, aI dep, aR x, z3, z4] [] mw := by
      intro Nm
      induction Nm using Nat.strongRecOn with
      | _ Nm ih8 =>
        intro i qq g x z3 z4 mw hN hi hmw hx fr hkw ndl es hqq hd14
        have hb := hx.2.2.1
        have cn := fr.1
        have cs := fr.2.1
        have kl := kK.rfl mw
        obtain ⟨i0, rfl⟩ : ∃ k, i = k + 1 := ⟨i - 1, by omega⟩
        replace es := es.trans c_x_8
        refine am_go 400 [8] (am_wpc_cm _ _ _) wf_130 ?_
        refine And.intro (rfl) ?_
        refine And.intro (rfl) ?_
        refine ct_158 (by omega) hT hx (fun _ h1 => ?_) (fun h1 => ?_)
        · have ky := h1
          refine And.intro (fun _ => ?_) (fun h => absurd h (by decide))
          have es := es.trans (if_pos (by omega))
          refine And.intro (rfl) ?_
          refine And.intro (rfl) ?_
          refine ct_161 (by omega) hT hx (fun v2 h3 => ?_)
          subst h3
          refine And.intro (rfl) ?_
          refine And.intro (rfl) ?_
          refine And.intro (rfl) ?_
          refine And.intro (rfl) ?_
          have hq := hx.2.1
          have hb := hx.2.2.1
          refine And.intro (⟨rfl, by omega⟩) ?_
          rw [show mw 16 (mw 13 5) = A qq by rw [hx.2.1]; exact (hx.1 _ (by omega) (by omega)).2.1]
          refine And.intro (rfl) ?_
          refine And.intro (rfl) ?_
          refine ct_157 (by omega) hT hx (by omega) (fun _ _ mw4 h5 h6 => ?_) (fun h => absurd ⟨rfl, rfl⟩ h)
          have hn1 := h5 1 34 (by omega)
          have hn2 := h5 0 0 (by omega)
          have hn3 := h5 0 1 (by omega)
          have kl := kl.trans (fr_t.K h5)
          have fr := fr.trans (fr_t.C h5)
          have hx := h6
          have cn := fr.1
          have cs := fr.2.1
          refine And.intro (rfl) ?_
          refine ct_128 (by omega) hT hx rfl (by omega) (fun h10 mw7 h8 h11 h9 h12 h13 => ?_) (fun h10 mw7 h8 h11 h9 h12 h13 => ?_)
          · have kl := kl.trans h8.K
            have fr := fr.trans h8
            have hx := h9
            have cn := fr.1
            have cs := fr.2.1
            have es := es.trans (c_pt_y (by omega))
            refine And.intro (by first | omega | (simp only [mS_iff, eq_self, Int.reduceEq, true_and, and_true, false_and, and_false, and_self, ↓reduceIte]; omega) | (simp only [mS_iff, eq_self, Int.reduceEq, true_and, and_true, false_and, and_false, and_self, ↓reduceIte] at *; omega)) ?_
            generalize h16 : mN mw7 17 7 = mw14
            generalize h17 : mw7 0 0 + 1 = r15
            have rr := Eq.symm h17
            obtain ⟨n1, n2, n3, n4, n5, n6⟩ := mN_f h16 h17 (by omega)
            have n7 : mw14 1 34 = mw7 1 34 := n5 1 34 (by omega) (by omega)
            have hx := hx.keep (fun x j a b => n5 x j (by omega) (by omega))
            have fr := fr.N n1 n2 n5 n6 (Eq.symm h17) (by omega) (by omega)
            have cn := fr.1
            have cs := fr.2.1
            have kl := kl.N n1 n5 (Eq.symm h17)
            refine And.intro (show -2147483648 ≤ dep + 1 ∧ dep + 1 ≤ 2147483647 by first | omega | (simp only [mS_iff, eq_self, Int.reduceEq, true_and, and_true, false_and, and_false, and_self, ↓reduceIte]; omega) | (simp only [mS_iff, eq_self, Int.reduceEq, true_and, and_true, false_and, and_false, and_self, ↓reduceIte] at *; omega)) ?_
            refine And.intro (rfl) ?_
            refine (ih i0 (by omega)).2.2.2.2.2 _ _ _ (dep + 1) _ _ _ g (by omega) hx (by omega) (by omega) (fun _ => by omega) (by omega) (fun h => absurd rfl h) (fun _ c26 pl27 h18 mw19 r20 qe21 h22 h23 h24 h25 h28 => ?_) (fun _ qo31 ko32 g33 h34 mw29 r30 h35 h36 h37 h38 h39 nd40 => ?_)
            · have kl := kl.trans h22.K
              have t7 := h22.K.2
              have cn1 := h22.1
              have cs1 := h22.2.1
              have fr := fr.trans h22
              have hx := h24
              have cn := fr.1
              have cs := fr.2.1
              have nz := h25
              have ec : c_x K A V i0 9 (dep + 1) (qq + 1) (mw 1 34 + 1) g = .inl (c26, pl27) := by rw [show (mw 1 34 + 1) = mw14 1 34 by omega]; exact h18
              have es := es.trans (c_bd_l ec)
              refine And.intro (show 0 < r15 by first | omega | (simp only [mS_iff, eq_self, Int.reduceEq, true_and, and_true, false_and, and_false, and_self, ↓reduceIte]; omega) | (simp only [mS_iff, eq_self, Int.reduceEq, true_and, and_true, false_and, and_false, and_self, ↓reduceIte] at *; omega)) ?_
              refine ct_335 (by omega) (by omega) (by omega) (((t7 _ _ (by omega) (by omega)).trans n3)) (fun mw41 h42 h43 h44 h45 h46 h47 h48 h49 h50 h51 h52 => ?_)
              have i7 : mw41 1 34 = mw19 1 34 := h42.2.2.1 1 34 (by omega) (by omega) (by omega)
              have hx := hx.keep (fun x j a b => h42.2.2.1 x j (by omega) (by omega) (by omega))
              have o1 := h42.1
              have o2 := h42.2.1
              have fr := fr.O h42 (by omega) (by omega) (by omega) (by omega)
              have cn := fr.1
              have cs := fr.2.1
              refine am_go 400 [] (am_wpc_cm _ _ _) wf_130 ?_
              refine And.intro (rfl) ?_
              refine And.intro (rfl) ?_
              refine ct_158 (by omega) hT hx (fun h => absurd h nz) (fun _ => ?_)
              refine And.intro (fun h => absurd h (by decide)) (fun _ => ?_)
              refine And.intro (rfl) ?_
              refine And.intro (rfl) ?_
              refine ct_158 (by omega) hT hx (fun h => absurd h nz) (fun _ => ?_)
              refine And.intro (fun _ => ?_) (fun h => absurd h (by decide))
              exact hQe rfl _ _ es _ _ _ fr (by omega) hx nz (by omega)
            · have kl := kl.trans h35.K
              have t7 := h35.K.2
              have cn1 := h35.1
              have cs1 := h35.2.1
              have fr := fr.trans h35
              have hx := h39
              have cn := fr.1
              have cs := fr.2.1
              have eo : c_x K A V i0 9 (dep + 1) (qq + 1) (mw 1 34 + 1) g = .inr (qo31, ko32, g33) := by rw [show (mw 1 34 + 1) = mw14 1 34 by omega]; exact h34
              have es := es.trans (c_bd_r eo)
              have nd2 := nd40
              refine And.intro (show 0 < r15 by first | omega | (simp only [mS_iff, eq_self, Int.reduceEq, true_and, and_true, false_and, and_false, and_self, ↓reduceIte]; omega) | (simp only [mS_iff, eq_self, Int.reduceEq, true_and, and_true, false_and, and_false, and_self, ↓reduceIte] at *; omega)) ?_
              refine ct_335 (by omega) (by omega) (by omega) (((t7 _ _ (by omega) (by omega)).trans n3)) (fun mw53 h54 h55 h56 h57 h58 h59 h60 h61 h62 h63 h64 => ?_)
              have i7 : mw53 1 34 = mw29 1 34 := h54.2.2.1 1 34 (by omega) (by omega) (by omega)
              have hx := hx.keep (fun x j a b => h54.2.2.1 x j (by omega) (by omega) (by omega))
              have o1 := h54.1
              have o2 := h54.2.1
              have fr := fr.O h54 (by omega) (by omega) (by omega) (by omega)
              have cn := fr.1
              have cs := fr.2.1
              refine ih8 _ ?_ (i0) (qo31) (d_two (A qq) (K qq) g g33) _ _ _ _ (Eq.refl _) ?_ ?_ ?_ ?_ ?_ ?_ ?_ ?_ ?_
              · omega
              · omega
              · omega
              · exact hx
              · exact fr
              · omega
              · refine (hNd_two (lo1 := m 0 0 + 1) (hi1 := mw 0 0) (p1 := mw 1 34 - m 1 34) (lo2 := mw14 0 0 + 1) (hi2 := mw29 0 0) (p2 := ko32 - mw14 1 34) h56 ⟨by omega, by omega⟩ h57 h58 ⟨by omega, by omega⟩ (by rw [h63]; exact h64) h59 h60 h61 (ndl.mv (fun y j u v => (h54.2.2.1 y j (by omega) (by omega) (by omega)).trans (kl.2 y j (by omega) v))) (nd2.mv (fun y j u v => h54.2.2.1 y j (by omega) (by omega) v)) ⟨by omega, by omega⟩ ⟨by omega, by omega⟩ (by omega) (by omega)).wd (by omega)
              · rw [show mw53 1 34 = ko32 by omega]; exact es
              · omega
              · omega
          · have kl := kl.trans h8.K
            have fr := fr.trans h8
            have hx := h9
            have cn := fr.1
            have cs := fr.2.1
            have nz : (5 : Int) ≠ 0 := by omega
            have es := es.trans (c_pt_n (by omega))
            refine And.intro (by first | omega | (simp only [mS_iff, eq_self, Int.reduceEq, true_and, and_true, false_and, and_false, and_self, ↓reduceIte]; omega) | (simp only [mS_iff, eq_self, Int.reduceEq, true_and, and_true, false_and, and_false, and_self, ↓reduceIte] at *; omega)) ?_
            generalize h67 : mN mw7 17 7 = mw65
            generalize h68 : mw7 0 0 + 1 = r66
            have rr := Eq.symm h68
            obtain ⟨n1, n2, n3, n4, n5, n6⟩ := mN_f h67 h68 (by omega)
            have n7 : mw65 1 34 = mw7 1 34 := n5 1 34 (by omega) (by omega)
            have hx := hx.keep (fun x j a b => n5 x j (by omega) (by omega))
            have fr := fr.N n1 n2 n5 n6 (Eq.symm h68) (by omega) (by omega)
            have cn := fr.1
            have cs := fr.2.1
            have kl := kl.N n1 n5 (Eq.symm h68)
            refine And.intro (show -2147483648 ≤ dep + 1 ∧ dep + 1 ≤ 2147483647 by first | omega | (simp only [mS_iff, eq_self, Int.reduceEq, true_and, and_true, false_and, and_false, and_self, ↓reduceIte]; omega) | (simp only [mS_iff, eq_self, Int.reduceEq, true_and, and_true, false_and, and_false, and_self, ↓reduceIte] at *; omega)) ?_
            refine And.intro (rfl) ?_
            refine (ih i0 (by omega)).2.2.2.2.2 _ _ _ (dep + 1) _ _ _ g (by omega) hx (by omega) (by omega) (fun _ => by omega) (by omega) (fun _ mw70 h73 h74 h75 => ?_) (fun h => absurd h nz) (fun h => absurd h nz)
            have kl := kl.trans h73.K
            have t7 := h73.K.2
            have cn1 := h73.1
            have cs1 := h73.2.1
            have fr := fr.trans h73
            have hx := h75
            have cn := fr.1
            have cs := fr.2.1
            refine And.intro (show 0 < r66 by first | omega | (simp only [mS_iff, eq_self, Int.reduceEq, true_and, and_true, false_and, and_false, and_self, ↓reduceIte]; omega) | (simp only [mS_iff, eq_self, Int.reduceEq, true_and, and_true, false_and, and_false, and_self, ↓reduceIte] at *; omega)) ?_
            refine ct_335 (by omega) (by omega) (by omega) (((t7 _ _ (by omega) (by omega)).trans n3)) (fun mw80 h81 h82 h83 h84 h85 h86 h87 h88 h89 h90 h91 => ?_)
            have i7 : mw80 1 34 = mw70 1 34 := h81.2.2.1 1 34 (by omega) (by omega) (by omega)
            have hx := hx.keep (fun x j a b => h81.2.2.1 x j (by omega) (by omega) (by omega))
            have o1 := h81.1
            have o2 := h81.2.1
            have fr := fr.O h81 (by omega) (by omega) (by omega) (by omega)
            have cn := fr.1
            have cs := fr.2.1
            refine am_go 400 [] (am_wpc_cm _ _ _) wf_130 ?_
            refine And.intro (rfl) ?_
            refine And.intro (rfl) ?_
            refine ct_158 (by omega) hT hx (fun h => absurd h nz) (fun _ => ?_)
            refine And.intro (fun h => absurd h (by decide)) (fun _ => ?_)
            refine And.intro (rfl) ?_
            refine And.intro (rfl) ?_
            refine ct_158 (by omega) hT hx (fun h => absurd h nz) (fun _ => ?_)
            refine And.intro (fun _ => ?_) (fun h => absurd h (by decide))
            exact hQe rfl _ _ es _ _ _ fr (by omega) hx nz (by omega)
        · replace h1 : K qq ≠ 142 := fun h => h1 ⟨rfl, h⟩
          refine And.intro (fun h => absurd h (by decide)) (fun _ => ?_)
          refine And.intro (rfl) ?_
          refine And.intro (rfl) ?_
          refine ct_158 (by omega) hT hx (fun _ h92 => ?_) (fun h92 => ?_)
          · have ky := h92
            refine And.intro (fun h => absurd h (by decide)) (fun _ => ?_)
            have es := es.trans (if_pos (by omega))
            refine And.intro (rfl) ?_
            refine And.intro (rfl) ?_
            refine ct_161 (by omega) hT hx (fun v93 h94 => ?_)
            subst h94
            refine And.intro (rfl) ?_
            refine And.intro (rfl) ?_
            refine And.intro (rfl) ?_
            refine And.intro (rfl) ?_
            have hq := hx.2.1
            have hb := hx.2.2.1
            refine And.intro (⟨rfl, by omega⟩) ?_
            rw [show mw 16 (mw 13 5) = A qq by rw [hx.2.1]; exact (hx.1 _ (by omega) (by omega)).2.1]
            refine And.intro (rfl) ?_
            refine And.intro (rfl) ?_
            refine ct_157 (by omega) hT hx (by omega) (fun _ _ mw95 h96 h97 => ?_) (fun h => absurd ⟨rfl, rfl⟩ h)
            have hn1 := h96 1 34 (by omega)
            have hn2 := h96 0 0 (by omega)
            have hn3 := h96 0 1 (by omega)
            have kl := kl.trans (fr_t.K h96)
            have fr := fr.trans (fr_t.C h96)
            have hx := h97
            have cn := fr.1
            have cs := fr.2.1
            refine And.intro (rfl) ?_
            refine ct_128 (by omega) hT hx rfl (by omega) (fun h101 mw98 h99 h102 h100 h103 h104 => ?_) (fun h101 mw98 h99 h102 h100 h103 h104 => ?_)
            · have kl := kl.trans h99.K
              have fr := fr.trans h99
              have hx := h100
              have cn := fr.1
              have cs := fr.2.1
              have es := es.trans (c_pt_y (by omega))
              refine And.intro (by first | omega | (simp only [mS_iff, eq_self, Int.reduceEq, true_and, and_true, false_and, and_false, and_self, ↓reduceIte]; omega) | (simp only [mS_iff, eq_self, Int.reduceEq, true_and, and_true, false_and, and_false, and_self, ↓reduceIte] at *; omega)) ?_
              generalize h107 : mN mw98 17 7 = mw105
              generalize h108 : mw98 0 0 + 1 = r106
              have rr := Eq.symm h108
              obtain ⟨n1, n2, n3, n4, n5, n6⟩ := mN_f h107 h108 (by omega)
              have n7 : mw105 1 34 = mw98 1 34 := n5 1 34 (by omega) (by omega)
              have hx := hx.keep (fun x j a b => n5 x j (by omega) (by omega))
              have fr := fr.N n1 n2 n5 n6 (Eq.symm h108) (by omega) (by omega)
              have cn := fr.1
              have cs := fr.2.1
              have kl := kl.N n1 n5 (Eq.symm h108)
              refine And.intro (show -2147483648 ≤ dep + 1 ∧ dep + 1 ≤ 2147483647 by first | omega | (simp only [mS_iff, eq_self, Int.reduceEq, true_and, and_true, false_and, and_false, and_self, ↓reduceIte]; omega) | (simp only [mS_iff, eq_self, Int.reduceEq, true_and, and_true, false_and, and_false, and_self, ↓reduceIte] at *; omega)) ?_
              refine And.intro (rfl) ?_
              refine (ih i0 (by omega)).2.2.2.2.2 _ _ _ (dep + 1) _ _ _ g (by omega) hx (by omega) (by omega) (fun _ => by omega) (by omega) (fun h => absurd rfl h) (fun _ c117 pl118 h109 mw110 r111 qe112 h113 h114 h115 h116 h119 => ?_) (fun _ qo122 ko123 g124 h125 mw120 r121 h126 h127 h128 h129 h130 nd131 => ?_)
              · have kl := kl.trans h113.K
                have t7 := h113.K.2
                have cn1 := h113.1
                have cs1 := h113.2.1
                have fr := fr.trans h113
                have hx := h115
                have cn := fr.1
                have cs := fr.2.1
                have nz := h116
                have ec : c_x K A V i0 9 (dep + 1) (qq + 1) (mw 1 34 + 1) g = .inl (c117, pl118) := by rw [show (mw 1 34 + 1) = mw105 1 34 by omega]; exact h109
                have es := es.trans (c_bd_l ec)
                refine And.intro (show 0 < r106 by first | omega | (simp only [mS_iff, eq_self, Int.reduceEq, true_and, and_true, false_and, and_false, and_self, ↓reduceIte]; omega) | (simp only [mS_iff, eq_self, Int.reduceEq, true_and, and_true, false_and, and_false, and_self, ↓reduceIte] at *; omega)) ?_
                refine ct_335 (by omega) (by omega) (by omega) (((t7 _ _ (by omega) (by omega)).trans n3)) (fun mw132 h133 h134 h135 h136 h137 h138 h139 h140 h141 h142 h143 => ?_)
                have i7 : mw132 1 34 = mw110 1 34 := h133.2.2.1 1 34 (by omega) (by omega) (by omega)
                have hx := hx.keep (fun x j a b => h133.2.2.1 x j (by omega) (by omega) (by omega))
                have o1 := h133.1
                have o2 := h133.2.1
                have fr := fr.O h133 (by omega) (by omega) (by omega) (by omega)
                have cn := fr.1
                have cs := fr.2.1
                refine am_go 400 [] (am_wpc_cm _ _ _) wf_130 ?_
                refine And.intro (rfl) ?_
                refine And.intro (rfl) ?_
                refine ct_158 (by omega) hT hx (fun h => absurd h nz) (fun _ => ?_)
                refine And.intro (fun h => absurd h (by decide)) (fun _ => ?_)
                refine And.intro (rfl) ?_
                refine And.intro (rfl) ?_
                refine ct_158 (by omega) hT hx (fun h => absurd h nz) (fun _ => ?_)
                refine And.intro (fun _ => ?_) (fun h => absurd h (by decide))
                exact hQe rfl _ _ es _ _ _ fr (by omega) hx nz (by omega)
              · have kl := kl.trans h126.K
                have t7 := h126.K.2
                have cn1 := h126.1
                have cs1 := h126.2.1
                have fr := fr.trans h126
                have hx := h130
                have cn := fr.1
                have cs := fr.2.1
                have eo : c_x K A V i0 9 (dep + 1) (qq + 1) (mw 1 34 + 1) g = .inr (qo122, ko123, g124) := by rw [show (mw 1 34 + 1) = mw105 1 34 by omega]; exact h125
                have es := es.trans (c_bd_r eo)
                have nd2 := nd131
                refine And.intro (show 0 < r106 by first | omega | (simp only [mS_iff, eq_self, Int.reduceEq, true_and, and_true, false_and, and_false, and_self, ↓reduceIte]; omega) | (simp only [mS_iff, eq_self, Int.reduceEq, true_and, and_true, false_and, and_false, and_self, ↓reduceIte] at *; omega)) ?_
                refine ct_335 (by omega) (by omega) (by omega) (((t7 _ _ (by omega) (by omega)).trans n3)) (fun mw144 h145 h146 h147 h148 h149 h150 h151 h152 h153 h154 h155 => ?_)
                have i7 : mw144 1 34 = mw120 1 34 := h145.2.2.1 1 34 (by omega) (by omega) (by omega)
                have hx := hx.keep (fun x j a b => h145.2.2.1 x j (by omega) (by omega) (by omega))
                have o1 := h145.1
                have o2 := h145.2.1
                have fr := fr.O h145 (by omega) (by omega) (by omega) (by omega)
                have cn := fr.1
                have cs := fr.2.1
                refine ih8 _ ?_ (i0) (qo122) (d_two (A qq) (K qq) g g124) _ _ _ _ (Eq.refl _) ?_ ?_ ?_ ?_ ?_ ?_ ?_ ?_ ?_
                · omega
                · omega
                · omega
                · exact hx
                · exact fr
                · omega
                · refine (hNd_two (lo1 := m 0 0 + 1) (hi1 := mw 0 0) (p1 := mw 1 34 - m 1 34) (lo2 := mw105 0 0 + 1) (hi2 := mw120 0 0) (p2 := ko123 - mw105 1 34) h147 ⟨by omega, by omega⟩ h148 h149 ⟨by omega, by omega⟩ (by rw [h154]; exact h155) h150 h151 h152 (ndl.mv (fun y j u v => (h145.2.2.1 y j (by omega) (by omega) (by omega)).trans (kl.2 y j (by omega) v))) (nd2.mv (fun y j u v => h145.2.2.1 y j (by omega) (by omega) v)) ⟨by omega, by omega⟩ ⟨by omega, by omega⟩ (by omega) (by omega)).wd (by omega)
                · rw [show mw144 1 34 = ko123 by omega]; exact es
                · omega
                · omega
            · have kl := kl.trans h99.K
              have fr := fr.trans h99
              have hx := h100
              have cn := fr.1
              have cs := fr.2.1
              have nz : (5 : Int) ≠ 0 := by omega
              have es := es.trans (c_pt_n (by omega))
              refine And.intro (by first | omega | (simp only [mS_iff, eq_self, Int.reduceEq, true_and, and_true, false_and, and_false, and_self, ↓reduceIte]; omega) | (simp only [mS_iff, eq_self, Int.reduceEq, true_and, and_true, false_and, and_false, and_self, ↓reduceIte] at *; omega)) ?_
              generalize h158 : mN mw98 17 7 = mw156
              generalize h159 : mw98 0 0 + 1 = r157
              have rr := Eq.symm h159
              obtain ⟨n1, n2, n3, n4, n5, n6⟩ := mN_f h158 h159 (by omega)
              have n7 : mw156 1 34 = mw98 1 34 := n5 1 34 (by omega) (by omega)
              have hx := hx.keep (fun x j a b => n5 x j (by omega) (by omega))
              have fr := fr.N n1 n2 n5 n6 (Eq.symm h159) (by omega) (by omega)
              have cn := fr.1
              have cs := fr.2.1
              have kl := kl.N n1 n5 (Eq.symm h159)
              refine And.intro (show -2147483648 ≤ dep + 1 ∧ dep + 1 ≤ 2147483647 by first | omega | (simp only [mS_iff, eq_self, Int.reduceEq, true_and, and_true, false_and, and_false, and_self, ↓reduceIte]; omega) | (simp only [mS_iff, eq_self, Int.reduceEq, true_and, and_true, false_and, and_false, and_self, ↓reduceIte] at *; omega)) ?_
              refine And.intro (rfl) ?_
              refine (ih i0 (by omega)).2.2.2.2.2 _ _ _ (dep + 1) _ _ _ g (by omega) hx (by omega) (by omega) (fun _ => by omega) (by omega) (fun _ mw161 h164 h165 h166 => ?_) (fun h => absurd h nz) (fun h => absurd h nz)
              have kl := kl.trans h164.K
              have t7 := h164.K.2
              have cn1 := h164.1
              have cs1 := h164.2.1
              have fr := fr.trans h164
              have hx := h166
              have cn := fr.1
              have cs := fr.2.1
              refine And.intro (show 0 < r157 by first | omega | (simp only [mS_iff, eq_self, Int.reduceEq, true_and, and_true, false_and, and_false, and_self, ↓reduceIte]; omega) | (simp only [mS_iff, eq_self, Int.reduceEq, true_and, and_true, false_and, and_false, and_self, ↓reduceIte] at *; omega)) ?_
              refine ct_335 (by omega) (by omega) (by omega) (((t7 _ _ (by omega) (by omega)).trans n3)) (fun mw171 h172 h173 h174 h175 h176 h177 h178 h179 h180 h181 h182 => ?_)
              have i7 : mw171 1 34 = mw161 1 34 := h172.2.2.1 1 34 (by omega) (by omega) (by omega)
              have hx := hx.keep (fun x j a b => h172.2.2.1 x j (by omega) (by omega) (by omega))
              have o1 := h172.1
              have o2 := h172.2.1
              have fr := fr.O h172 (by omega) (by omega) (by omega) (by omega)
              have cn := fr.1
              have cs := fr.2.1
              refine am_go 400 [] (am_wpc_cm _ _ _) wf_130 ?_
              refine And.intro (rfl) ?_
              refine And.intro (rfl) ?_
              refine ct_158 (by omega) hT hx (fun h => absurd h nz) (fun _ => ?_)
              refine And.intro (fun h => absurd h (by decide)) (fun _ => ?_)
              refine And.intro (rfl) ?_
              refine And.intro (rfl) ?_
              refine ct_158 (by omega) hT hx (fun h => absurd h nz) (fun _ => ?_)
              refine And.intro (fun _ => ?_) (fun h => absurd h (by decide))
              exact hQe rfl _ _ es _ _ _ fr (by omega) hx nz (by omega)
          · replace h92 : K qq ≠ 147 := fun h => h92 ⟨rfl, h⟩
            refine And.intro (fun _ => ?_) (fun h => absurd h (by decide))
            have es := es.trans (if_neg (by omega))
            exact hQ rfl _ _ _ es _ _ fr rfl (by omega) (by omega) hx ndl
    refine am_go 400 [8] (am_wpc_cm _ _ _) wf_130 ?_
    refine And.intro (show -2147483648 ≤ dep + 1 ∧ dep + 1 ≤ 2147483647 by first | omega | (simp only [mS_iff, eq_self, Int.reduceEq, true_and, and_true, false_and, and_false, and_self, ↓reduceIte]; omega) | (simp only [mS_iff, eq_self, Int.reduceEq, true_and, and_true, false_and, and_false, and_self, ↓reduceIte] at *; omega)) ?_
    refine And.intro (rfl) ?_
    refine (ih n0 (by omega)).2.2.2.2.2 _ _ _ (dep + 1) _ _ _ g0 (by omega) hx (by omega) (by omega) (fun _ => by omega) (by omega) (fun h => absurd rfl h) (fun _ c191 pl192 h183 mw184 r185 qe186 h187 h188 h189 h190 h193 => ?_) (fun _ qo196 ko197 g198 h199 mw194 r195 h200 h201 h202 h203 h204 nd205 => ?_)
    · have t7 := h187.K.2
      have cn1 := h187.1
      have cs1 := h187.2.1
      have fr := fr.trans h187
      have hx := h189
      have cn := fr.1
      have cs := fr.2.1
      have nz := h190
      have ec : c_x K A V n0 9 (dep + 1) q (m 1 34) g0 = .inl (c191, pl192) := by rw [show (m 1 34) = m 1 34 by omega]; exact h183
      have es := es.trans (c_bd_l ec)
      refine am_go 400 [] (am_wpc_cm _ _ _) wf_130 ?_
      refine And.intro (rfl) ?_
      refine And.intro (rfl) ?_
      refine ct_158 (by omega) hT hx (fun h => absurd h nz) (fun _ => ?_)
      refine And.intro (fun h => absurd h (by decide)) (fun _ => ?_)
      refine And.intro (rfl) ?_
      refine And.intro (rfl) ?_
      refine ct_158 (by omega) hT hx (fun h => absurd h nz) (fun _ => ?_)
      refine And.intro (fun _ => ?_) (fun h => absurd h (by decide))
      exact hQe rfl _ _ es _ _ _ fr (by omega) hx nz (by omega)
    · have t7 := h200.K.2
      have cn1 := h200.1
      have cs1 := h200.2.1
      have fr := fr.trans h200
      have hx := h204
      have cn := fr.1
      have cs := fr.2.1
      have eo : c_x K A V n0 9 (dep + 1) q (m 1 34) g0 = .inr (qo196, ko197, g198) := by rw [show (m 1 34) = m 1 34 by omega]; exact h199
      have es := es.trans (c_bd_r eo)
      have nd1 := nd205
      refine K8 _ (n0) (qo196) (g198) _ _ _ _ (Eq.refl _) ?_ ?_ ?_ ?_ ?_ ?_ ?_ ?_ ?_
      · omega
      · omega
      · exact hx
      · exact fr
      · omega
      · refine (nd1.wd (by omega))
      · rw [show mw194 1 34 = ko197 by omega]; exact es
      · omega
      · omega
  · skip
    refine am_go 400 [] (am_wpc_cm _ _ _) wf_130 ?_
    refine And.intro (show -2147483648 ≤ dep + 1 ∧ dep + 1 ≤ 2147483647 by first | omega | (simp only [mS_iff, eq_self, Int.reduceEq, true_and, and_true, false_and, and_false, and_self, ↓reduceIte]; omega) | (simp only [mS_iff, eq_self, Int.reduceEq, true_and, and_true, false_and, and_false, and_self, ↓reduceIte] at *; omega)) ?_
    refine And.intro (rfl) ?_
    refine (ih n0 (by omega)).2.2.2.2.2 _ _ _ (dep + 1) _ _ _ g0 (by omega) hx (by omega) (by omega) (fun _ => by omega) (by omega) (fun _ mw2 h5 h6 h7 => ?_) (fun h => absurd h nz) (fun h => absurd h nz)
    have t7 := h5.K.2
    have cn1 := h5.1
    have cs1 := h5.2.1
    have fr := fr.trans h5
    have hx := h7
    have cn := fr.1
    have cs := fr.2.1
    refine And.intro (rfl) ?_
    refine And.intro (rfl) ?_
    refine ct_158 (by omega) hT hx (fun h => absurd h nz) (fun _ => ?_)
    refine And.intro (fun h => absurd h (by decide)) (fun _ => ?_)
    refine And.intro (rfl) ?_
    refine And.intro (rfl) ?_
    refine ct_158 (by omega) hT hx (fun h => absurd h nz) (fun _ => ?_)
    refine And.intro (fun _ => ?_) (fun h => absurd h (by decide))
    exact hQf nz _ fr (by omega) hx
