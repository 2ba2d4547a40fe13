/-! needs: a01 -/
/-! CONTRACTS: the end of a field; by tools/gena2.py -/
set_option maxRecDepth 100000
theorem lp_46 {d : Nat} {m : aM} {Q : aO → aM → Prop} {K A V : Int → Int} {N q s ln nb : Int} {p : Int} (hd : 5 ≤ d) (hT : xT K A V N) (hx : hTx m K A V N q 0 p) (hs : (0 ≤ s ∧ s ≤ 9) ∧ (0 ≤ ln ∧ ln ≤ 2) ∧ (0 ≤ nb ∧ nb ≤ 9999)) (h0 : 77 ≤ m 0 0 ∧ m 0 0 + 2 ≤ amC ∧ 0 ≤ m 0 1 ∧ m 0 1 + 30 ≤ amS) (hQe : ∀ m' r q' f' p', fr_P 2 30 m m' → hTx m' K A V N q' f' p' → f' ≠ 0 → p_two K A s ln nb q = .inl (f', p') → Q (.inl (some (aR r))) m') (hQ : ∀ m' r q' w, fr_P 2 30 m m' → hTx m' K A V N q' 0 p → p_two K A s ln nb q = .inr (q', w) → hNF m m' r w → Q (.inl (some (aR r))) m') : am_WP am_G (am_wpc am_G am_T d) [] cd_46 Q 129 [aR 13, aI s, aI ln, aI nb, aU, aU] [] m := by
  have fr := fr_P.rfl m
  have cn := fr.1
  have cs := fr.2.1
  refine am_go 400 [] (am_wpc_cm _ _ _) wf_46 ?_
  refine And.intro (rfl) ?_
  refine ct_154 (by omega) hT hx (by omega) (by omega) (fun h => absurd rfl h) (fun _ h1 mw3 h5 h6 => ?_) (fun _ h1 mw4 h5 h6 => ?_)
  · have fr := fr.trans (fr_t.P h5)
    have hx := h6
    have cn := fr.1
    have cs := fr.2.1
    have k1 := h1
    refine And.intro (rfl) ?_
    refine ct_159 (by omega) hT hx (by omega) (fun h => absurd rfl h) (fun _ h7 mw9 h11 h12 => ?_) (fun _ h7 mw10 h11 h12 => ?_)
    · have fr := fr.trans (fr_t.P h11)
      have hx := h12
      have cn := fr.1
      have cs := fr.2.1
      have k2 := h7
      refine And.intro (rfl) ?_
      refine ct_154 (by omega) hT hx (by omega) (by omega) (fun h => absurd rfl h) (fun _ h13 mw15 h17 h18 => ?_) (fun _ h13 mw16 h17 h18 => ?_)
      · have fr := fr.trans (fr_t.P h17)
        have hx := h18
        have cn := fr.1
        have cs := fr.2.1
        have k3 := h13
        refine And.intro (fun h19 => ?_) (fun h19 => ?_)
        · refine And.intro (by first | omega | (simp only [mS_iff, eq_self, Int.reduceEq, true_and, and_true, false_and, and_false, and_self, ↓reduceIte]; omega) | (simp only [mS_iff, eq_self, Int.reduceEq, true_and, and_true, false_and, and_false, and_self, ↓reduceIte] at *; omega)) ?_
          generalize h22 : mN mw15 5 6 = mw20
          generalize h23 : mw15 0 0 + 1 = r21
          obtain ⟨n1, n2, n3, n4, n5, n6⟩ := mN_f h22 h23 (by omega)
          refine And.intro (show 0 < r21 by first | omega | (simp only [mS_iff, eq_self, Int.reduceEq, true_and, and_true, false_and, and_false, and_self, ↓reduceIte]; omega) | (simp only [mS_iff, eq_self, Int.reduceEq, true_and, and_true, false_and, and_false, and_self, ↓reduceIte] at *; omega)) ?_
          refine ct_164 (by omega) (by omega) (by omega) n3 (fun mw24 h25 h26 h27 h28 h29 h30 h31 h32 h33 h34 => ?_)
          have fq := h25
          obtain ⟨y1, y2, y3, y4⟩ := h25
          obtain ⟨z1, z2, z3, z4⟩ := fr
          have fX : fr_P 2 30 m mw24 := ⟨by omega, by omega, fun x j a b c => by rw [y3 x j a (by omega) (by omega), n5 x j a (by omega)]; exact z3 x j a b c, fun j a b => by rw [y4 j a b, n6 j a b]; exact z4 j a b⟩
          have hX : hTx mw24 K A V N _ _ _ := hx.keep (fun x j a b => by rw [y3 x j (by omega) (by omega) (by omega), n5 x j (by omega) (by omega)])
          refine hQ _ _ _ (p_mk s ln nb (K q - 0) (K (q + 1 + 1) - 0)) fX hX ?_ ?_
          · unfold p_two
            rw [p_bd_r (p_want_y k1), p_bd_r (p_want_y (by omega)), p_bd_r (p_want_y k3)]
          · exact ⟨⟨by omega, by omega⟩, h27, by rw [h28]; unfold p_mk; first | (rw [if_pos (by omega)]; simp; done) | (rw [if_neg (by omega)]; simp; done), by rw [h29]; unfold p_mk; first | (rw [if_pos (by omega)]; simp; done) | (rw [if_neg (by omega)]; simp; done), by rw [h30]; unfold p_mk; first | (rw [if_pos (by omega)]; simp; done) | (rw [if_neg (by omega)]; simp; done), by rw [h31]; unfold p_mk; first | (rw [if_pos (by omega)]; simp; done) | (rw [if_neg (by omega)]; simp; done), by rw [h32]; unfold p_mk; first | (rw [if_pos (by omega)]; simp; done) | (rw [if_neg (by omega)]; simp; done), ⟨by rw [h33]; omega, by rw [h33]; omega, by rw [h33]; exact h34⟩⟩
        · refine And.intro (by first | omega | (simp only [mS_iff, eq_self, Int.reduceEq, true_and, and_true, false_and, and_false, and_self, ↓reduceIte]; omega) | (simp only [mS_iff, eq_self, Int.reduceEq, true_and, and_true, false_and, and_false, and_self, ↓reduceIte] at *; omega)) ?_
          generalize h37 : mN mw15 5 6 = mw35
          generalize h38 : mw15 0 0 + 1 = r36
          obtain ⟨n1, n2, n3, n4, n5, n6⟩ := mN_f h37 h38 (by omega)
          refine And.intro (show 0 < r36 by first | omega | (simp only [mS_iff, eq_self, Int.reduceEq, true_and, and_true, false_and, and_false, and_self, ↓reduceIte]; omega) | (simp only [mS_iff, eq_self, Int.reduceEq, true_and, and_true, false_and, and_false, and_self, ↓reduceIte] at *; omega)) ?_
          refine ct_164 (by omega) (by omega) (by omega) n3 (fun mw39 h40 h41 h42 h43 h44 h45 h46 h47 h48 h49 => ?_)
          have fq := h40
          obtain ⟨y1, y2, y3, y4⟩ := h40
          obtain ⟨z1, z2, z3, z4⟩ := fr
          have fX : fr_P 2 30 m mw39 := ⟨by omega, by omega, fun x j a b c => by rw [y3 x j a (by omega) (by omega), n5 x j a (by omega)]; exact z3 x j a b c, fun j a b => by rw [y4 j a b, n6 j a b]; exact z4 j a b⟩
          have hX : hTx mw39 K A V N _ _ _ := hx.keep (fun x j a b => by rw [y3 x j (by omega) (by omega) (by omega), n5 x j (by omega) (by omega)])
          refine hQ _ _ _ (p_mk s ln nb (K q - 0) (K (q + 1 + 1) - 0)) fX hX ?_ ?_
          · unfold p_two
            rw [p_bd_r (p_want_y k1), p_bd_r (p_want_y (by omega)), p_bd_r (p_want_y k3)]
          · exact ⟨⟨by omega, by omega⟩, h42, by rw [h43]; unfold p_mk; first | (rw [if_pos (by omega)]; simp; done) | (rw [if_neg (by omega)]; simp; done), by rw [h44]; unfold p_mk; first | (rw [if_pos (by omega)]; simp; done) | (rw [if_neg (by omega)]; simp; done), by rw [h45]; unfold p_mk; first | (rw [if_pos (by omega)]; simp; done) | (rw [if_neg (by omega)]; simp; done), by rw [h46]; unfold p_mk; first | (rw [if_pos (by omega)]; simp; done) | (rw [if_neg (by omega)]; simp; done), by rw [h47]; unfold p_mk; first | (rw [if_pos (by omega)]; simp; done) | (rw [if_neg (by omega)]; simp; done), ⟨by rw [h48]; omega, by rw [h48]; omega, by rw [h48]; exact h49⟩⟩
      · have fr := fr.trans (fr_t.P h17)
        have hx := h18
        have nz : x_wr (K ((q + 1) + 1)) ≠ 0 := by unfold x_wr; omega
        have er := h13
        have cn := fr.1
        have cs := fr.2.1
        refine And.intro (fun h50 => ?_) (fun h50 => ?_)
        · refine And.intro (by first | omega | (simp only [mS_iff, eq_self, Int.reduceEq, true_and, and_true, false_and, and_false, and_self, ↓reduceIte]; omega) | (simp only [mS_iff, eq_self, Int.reduceEq, true_and, and_true, false_and, and_false, and_self, ↓reduceIte] at *; omega)) ?_
          generalize h53 : mN mw16 5 6 = mw51
          generalize h54 : mw16 0 0 + 1 = r52
          obtain ⟨n1, n2, n3, n4, n5, n6⟩ := mN_f h53 h54 (by omega)
          refine And.intro (show 0 < r52 by first | omega | (simp only [mS_iff, eq_self, Int.reduceEq, true_and, and_true, false_and, and_false, and_self, ↓reduceIte]; omega) | (simp only [mS_iff, eq_self, Int.reduceEq, true_and, and_true, false_and, and_false, and_self, ↓reduceIte] at *; omega)) ?_
          refine ct_164 (by omega) (by omega) (by omega) n3 (fun mw55 h56 h57 h58 h59 h60 h61 h62 h63 h64 h65 => ?_)
          have fq := h56
          obtain ⟨y1, y2, y3, y4⟩ := h56
          obtain ⟨z1, z2, z3, z4⟩ := fr
          have fX : fr_P 2 30 m mw55 := ⟨by omega, by omega, fun x j a b c => by rw [y3 x j a (by omega) (by omega), n5 x j a (by omega)]; exact z3 x j a b c, fun j a b => by rw [y4 j a b, n6 j a b]; exact z4 j a b⟩
          have hX : hTx mw55 K A V N _ _ _ := hx.keep (fun x j a b => by rw [y3 x j (by omega) (by omega) (by omega), n5 x j (by omega) (by omega)])
          refine hQe _ _ _ _ _ fX hX nz ?_
          unfold p_two
          first
            | exact p_bd_l (p_want_n er)
            | (rw [p_bd_r (p_want_y k1)]; exact p_bd_l (p_want_n (by omega)))
            | (rw [p_bd_r (p_want_y k1), p_bd_r (p_want_y (by omega))]; exact p_bd_l (p_want_n er))
        · refine And.intro (by first | omega | (simp only [mS_iff, eq_self, Int.reduceEq, true_and, and_true, false_and, and_false, and_self, ↓reduceIte]; omega) | (simp only [mS_iff, eq_self, Int.reduceEq, true_and, and_true, false_and, and_false, and_self, ↓reduceIte] at *; omega)) ?_
          generalize h68 : mN mw16 5 6 = mw66
          generalize h69 : mw16 0 0 + 1 = r67
          obtain ⟨n1, n2, n3, n4, n5, n6⟩ := mN_f h68 h69 (by omega)
          refine And.intro (show 0 < r67 by first | omega | (simp only [mS_iff, eq_self, Int.reduceEq, true_and, and_true, false_and, and_false, and_self, ↓reduceIte]; omega) | (simp only [mS_iff, eq_self, Int.reduceEq, true_and, and_true, false_and, and_false, and_self, ↓reduceIte] at *; omega)) ?_
          refine ct_164 (by omega) (by omega) (by omega) n3 (fun mw70 h71 h72 h73 h74 h75 h76 h77 h78 h79 h80 => ?_)
          have fq := h71
          obtain ⟨y1, y2, y3, y4⟩ := h71
          obtain ⟨z1, z2, z3, z4⟩ := fr
          have fX : fr_P 2 30 m mw70 := ⟨by omega, by omega, fun x j a b c => by rw [y3 x j a (by omega) (by omega), n5 x j a (by omega)]; exact z3 x j a b c, fun j a b => by rw [y4 j a b, n6 j a b]; exact z4 j a b⟩
          have hX : hTx mw70 K A V N _ _ _ := hx.keep (fun x j a b => by rw [y3 x j (by omega) (by omega) (by omega), n5 x j (by omega) (by omega)])
          refine hQe _ _ _ _ _ fX hX nz ?_
          unfold p_two
          first
            | exact p_bd_l (p_want_n er)
            | (rw [p_bd_r (p_want_y k1)]; exact p_bd_l (p_want_n (by omega)))
            | (rw [p_bd_r (p_want_y k1), p_bd_r (p_want_y (by omega))]; exact p_bd_l (p_want_n er))
    · have fr := fr.trans (fr_t.P h11)
      have hx := h12
      have nz : x_wr (K (q + 1)) ≠ 0 := by unfold x_wr; omega
      have er := h7
      have cn := fr.1
      have cs := fr.2.1
      refine And.intro (rfl) ?_
      refine ct_154 (by omega) hT hx (by omega) (by omega) (fun _ => ?_) (fun h => absurd h nz) (fun h => absurd h nz)
      refine And.intro (fun h81 => ?_) (fun h81 => ?_)
      · refine And.intro (by first | omega | (simp only [mS_iff, eq_self, Int.reduceEq, true_and, and_true, false_and, and_false, and_self, ↓reduceIte]; omega) | (simp only [mS_iff, eq_self, Int.reduceEq, true_and, and_true, false_and, and_false, and_self, ↓reduceIte] at *; omega)) ?_
        generalize h84 : mN mw10 5 6 = mw82
        generalize h85 : mw10 0 0 + 1 = r83
        obtain ⟨n1, n2, n3, n4, n5, n6⟩ := mN_f h84 h85 (by omega)
        refine And.intro (show 0 < r83 by first | omega | (simp only [mS_iff, eq_self, Int.reduceEq, true_and, and_true, false_and, and_false, and_self, ↓reduceIte]; omega) | (simp only [mS_iff, eq_self, Int.reduceEq, true_and, and_true, false_and, and_false, and_self, ↓reduceIte] at *; omega)) ?_
        refine ct_164 (by omega) (by omega) (by omega) n3 (fun mw86 h87 h88 h89 h90 h91 h92 h93 h94 h95 h96 => ?_)
        have fq := h87
        obtain ⟨y1, y2, y3, y4⟩ := h87
        obtain ⟨z1, z2, z3, z4⟩ := fr
        have fX : fr_P 2 30 m mw86 := ⟨by omega, by omega, fun x j a b c => by rw [y3 x j a (by omega) (by omega), n5 x j a (by omega)]; exact z3 x j a b c, fun j a b => by rw [y4 j a b, n6 j a b]; exact z4 j a b⟩
        have hX : hTx mw86 K A V N _ _ _ := hx.keep (fun x j a b => by rw [y3 x j (by omega) (by omega) (by omega), n5 x j (by omega) (by omega)])
        refine hQe _ _ _ _ _ fX hX nz ?_
        unfold p_two
        first
          | exact p_bd_l (p_want_n er)
          | (rw [p_bd_r (p_want_y k1)]; exact p_bd_l (p_want_n (by omega)))
          | (rw [p_bd_r (p_want_y k1), p_bd_r (p_want_y (by omega))]; exact p_bd_l (p_want_n er))
      · refine And.intro (by first | omega | (simp only [mS_iff, eq_self, Int.reduceEq, true_and, and_true, false_and, and_false, and_self, ↓reduceIte]; omega) | (simp only [mS_iff, eq_self, Int.reduceEq, true_and, and_true, false_and, and_false, and_self, ↓reduceIte] at *; omega)) ?_
        generalize h99 : mN mw10 5 6 = mw97
        generalize h100 : mw10 0 0 + 1 = r98
        obtain ⟨n1, n2, n3, n4, n5, n6⟩ := mN_f h99 h100 (by omega)
        refine And.intro (show 0 < r98 by first | omega | (simp only [mS_iff, eq_self, Int.reduceEq, true_and, and_true, false_and, and_false, and_self, ↓reduceIte]; omega) | (simp only [mS_iff, eq_self, Int.reduceEq, true_and, and_true, false_and, and_false, and_self, ↓reduceIte] at *; omega)) ?_
        refine ct_164 (by omega) (by omega) (by omega) n3 (fun mw101 h102 h103 h104 h105 h106 h107 h108 h109 h110 h111 => ?_)
        have fq := h102
        obtain ⟨y1, y2, y3, y4⟩ := h102
        obtain ⟨z1, z2, z3, z4⟩ := fr
        have fX : fr_P 2 30 m mw101 := ⟨by omega, by omega, fun x j a b c => by rw [y3 x j a (by omega) (by omega), n5 x j a (by omega)]; exact z3 x j a b c, fun j a b => by rw [y4 j a b, n6 j a b]; exact z4 j a b⟩
        have hX : hTx mw101 K A V N _ _ _ := hx.keep (fun x j a b => by rw [y3 x j (by omega) (by omega) (by omega), n5 x j (by omega) (by omega)])
        refine hQe _ _ _ _ _ fX hX nz ?_
        unfold p_two
        first
          | exact p_bd_l (p_want_n er)
          | (rw [p_bd_r (p_want_y k1)]; exact p_bd_l (p_want_n (by omega)))
          | (rw [p_bd_r (p_want_y k1), p_bd_r (p_want_y (by omega))]; exact p_bd_l (p_want_n er))
  · have fr := fr.trans (fr_t.P h5)
    have hx := h6
    have nz : x_wr (K q) ≠ 0 := by unfold x_wr; omega
    have er := h1
    have cn := fr.1
    have cs := fr.2.1
    refine And.intro (rfl) ?_
    refine ct_159 (by omega) hT hx (by omega) (fun _ => ?_) (fun h => absurd h nz) (fun h => absurd h nz)
    refine And.intro (rfl) ?_
    refine ct_154 (by omega) hT hx (by omega) (by omega) (fun _ => ?_) (fun h => absurd h nz) (fun h => absurd h nz)
    refine And.intro (fun h => absurd h (by decide)) (fun _ => ?_)
    refine And.intro (by first | omega | (simp only [mS_iff, eq_self, Int.reduceEq, true_and, and_true, false_and, and_false, and_self, ↓reduceIte]; omega) | (simp only [mS_iff, eq_self, Int.reduceEq, true_and, and_true, false_and, and_false, and_self, ↓reduceIte] at *; omega)) ?_
    generalize h114 : mN mw4 5 6 = mw112
    generalize h115 : mw4 0 0 + 1 = r113
    obtain ⟨n1, n2, n3, n4, n5, n6⟩ := mN_f h114 h115 (by omega)
    refine And.intro (show 0 < r113 by first | omega | (simp only [mS_iff, eq_self, Int.reduceEq, true_and, and_true, false_and, and_false, and_self, ↓reduceIte]; omega) | (simp only [mS_iff, eq_self, Int.reduceEq, true_and, and_true, false_and, and_false, and_self, ↓reduceIte] at *; omega)) ?_
    refine ct_164 (by omega) (by omega) (by omega) n3 (fun mw116 h117 h118 h119 h120 h121 h122 h123 h124 h125 h126 => ?_)
    have fq := h117
    obtain ⟨y1, y2, y3, y4⟩ := h117
    obtain ⟨z1, z2, z3, z4⟩ := fr
    have fX : fr_P 2 30 m mw116 := ⟨by omega, by omega, fun x j a b c => by rw [y3 x j a (by omega) (by omega), n5 x j a (by omega)]; exact z3 x j a b c, fun j a b => by rw [y4 j a b, n6 j a b]; exact z4 j a b⟩
    have hX : hTx mw116 K A V N _ _ _ := hx.keep (fun x j a b => by rw [y3 x j (by omega) (by omega) (by omega), n5 x j (by omega) (by omega)])
    refine hQe _ _ _ _ _ fX hX nz ?_
    unfold p_two
    first
      | exact p_bd_l (p_want_n er)
      | (rw [p_bd_r (p_want_y k1)]; exact p_bd_l (p_want_n (by omega)))
      | (rw [p_bd_r (p_want_y k1), p_bd_r (p_want_y (by omega))]; exact p_bd_l (p_want_n er))
theorem lp_46f {d : Nat} {m : aM} {Q : aO → aM → Prop} {K A V : Int → Int} {N q s ln nb : Int} {f p : Int} (hd : 5 ≤ d) (hT : xT K A V N) (hx : hTx m K A V N q f p) (nz : f ≠ 0) (h0 : 77 ≤ m 0 0 ∧ m 0 0 + 2 ≤ amC ∧ 0 ≤ m 0 1 ∧ m 0 1 + 30 ≤ amS) (hQ : ∀ m' r, fr_P 2 30 m m' → hTx m' K A V N q f p → Q (.inl (some (aR r))) m') : am_WP am_G (am_wpc am_G am_T d) [] cd_46 Q 129 [aR 13, aI s, aI ln, aI nb, aU, aU] [] m := by
  have fr := fr_P.rfl m
  have cn := fr.1
  have cs := fr.2.1
  refine am_go 400 [] (am_wpc_cm _ _ _) wf_46 ?_
  refine And.intro (rfl) ?_
  refine ct_154 (by omega) hT hx (by omega) (by omega) (fun _ => ?_) (fun h => absurd h nz) (fun h => absurd h nz)
  refine And.intro (rfl) ?_
  refine ct_159 (by omega) hT hx (by omega) (fun _ => ?_) (fun h => absurd h nz) (fun h => absurd h nz)
  refine And.intro (rfl) ?_
  refine ct_154 (by omega) hT hx (by omega) (by omega) (fun _ => ?_) (fun h => absurd h nz) (fun h => absurd h nz)
  refine And.intro (fun h => absurd h (by decide)) (fun _ => ?_)
  refine And.intro (by first | omega | (simp only [mS_iff, eq_self, Int.reduceEq, true_and, and_true, false_and, and_false, and_self, ↓reduceIte]; omega) | (simp only [mS_iff, eq_self, Int.reduceEq, true_and, and_true, false_and, and_false, and_self, ↓reduceIte] at *; omega)) ?_
  generalize h3 : mN m 5 6 = mw1
  generalize h4 : m 0 0 + 1 = r2
  obtain ⟨n1, n2, n3, n4, n5, n6⟩ := mN_f h3 h4 (by omega)
  refine And.intro (show 0 < r2 by first | omega | (simp only [mS_iff, eq_self, Int.reduceEq, true_and, and_true, false_and, and_false, and_self, ↓reduceIte]; omega) | (simp only [mS_iff, eq_self, Int.reduceEq, true_and, and_true, false_and, and_false, and_self, ↓reduceIte] at *; omega)) ?_
  refine ct_164 (by omega) (by omega) (by omega) n3 (fun mw5 h6 h7 h8 h9 h10 h11 h12 h13 h14 h15 => ?_)
  obtain ⟨y1, y2, y3, y4⟩ := h6
  obtain ⟨z1, z2, z3, z4⟩ := fr
  have fX : fr_P 2 30 m mw5 := ⟨by omega, by omega, fun x j a b c => by rw [y3 x j a (by omega) (by omega), n5 x j a (by omega)], fun j a b => by rw [y4 j a b, n6 j a b]⟩
  exact hQ _ _ fX (hx.keep (fun x j a b => by rw [y3 x j (by omega) (by omega) (by omega), n5 x j (by omega) (by omega)]))
