/-! needs: a03 -/
/-! CONTRACTS: a group, an ordinary of the house; by tools/gena4.py -/
set_option maxRecDepth 100000
theorem p_att_n {K A : Int → Int} {t q : Int} (h : ¬ (21 ≤ K q ∧ K q < 25)) : p_att K A t q = .inr (q, s_fa t) := by unfold p_att; rw [if_neg h]
theorem p_att_y {K A : Int → Int} {t q : Int} (h : 21 ≤ K q ∧ K q < 25) (g : s_ms t (1 + (K q - 21))) : p_att K A t q = .inr (q + 1, 1 + (K q - 21)) := by unfold p_att; rw [if_pos h, if_pos g]
theorem p_att_e {K A : Int → Int} {t q : Int} (h : 21 ≤ K q ∧ K q < 25) (g : ¬ s_ms t (1 + (K q - 21))) : p_att K A t q = .inl (4, A q) := by unfold p_att; rw [if_pos h, if_neg g]
/-- a Group, an Ordinary that was made -/
def hNG (m m' : aM) (r : Int) (w : Int → Int) : Prop := (m 0 0 + 1 ≤ r ∧ r ≤ m' 0 0) ∧ m' r (-1) = 10 ∧ m' r 0 = w 5 ∧ m' r 1 = w 6 ∧ m' r 2 = w 7 ∧ m' r 3 = w 8 ∧ hTold m' (m 0 0 + 1) (m' 0 0) (m' r 4)
def hNO (m m' : aM) (r : Int) (w : Int → Int) : Prop := (m 0 0 + 1 ≤ r ∧ r ≤ m' 0 0) ∧ m' r (-1) = 8 ∧ m' r 0 = w 1 ∧ m' r 1 = w 2 ∧ m' r 2 = w 3 ∧ hTold m' (m 0 0 + 1) (m' 0 0) (m' r 3)
theorem ct_51 {d : Nat} {m : aM} {Q : aO → aM → Prop} {K A V : Int → Int} {N q p : Int} (hd : 6 ≤ d) (hT : xT K A V N) (hx : hTx m K A V N q 0 p) (h0 : 77 ≤ m 0 0 ∧ m 0 0 + 2 ≤ amC ∧ 0 ≤ m 0 1 ∧ m 0 1 + 30 ≤ amS) (hQe : ∀ m' r q' f' p', fr_P 2 30 m m' → hTx m' K A V N q' f' p' → f' ≠ 0 → p_grp K A V q = .inl (f', p') → Q (.inl (some (aR r))) m') (hQ : ∀ m' r q' w, fr_P 2 30 m m' → hTx m' K A V N q' 0 p → p_grp K A V q = .inr (q', w) → hNG m m' r w → Q (.inl (some (aR r))) m') : am_wpc am_G am_T d 51 [aR 13] m Q := by
  have fr := fr_P.rfl m
  have cn := fr.1
  have cs := fr.2.1
  refine am_in rfl hd (fun d hd => ?_)
  refine am_go 400 [] (am_wpc_cm _ _ _) wf_51 ?_
  refine And.intro (rfl) ?_
  refine ct_158 (by omega) hT hx (fun _ h1 => ?_) (fun h1 => ?_)
  · have k1 := h1
    refine And.intro (fun h => absurd h (by decide)) (fun _ => ?_)
    refine ct_48 (by omega) hT hx (by omega) (by omega) (fun h => absurd rfl h) (fun _ c2 w3 h4 mw5 v6 q7 h8 h9 h10 => ?_) (fun _ q7 v6 h4 mw11 h8 h9 => ?_)
    · have fr := fr.trans (fr_t.P h8)
      have hx := h9
      have nz := h10
      have en := h4
      have cn := fr.1
      have cs := fr.2.1
      refine And.intro (rfl) ?_
      refine ct_154 (by omega) hT hx (by omega) (by omega) (fun _ => ?_) (fun h => absurd h nz) (fun h => absurd h nz)
      refine ct_52 (by omega) (fun v12 h13 => ?_)
      refine And.intro (rfl) ?_
      refine ct_153 (by omega) hT hx (by omega) (fun h => absurd h nz) (fun _ => ?_)
      refine And.intro (fun _ => ?_) (fun h => absurd h (by decide))
      refine And.intro (by first | omega | (simp only [mS_iff, eq_self, Int.reduceEq, true_and, and_true, false_and, and_false, and_self, ↓reduceIte]; omega) | (simp only [mS_iff, eq_self, Int.reduceEq, true_and, and_true, false_and, and_false, and_self, ↓reduceIte] at *; omega)) ?_
      generalize h16 : mN mw5 10 5 = mw14
      generalize h17 : mw5 0 0 + 1 = r15
      obtain ⟨n1, n2, n3, n4, n5, n6⟩ := mN_f h16 h17 (by omega)
      have hx := hx.keep (fun x j a b => n5 x j (by omega) (by omega))
      have fo := fr
      have fr := fr_P.rfl mw14
      have cn := fr.1
      have cs := fr.2.1
      have rr := Eq.symm h17
      refine And.intro (rfl) ?_
      refine ct_154 (by omega) hT hx (by omega) (by omega) (fun _ => ?_) (fun h => absurd h nz) (fun h => absurd h nz)
      refine And.intro (show 0 < r15 by first | omega | (simp only [mS_iff, eq_self, Int.reduceEq, true_and, and_true, false_and, and_false, and_self, ↓reduceIte]; omega) | (simp only [mS_iff, eq_self, Int.reduceEq, true_and, and_true, false_and, and_false, and_self, ↓reduceIte] at *; omega)) ?_
      refine ct_319 (by omega) (by omega) (by omega) (by first | exact n3 | (rw [fr.2.2.1 _ _ (by omega) (by omega) (by omega)]; exact n3)) (fun mw18 h19 h20 h21 h22 h23 h24 h25 h26 h27 => ?_)
      obtain ⟨y1, y2, y3, y4⟩ := h19
      obtain ⟨z1, z2, z3, z4⟩ := fr
      obtain ⟨w1, w2, w3, w4⟩ := fo
      have z0 := hx.2.2.1
      have fX : fr_P 2 30 m mw18 := ⟨by omega, by omega, fun x j a b c => by rw [y3 x j a (by omega) (by omega), z3 x j a (by omega) c, n5 x j a (by omega)] <;> exact w3 x j a b c, fun j a b => by rw [y4 j a b, z4 j a b, n6 j a b] <;> exact w4 j a b⟩
      have hX : hTx mw18 K A V N _ _ _ := hx.keep (fun x j a b => by rw [y3 x j (by omega) (by omega) (by omega)])
      refine hQe _ _ _ _ _ fX hX nz ?_
      unfold p_grp
      rw [if_pos (by omega)]
      exact p_bd_l (h4)
    · have fr := fr.trans (fr_t.P h8)
      have hx := h9
      have en := h4
      have cn := fr.1
      have cs := fr.2.1
      refine And.intro (rfl) ?_
      refine ct_154 (by omega) hT hx (by omega) (by omega) (fun h => absurd rfl h) (fun _ h28 mw30 h32 h33 => ?_) (fun _ h28 mw31 h32 h33 => ?_)
      · have fr := fr.trans (fr_t.P h32)
        have hx := h33
        have cn := fr.1
        have cs := fr.2.1
        have k2 := h28
        refine ct_52 (by omega) (fun v34 h35 => ?_)
        refine And.intro (rfl) ?_
        refine ct_153 (by omega) hT hx (by omega) (fun _ h36 => ?_) (fun h36 => ?_)
        · have k3 := h36
          refine And.intro (fun h => absurd h (by decide)) (fun _ => ?_)
          have ax : mw30 16 (mw30 13 5) = A (q7 + 1) := by rw [hx.2.1]; exact (hx.1 _ hx.2.2.1.1 hx.2.2.1.2).2.1
          refine And.intro (rfl) ?_
          refine And.intro (rfl) ?_
          refine And.intro (⟨rfl, by have := hx.2.1; have := hx.2.2.1; have := hT.1; omega⟩) ?_
          refine And.intro (rfl) ?_
          refine ct_154 (by omega) hT hx (by omega) (by omega) (fun h => absurd rfl h) (fun _ h37 mw39 h41 h42 => ?_) (fun _ h37 mw40 h41 h42 => ?_)
          · have fr := fr.trans (fr_t.P h41)
            have hx := h42
            have cn := fr.1
            have cs := fr.2.1
            have k4 := h37
            refine And.intro (show -2147483648 ≤ 1 + (K (q7 + 1) - 21) ∧ 1 + (K (q7 + 1) - 21) ≤ 2147483647 by first | omega | (simp only [mS_iff, eq_self, Int.reduceEq, true_and, and_true, false_and, and_false, and_self, ↓reduceIte]; omega) | (simp only [mS_iff, eq_self, Int.reduceEq, true_and, and_true, false_and, and_false, and_self, ↓reduceIte] at *; omega)) ?_
            refine ct_53 (by omega) (fun h43 => ?_) (fun h43 => ?_)
            · refine And.intro (fun _ => ?_) (fun h => absurd h (by decide))
              refine And.intro (by first | omega | (simp only [mS_iff, eq_self, Int.reduceEq, true_and, and_true, false_and, and_false, and_self, ↓reduceIte]; omega) | (simp only [mS_iff, eq_self, Int.reduceEq, true_and, and_true, false_and, and_false, and_self, ↓reduceIte] at *; omega)) ?_
              generalize h46 : mN mw39 10 5 = mw44
              generalize h47 : mw39 0 0 + 1 = r45
              obtain ⟨n1, n2, n3, n4, n5, n6⟩ := mN_f h46 h47 (by omega)
              have hx := hx.keep (fun x j a b => n5 x j (by omega) (by omega))
              have fo := fr
              have fr := fr_P.rfl mw44
              have cn := fr.1
              have cs := fr.2.1
              have rr := Eq.symm h47
              refine And.intro (rfl) ?_
              refine ct_154 (by omega) hT hx (by omega) (by omega) (fun h => absurd rfl h) (fun _ h48 mw50 h52 h53 => ?_) (fun _ h48 mw51 h52 h53 => ?_)
              · have fr := fr.trans (fr_t.P h52)
                have hx := h53
                have cn := fr.1
                have cs := fr.2.1
                have k5 := h48
                refine And.intro (show 0 < r45 by first | omega | (simp only [mS_iff, eq_self, Int.reduceEq, true_and, and_true, false_and, and_false, and_self, ↓reduceIte]; omega) | (simp only [mS_iff, eq_self, Int.reduceEq, true_and, and_true, false_and, and_false, and_self, ↓reduceIte] at *; omega)) ?_
                refine ct_319 (by omega) (by omega) (by omega) (by first | exact n3 | (rw [fr.2.2.1 _ _ (by omega) (by omega) (by omega)]; exact n3)) (fun mw54 h55 h56 h57 h58 h59 h60 h61 h62 h63 => ?_)
                obtain ⟨y1, y2, y3, y4⟩ := h55
                obtain ⟨z1, z2, z3, z4⟩ := fr
                obtain ⟨w1, w2, w3, w4⟩ := fo
                have z0 := hx.2.2.1
                have fX : fr_P 2 30 m mw54 := ⟨by omega, by omega, fun x j a b c => by rw [y3 x j a (by omega) (by omega), z3 x j a (by omega) c, n5 x j a (by omega)] <;> exact w3 x j a b c, fun j a b => by rw [y4 j a b, z4 j a b, n6 j a b] <;> exact w4 j a b⟩
                have hX : hTx mw54 K A V N _ _ _ := hx.keep (fun x j a b => by rw [y3 x j (by omega) (by omega) (by omega)])
                refine hQ _ _ _ (fun k => if k = 5 then v6 else if k = 6 then (K q7 - 9) else if k = 7 then (1 + (K (q7 + 1) - 21)) else (K ((q7 + 1) + 1) - 0)) fX hX ?_ ?_
                · unfold p_grp
                  rw [if_pos (by omega)]
                  rw [p_bd_r (h4)]
                  unfold p_th
                  rw [p_bd_r (p_want_y (by omega))]
                  rw [p_bd_r (p_att_y (by omega) h43)]
                  rw [p_bd_r (p_want_y (by omega))]
                · exact ⟨⟨by omega, by omega⟩, h57, by rw [h58]; simp, by rw [h59]; simp, by rw [h60]; simp, by rw [h61]; simp, ⟨by rw [h62]; omega, by rw [h62]; omega, by rw [h62]; exact h63⟩⟩
              · have fr := fr.trans (fr_t.P h52)
                have hx := h53
                have nz : x_wr (K ((q7 + 1) + 1)) ≠ 0 := by unfold x_wr; omega
                have er := h48
                have cn := fr.1
                have cs := fr.2.1
                refine And.intro (show 0 < r45 by first | omega | (simp only [mS_iff, eq_self, Int.reduceEq, true_and, and_true, false_and, and_false, and_self, ↓reduceIte]; omega) | (simp only [mS_iff, eq_self, Int.reduceEq, true_and, and_true, false_and, and_false, and_self, ↓reduceIte] at *; omega)) ?_
                refine ct_319 (by omega) (by omega) (by omega) (by first | exact n3 | (rw [fr.2.2.1 _ _ (by omega) (by omega) (by omega)]; exact n3)) (fun mw64 h65 h66 h67 h68 h69 h70 h71 h72 h73 => ?_)
                obtain ⟨y1, y2, y3, y4⟩ := h65
                obtain ⟨z1, z2, z3, z4⟩ := fr
                obtain ⟨w1, w2, w3, w4⟩ := fo
                have z0 := hx.2.2.1
                have fX : fr_P 2 30 m mw64 := ⟨by omega, by omega, fun x j a b c => by rw [y3 x j a (by omega) (by omega), z3 x j a (by omega) c, n5 x j a (by omega)] <;> exact w3 x j a b c, fun j a b => by rw [y4 j a b, z4 j a b, n6 j a b] <;> exact w4 j a b⟩
                have hX : hTx mw64 K A V N _ _ _ := hx.keep (fun x j a b => by rw [y3 x j (by omega) (by omega) (by omega)])
                refine hQe _ _ _ _ _ fX hX nz ?_
                unfold p_grp
                rw [if_pos (by omega)]
                rw [p_bd_r (h4)]
                unfold p_th
                rw [p_bd_r (p_want_y (by omega))]
                rw [p_bd_r (p_att_y (by omega) h43)]
                exact p_bd_l (p_want_n (by omega))
            · refine And.intro (fun h => absurd h (by decide)) (fun _ => ?_)
              refine And.intro (rfl) ?_
              refine ct_156 (by omega) hT hx (by omega) (fun mw74 h75 h76 => ?_)
              have fr := fr.trans (fr_t.P h75)
              have hx : hTx mw74 K A V N ((q7 + 1) + 1) 4 (A (q7 + 1)) := by rw [if_pos rfl, if_pos rfl, ax] at h76; exact h76
              have nz : (4 : Int) ≠ 0 := by omega
              have cn := fr.1
              have cs := fr.2.1
              refine And.intro (by first | omega | (simp only [mS_iff, eq_self, Int.reduceEq, true_and, and_true, false_and, and_false, and_self, ↓reduceIte]; omega) | (simp only [mS_iff, eq_self, Int.reduceEq, true_and, and_true, false_and, and_false, and_self, ↓reduceIte] at *; omega)) ?_
              generalize h79 : mN mw74 10 5 = mw77
              generalize h80 : mw74 0 0 + 1 = r78
              obtain ⟨n1, n2, n3, n4, n5, n6⟩ := mN_f h79 h80 (by omega)
              have hx := hx.keep (fun x j a b => n5 x j (by omega) (by omega))
              have fo := fr
              have fr := fr_P.rfl mw77
              have cn := fr.1
              have cs := fr.2.1
              have rr := Eq.symm h80
              refine And.intro (rfl) ?_
              refine ct_154 (by omega) hT hx (by omega) (by omega) (fun _ => ?_) (fun h => absurd h nz) (fun h => absurd h nz)
              refine And.intro (show 0 < r78 by first | omega | (simp only [mS_iff, eq_self, Int.reduceEq, true_and, and_true, false_and, and_false, and_self, ↓reduceIte]; omega) | (simp only [mS_iff, eq_self, Int.reduceEq, true_and, and_true, false_and, and_false, and_self, ↓reduceIte] at *; omega)) ?_
              refine ct_319 (by omega) (by omega) (by omega) (by first | exact n3 | (rw [fr.2.2.1 _ _ (by omega) (by omega) (by omega)]; exact n3)) (fun mw81 h82 h83 h84 h85 h86 h87 h88 h89 h90 => ?_)
              obtain ⟨y1, y2, y3, y4⟩ := h82
              obtain ⟨z1, z2, z3, z4⟩ := fr
              obtain ⟨w1, w2, w3, w4⟩ := fo
              have z0 := hx.2.2.1
              have fX : fr_P 2 30 m mw81 := ⟨by omega, by omega, fun x j a b c => by rw [y3 x j a (by omega) (by omega), z3 x j a (by omega) c, n5 x j a (by omega)] <;> exact w3 x j a b c, fun j a b => by rw [y4 j a b, z4 j a b, n6 j a b] <;> exact w4 j a b⟩
              have hX : hTx mw81 K A V N _ _ _ := hx.keep (fun x j a b => by rw [y3 x j (by omega) (by omega) (by omega)])
              refine hQe _ _ _ _ _ fX hX nz ?_
              unfold p_grp
              rw [if_pos (by omega)]
              rw [p_bd_r (h4)]
              unfold p_th
              rw [p_bd_r (p_want_y (by omega))]
              exact p_bd_l (p_att_e (by omega) h43)
          · have fr := fr.trans (fr_t.P h41)
            have hx := h42
            have nz : x_wr (K (q7 + 1)) ≠ 0 := by unfold x_wr; omega
            have er := h37
            have cn := fr.1
            have cs := fr.2.1
            refine And.intro (show -2147483648 ≤ 1 + 0 ∧ 1 + 0 ≤ 2147483647 by first | omega | (simp only [mS_iff, eq_self, Int.reduceEq, true_and, and_true, false_and, and_false, and_self, ↓reduceIte]; omega) | (simp only [mS_iff, eq_self, Int.reduceEq, true_and, and_true, false_and, and_false, and_self, ↓reduceIte] at *; omega)) ?_
            refine ct_53 (by omega) (fun h91 => ?_) (fun h91 => ?_)
            · refine And.intro (fun _ => ?_) (fun h => absurd h (by decide))
              refine And.intro (by first | omega | (simp only [mS_iff, eq_self, Int.reduceEq, true_and, and_true, false_and, and_false, and_self, ↓reduceIte]; omega) | (simp only [mS_iff, eq_self, Int.reduceEq, true_and, and_true, false_and, and_false, and_self, ↓reduceIte] at *; omega)) ?_
              generalize h94 : mN mw40 10 5 = mw92
              generalize h95 : mw40 0 0 + 1 = r93
              obtain ⟨n1, n2, n3, n4, n5, n6⟩ := mN_f h94 h95 (by omega)
              have hx := hx.keep (fun x j a b => n5 x j (by omega) (by omega))
              have fo := fr
              have fr := fr_P.rfl mw92
              have cn := fr.1
              have cs := fr.2.1
              have rr := Eq.symm h95
              refine And.intro (rfl) ?_
              refine ct_154 (by omega) hT hx (by omega) (by omega) (fun _ => ?_) (fun h => absurd h nz) (fun h => absurd h nz)
              refine And.intro (show 0 < r93 by first | omega | (simp only [mS_iff, eq_self, Int.reduceEq, true_and, and_true, false_and, and_false, and_self, ↓reduceIte]; omega) | (simp only [mS_iff, eq_self, Int.reduceEq, true_and, and_true, false_and, and_false, and_self, ↓reduceIte] at *; omega)) ?_
              refine ct_319 (by omega) (by omega) (by omega) (by first | exact n3 | (rw [fr.2.2.1 _ _ (by omega) (by omega) (by omega)]; exact n3)) (fun mw96 h97 h98 h99 h100 h101 h102 h103 h104 h105 => ?_)
              exfalso
              omega
            · refine And.intro (fun h => absurd h (by decide)) (fun _ => ?_)
              refine And.intro (rfl) ?_
              refine ct_156 (by omega) hT hx (by omega) (fun mw109 h110 h111 => ?_)
              have fr := fr.trans (fr_t.P h110)
              have hx : hTx mw109 K A V N (q7 + 1) (x_wr (K (q7 + 1))) (A (q7 + 1)) := by rw [if_neg nz, if_neg nz] at h111; exact h111
              have cn := fr.1
              have cs := fr.2.1
              refine And.intro (by first | omega | (simp only [mS_iff, eq_self, Int.reduceEq, true_and, and_true, false_and, and_false, and_self, ↓reduceIte]; omega) | (simp only [mS_iff, eq_self, Int.reduceEq, true_and, and_true, false_and, and_false, and_self, ↓reduceIte] at *; omega)) ?_
              generalize h114 : mN mw109 10 5 = mw112
              generalize h115 : mw109 0 0 + 1 = r113
              obtain ⟨n1, n2, n3, n4, n5, n6⟩ := mN_f h114 h115 (by omega)
              have hx := hx.keep (fun x j a b => n5 x j (by omega) (by omega))
              have fo := fr
              have fr := fr_P.rfl mw112
              have cn := fr.1
              have cs := fr.2.1
              have rr := Eq.symm h115
              refine And.intro (rfl) ?_
              refine ct_154 (by omega) hT hx (by omega) (by omega) (fun _ => ?_) (fun h => absurd h nz) (fun h => absurd h nz)
              refine And.intro (show 0 < r113 by first | omega | (simp only [mS_iff, eq_self, Int.reduceEq, true_and, and_true, false_and, and_false, and_self, ↓reduceIte]; omega) | (simp only [mS_iff, eq_self, Int.reduceEq, true_and, and_true, false_and, and_false, and_self, ↓reduceIte] at *; omega)) ?_
              refine ct_319 (by omega) (by omega) (by omega) (by first | exact n3 | (rw [fr.2.2.1 _ _ (by omega) (by omega) (by omega)]; exact n3)) (fun mw116 h117 h118 h119 h120 h121 h122 h123 h124 h125 => ?_)
              exfalso
              omega
        · have g3 := h36
          refine And.intro (fun _ => ?_) (fun h => absurd h (by decide))
          refine And.intro (by first | omega | (simp only [mS_iff, eq_self, Int.reduceEq, true_and, and_true, false_and, and_false, and_self, ↓reduceIte]; omega) | (simp only [mS_iff, eq_self, Int.reduceEq, true_and, and_true, false_and, and_false, and_self, ↓reduceIte] at *; omega)) ?_
          generalize h128 : mN mw30 10 5 = mw126
          generalize h129 : mw30 0 0 + 1 = r127
          obtain ⟨n1, n2, n3, n4, n5, n6⟩ := mN_f h128 h129 (by omega)
          have hx := hx.keep (fun x j a b => n5 x j (by omega) (by omega))
          have fo := fr
          have fr := fr_P.rfl mw126
          have cn := fr.1
          have cs := fr.2.1
          have rr := Eq.symm h129
          refine And.intro (rfl) ?_
          refine ct_154 (by omega) hT hx (by omega) (by omega) (fun h => absurd rfl h) (fun _ h130 mw132 h134 h135 => ?_) (fun _ h130 mw133 h134 h135 => ?_)
          · have fr := fr.trans (fr_t.P h134)
            have hx := h135
            have cn := fr.1
            have cs := fr.2.1
            have k4 := h130
            refine And.intro (show 0 < r127 by first | omega | (simp only [mS_iff, eq_self, Int.reduceEq, true_and, and_true, false_and, and_false, and_self, ↓reduceIte]; omega) | (simp only [mS_iff, eq_self, Int.reduceEq, true_and, and_true, false_and, and_false, and_self, ↓reduceIte] at *; omega)) ?_
            refine ct_319 (by omega) (by omega) (by omega) (by first | exact n3 | (rw [fr.2.2.1 _ _ (by omega) (by omega) (by omega)]; exact n3)) (fun mw136 h137 h138 h139 h140 h141 h142 h143 h144 h145 => ?_)
            obtain ⟨y1, y2, y3, y4⟩ := h137
            obtain ⟨z1, z2, z3, z4⟩ := fr
            obtain ⟨w1, w2, w3, w4⟩ := fo
            have z0 := hx.2.2.1
            have fX : fr_P 2 30 m mw136 := ⟨by omega, by omega, fun x j a b c => by rw [y3 x j a (by omega) (by omega), z3 x j a (by omega) c, n5 x j a (by omega)] <;> exact w3 x j a b c, fun j a b => by rw [y4 j a b, z4 j a b, n6 j a b] <;> exact w4 j a b⟩
            have hX : hTx mw136 K A V N _ _ _ := hx.keep (fun x j a b => by rw [y3 x j (by omega) (by omega) (by omega)])
            refine hQ _ _ _ (fun k => if k = 5 then v6 else if k = 6 then (K q7 - 9) else if k = 7 then v34 else (K (q7 + 1) - 0)) fX hX ?_ ?_
            · unfold p_grp
              rw [if_pos (by omega)]
              rw [p_bd_r (h4)]
              unfold p_th
              rw [p_bd_r (p_want_y (by omega))]
              rw [p_bd_r (p_att_n (by omega)), ← h35]
              rw [p_bd_r (p_want_y (by omega))]
            · exact ⟨⟨by omega, by omega⟩, h139, by rw [h140]; simp, by rw [h141]; simp, by rw [h142]; simp, by rw [h143]; simp, ⟨by rw [h144]; omega, by rw [h144]; omega, by rw [h144]; exact h145⟩⟩
          · have fr := fr.trans (fr_t.P h134)
            have hx := h135
            have nz : x_wr (K (q7 + 1)) ≠ 0 := by unfold x_wr; omega
            have er := h130
            have cn := fr.1
            have cs := fr.2.1
            refine And.intro (show 0 < r127 by first | omega | (simp only [mS_iff, eq_self, Int.reduceEq, true_and, and_true, false_and, and_false, and_self, ↓reduceIte]; omega) | (simp only [mS_iff, eq_self, Int.reduceEq, true_and, and_true, false_and, and_false, and_self, ↓reduceIte] at *; omega)) ?_
            refine ct_319 (by omega) (by omega) (by omega) (by first | exact n3 | (rw [fr.2.2.1 _ _ (by omega) (by omega) (by omega)]; exact n3)) (fun mw146 h147 h148 h149 h150 h151 h152 h153 h154 h155 => ?_)
            obtain ⟨y1, y2, y3, y4⟩ := h147
            obtain ⟨z1, z2, z3, z4⟩ := fr
            obtain ⟨w1, w2, w3, w4⟩ := fo
            have z0 := hx.2.2.1
            have fX : fr_P 2 30 m mw146 := ⟨by omega, by omega, fun x j a b c => by rw [y3 x j a (by omega) (by omega), z3 x j a (by omega) c, n5 x j a (by omega)] <;> exact w3 x j a b c, fun j a b => by rw [y4 j a b, z4 j a b, n6 j a b] <;> exact w4 j a b⟩
            have hX : hTx mw146 K A V N _ _ _ := hx.keep (fun x j a b => by rw [y3 x j (by omega) (by omega) (by omega)])
            refine hQe _ _ _ _ _ fX hX nz ?_
            unfold p_grp
            rw [if_pos (by omega)]
            rw [p_bd_r (h4)]
            unfold p_th
            rw [p_bd_r (p_want_y (by omega))]
            rw [p_bd_r (p_att_n (by omega)), ← h35]
            exact p_bd_l (p_want_n (by omega))
      · have fr := fr.trans (fr_t.P h32)
        have hx := h33
        have nz : x_wr (K q7) ≠ 0 := by unfold x_wr; omega
        have er := h28
        have cn := fr.1
        have cs := fr.2.1
        refine ct_52 (by omega) (fun v156 h157 => ?_)
        refine And.intro (rfl) ?_
        refine ct_153 (by omega) hT hx (by omega) (fun h => absurd h nz) (fun _ => ?_)
        refine And.intro (fun _ => ?_) (fun h => absurd h (by decide))
        refine And.intro (by first | omega | (simp only [mS_iff, eq_self, Int.reduceEq, true_and, and_true, false_and, and_false, and_self, ↓reduceIte]; omega) | (simp only [mS_iff, eq_self, Int.reduceEq, true_and, and_true, false_and, and_false, and_self, ↓reduceIte] at *; omega)) ?_
        generalize h160 : mN mw31 10 5 = mw158
        generalize h161 : mw31 0 0 + 1 = r159
        obtain ⟨n1, n2, n3, n4, n5, n6⟩ := mN_f h160 h161 (by omega)
        have hx := hx.keep (fun x j a b => n5 x j (by omega) (by omega))
        have fo := fr
        have fr := fr_P.rfl mw158
        have cn := fr.1
        have cs := fr.2.1
        have rr := Eq.symm h161
        refine And.intro (rfl) ?_
        refine ct_154 (by omega) hT hx (by omega) (by omega) (fun _ => ?_) (fun h => absurd h nz) (fun h => absurd h nz)
        refine And.intro (show 0 < r159 by first | omega | (simp only [mS_iff, eq_self, Int.reduceEq, true_and, and_true, false_and, and_false, and_self, ↓reduceIte]; omega) | (simp only [mS_iff, eq_self, Int.reduceEq, true_and, and_true, false_and, and_false, and_self, ↓reduceIte] at *; omega)) ?_
        refine ct_319 (by omega) (by omega) (by omega) (by first | exact n3 | (rw [fr.2.2.1 _ _ (by omega) (by omega) (by omega)]; exact n3)) (fun mw162 h163 h164 h165 h166 h167 h168 h169 h170 h171 => ?_)
        obtain ⟨y1, y2, y3, y4⟩ := h163
        obtain ⟨z1, z2, z3, z4⟩ := fr
        obtain ⟨w1, w2, w3, w4⟩ := fo
        have z0 := hx.2.2.1
        have fX : fr_P 2 30 m mw162 := ⟨by omega, by omega, fun x j a b c => by rw [y3 x j a (by omega) (by omega), z3 x j a (by omega) c, n5 x j a (by omega)] <;> exact w3 x j a b c, fun j a b => by rw [y4 j a b, z4 j a b, n6 j a b] <;> exact w4 j a b⟩
        have hX : hTx mw162 K A V N _ _ _ := hx.keep (fun x j a b => by rw [y3 x j (by omega) (by omega) (by omega)])
        refine hQe _ _ _ _ _ fX hX nz ?_
        unfold p_grp
        rw [if_pos (by omega)]
        rw [p_bd_r (h4)]
        unfold p_th
        exact p_bd_l (p_want_n (by omega))
  · have g1 := h1
    refine And.intro (fun _ => ?_) (fun h => absurd h (by decide))
    refine And.intro (rfl) ?_
    refine ct_159 (by omega) hT hx (by omega) (fun h => absurd rfl h) (fun _ h172 mw174 h176 h177 => ?_) (fun _ h172 mw175 h176 h177 => ?_)
    · have fr := fr.trans (fr_t.P h176)
      have hx := h177
      have cn := fr.1
      have cs := fr.2.1
      have k2 := h172
      refine And.intro (rfl) ?_
      refine ct_154 (by omega) hT hx (by omega) (by omega) (fun h => absurd rfl h) (fun _ h178 mw180 h182 h183 => ?_) (fun _ h178 mw181 h182 h183 => ?_)
      · have fr := fr.trans (fr_t.P h182)
        have hx := h183
        have cn := fr.1
        have cs := fr.2.1
        have k3 := h178
        refine ct_52 (by omega) (fun v184 h185 => ?_)
        refine And.intro (rfl) ?_
        refine ct_153 (by omega) hT hx (by omega) (fun _ h186 => ?_) (fun h186 => ?_)
        · have k4 := h186
          refine And.intro (fun h => absurd h (by decide)) (fun _ => ?_)
          have ax : mw180 16 (mw180 13 5) = A ((q + 1) + 1) := by rw [hx.2.1]; exact (hx.1 _ hx.2.2.1.1 hx.2.2.1.2).2.1
          refine And.intro (rfl) ?_
          refine And.intro (rfl) ?_
          refine And.intro (⟨rfl, by have := hx.2.1; have := hx.2.2.1; have := hT.1; omega⟩) ?_
          refine And.intro (rfl) ?_
          refine ct_154 (by omega) hT hx (by omega) (by omega) (fun h => absurd rfl h) (fun _ h187 mw189 h191 h192 => ?_) (fun _ h187 mw190 h191 h192 => ?_)
          · have fr := fr.trans (fr_t.P h191)
            have hx := h192
            have cn := fr.1
            have cs := fr.2.1
            have k5 := h187
            refine And.intro (show -2147483648 ≤ 1 + (K ((q + 1) + 1) - 21) ∧ 1 + (K ((q + 1) + 1) - 21) ≤ 2147483647 by first | omega | (simp only [mS_iff, eq_self, Int.reduceEq, true_and, and_true, false_and, and_false, and_self, ↓reduceIte]; omega) | (simp only [mS_iff, eq_self, Int.reduceEq, true_and, and_true, false_and, and_false, and_self, ↓reduceIte] at *; omega)) ?_
            refine ct_53 (by omega) (fun h193 => ?_) (fun h193 => ?_)
            · refine And.intro (fun _ => ?_) (fun h => absurd h (by decide))
              refine And.intro (by first | omega | (simp only [mS_iff, eq_self, Int.reduceEq, true_and, and_true, false_and, and_false, and_self, ↓reduceIte]; omega) | (simp only [mS_iff, eq_self, Int.reduceEq, true_and, and_true, false_and, and_false, and_self, ↓reduceIte] at *; omega)) ?_
              generalize h196 : mN mw189 10 5 = mw194
              generalize h197 : mw189 0 0 + 1 = r195
              obtain ⟨n1, n2, n3, n4, n5, n6⟩ := mN_f h196 h197 (by omega)
              have hx := hx.keep (fun x j a b => n5 x j (by omega) (by omega))
              have fo := fr
              have fr := fr_P.rfl mw194
              have cn := fr.1
              have cs := fr.2.1
              have rr := Eq.symm h197
              refine And.intro (rfl) ?_
              refine ct_154 (by omega) hT hx (by omega) (by omega) (fun h => absurd rfl h) (fun _ h198 mw200 h202 h203 => ?_) (fun _ h198 mw201 h202 h203 => ?_)
              · have fr := fr.trans (fr_t.P h202)
                have hx := h203
                have cn := fr.1
                have cs := fr.2.1
                have k6 := h198
                refine And.intro (show 0 < r195 by first | omega | (simp only [mS_iff, eq_self, Int.reduceEq, true_and, and_true, false_and, and_false, and_self, ↓reduceIte]; omega) | (simp only [mS_iff, eq_self, Int.reduceEq, true_and, and_true, false_and, and_false, and_self, ↓reduceIte] at *; omega)) ?_
                refine ct_319 (by omega) (by omega) (by omega) (by first | exact n3 | (rw [fr.2.2.1 _ _ (by omega) (by omega) (by omega)]; exact n3)) (fun mw204 h205 h206 h207 h208 h209 h210 h211 h212 h213 => ?_)
                obtain ⟨y1, y2, y3, y4⟩ := h205
                obtain ⟨z1, z2, z3, z4⟩ := fr
                obtain ⟨w1, w2, w3, w4⟩ := fo
                have z0 := hx.2.2.1
                have fX : fr_P 2 30 m mw204 := ⟨by omega, by omega, fun x j a b c => by rw [y3 x j a (by omega) (by omega), z3 x j a (by omega) c, n5 x j a (by omega)] <;> exact w3 x j a b c, fun j a b => by rw [y4 j a b, z4 j a b, n6 j a b] <;> exact w4 j a b⟩
                have hX : hTx mw204 K A V N _ _ _ := hx.keep (fun x j a b => by rw [y3 x j (by omega) (by omega) (by omega)])
                refine hQ _ _ _ (fun k => if k = 5 then 1 else if k = 6 then (K (q + 1) - 9) else if k = 7 then (1 + (K ((q + 1) + 1) - 21)) else (K (((q + 1) + 1) + 1) - 0)) fX hX ?_ ?_
                · unfold p_grp
                  rw [if_neg (by omega)]
                  rw [p_bd_r (p_want_y (by omega))]
                  unfold p_th
                  rw [p_bd_r (p_want_y (by omega))]
                  rw [p_bd_r (p_att_y (by omega) h193)]
                  rw [p_bd_r (p_want_y (by omega))]
                · exact ⟨⟨by omega, by omega⟩, h207, by rw [h208]; simp, by rw [h209]; simp, by rw [h210]; simp, by rw [h211]; simp, ⟨by rw [h212]; omega, by rw [h212]; omega, by rw [h212]; exact h213⟩⟩
              · have fr := fr.trans (fr_t.P h202)
                have hx := h203
                have nz : x_wr (K (((q + 1) + 1) + 1)) ≠ 0 := by unfold x_wr; omega
                have er := h198
                have cn := fr.1
                have cs := fr.2.1
                refine And.intro (show 0 < r195 by first | omega | (simp only [mS_iff, eq_self, Int.reduceEq, true_and, and_true, false_and, and_false, and_self, ↓reduceIte]; omega) | (simp only [mS_iff, eq_self, Int.reduceEq, true_and, and_true, false_and, and_false, and_self, ↓reduceIte] at *; omega)) ?_
                refine ct_319 (by omega) (by omega) (by omega) (by first | exact n3 | (rw [fr.2.2.1 _ _ (by omega) (by omega) (by omega)]; exact n3)) (fun mw214 h215 h216 h217 h218 h219 h220 h221 h222 h223 => ?_)
                obtain ⟨y1, y2, y3, y4⟩ := h215
                obtain ⟨z1, z2, z3, z4⟩ := fr
                obtain ⟨w1, w2, w3, w4⟩ := fo
                have z0 := hx.2.2.1
                have fX : fr_P 2 30 m mw214 := ⟨by omega, by omega, fun x j a b c => by rw [y3 x j a (by omega) (by omega), z3 x j a (by omega) c, n5 x j a (by omega)] <;> exact w3 x j a b c, fun j a b => by rw [y4 j a b, z4 j a b, n6 j a b] <;> exact w4 j a b⟩
                have hX : hTx mw214 K A V N _ _ _ := hx.keep (fun x j a b => by rw [y3 x j (by omega) (by omega) (by omega)])
                refine hQe _ _ _ _ _ fX hX nz ?_
                unfold p_grp
                rw [if_neg (by omega)]
                rw [p_bd_r (p_want_y (by omega))]
                unfold p_th
                rw [p_bd_r (p_want_y (by omega))]
                rw [p_bd_r (p_att_y (by omega) h193)]
                exact p_bd_l (p_want_n (by omega))
            · refine And.intro (fun h => absurd h (by decide)) (fun _ => ?_)
              refine And.intro (rfl) ?_
              refine ct_156 (by omega) hT hx (by omega) (fun mw224 h225 h226 => ?_)
              have fr := fr.trans (fr_t.P h225)
              have hx : hTx mw224 K A V N (((q + 1) + 1) + 1) 4 (A ((q + 1) + 1)) := by rw [if_pos rfl, if_pos rfl, ax] at h226; exact h226
              have nz : (4 : Int) ≠ 0 := by omega
              have cn := fr.1
              have cs := fr.2.1
              refine And.intro (by first | omega | (simp only [mS_iff, eq_self, Int.reduceEq, true_and, and_true, false_and, and_false, and_self, ↓reduceIte]; omega) | (simp only [mS_iff, eq_self, Int.reduceEq, true_and, and_true, false_and, and_false, and_self, ↓reduceIte] at *; omega)) ?_
              generalize h229 : mN mw224 10 5 = mw227
              generalize h230 : mw224 0 0 + 1 = r228
              obtain ⟨n1, n2, n3, n4, n5, n6⟩ := mN_f h229 h230 (by omega)
              have hx := hx.keep (fun x j a b => n5 x j (by omega) (by omega))
              have fo := fr
              have fr := fr_P.rfl mw227
              have cn := fr.1
              have cs := fr.2.1
              have rr := Eq.symm h230
              refine And.intro (rfl) ?_
              refine ct_154 (by omega) hT hx (by omega) (by omega) (fun _ => ?_) (fun h => absurd h nz) (fun h => absurd h nz)
              refine And.intro (show 0 < r228 by first | omega | (simp only [mS_iff, eq_self, Int.reduceEq, true_and, and_true, false_and, and_false, and_self, ↓reduceIte]; omega) | (simp only [mS_iff, eq_self, Int.reduceEq, true_and, and_true, false_and, and_false, and_self, ↓reduceIte] at *; omega)) ?_
              refine ct_319 (by omega) (by omega) (by omega) (by first | exact n3 | (rw [fr.2.2.1 _ _ (by omega) (by omega) (by omega)]; exact n3)) (fun mw231 h232 h233 h234 h235 h236 h237 h238 h239 h240 => ?_)
              obtain ⟨y1, y2, y3, y4⟩ := h232
              obtain ⟨z1, z2, z3, z4⟩ := fr
              obtain ⟨w1, w2, w3, w4⟩ := fo
              have z0 := hx.2.2.1
              have fX : fr_P 2 30 m mw231 := ⟨by omega, by omega, fun x j a b c => by rw [y3 x j a (by omega) (by omega), z3 x j a (by omega) c, n5 x j a (by omega)] <;> exact w3 x j a b c, fun j a b => by rw [y4 j a b, z4 j a b, n6 j a b] <;> exact w4 j a b⟩
              have hX : hTx mw231 K A V N _ _ _ := hx.keep (fun x j a b => by rw [y3 x j (by omega) (by omega) (by omega)])
              refine hQe _ _ _ _ _ fX hX nz ?_
              unfold p_grp
              rw [if_neg (by omega)]
              rw [p_bd_r (p_want_y (by omega))]
              unfold p_th
              rw [p_bd_r (p_want_y (by omega))]
              exact p_bd_l (p_att_e (by omega) h193)
          · have fr := fr.trans (fr_t.P h191)
            have hx := h192
            have nz : x_wr (K ((q + 1) + 1)) ≠ 0 := by unfold x_wr; omega
            have er := h187
            have cn := fr.1
            have cs := fr.2.1
            refine And.intro (show -2147483648 ≤ 1 + 0 ∧ 1 + 0 ≤ 2147483647 by first | omega | (simp only [mS_iff, eq_self, Int.reduceEq, true_and, and_true, false_and, and_false, and_self, ↓reduceIte]; omega) | (simp only [mS_iff, eq_self, Int.reduceEq, true_and, and_true, false_and, and_false, and_self, ↓reduceIte] at *; omega)) ?_
            refine ct_53 (by omega) (fun h241 => ?_) (fun h241 => ?_)
            · refine And.intro (fun _ => ?_) (fun h => absurd h (by decide))
              refine And.intro (by first | omega | (simp only [mS_iff, eq_self, Int.reduceEq, true_and, and_true, false_and, and_false, and_self, ↓reduceIte]; omega) | (simp only [mS_iff, eq_self, Int.reduceEq, true_and, and_true, false_and, and_false, and_self, ↓reduceIte] at *; omega)) ?_
              generalize h244 : mN mw190 10 5 = mw242
              generalize h245 : mw190 0 0 + 1 = r243
              obtain ⟨n1, n2, n3, n4, n5, n6⟩ := mN_f h244 h245 (by omega)
              have hx := hx.keep (fun x j a b => n5 x j (by omega) (by omega))
              have fo := fr
              have fr := fr_P.rfl mw242
              have cn := fr.1
              have cs := fr.2.1
              have rr := Eq.symm h245
              refine And.intro (rfl) ?_
              refine ct_154 (by omega) hT hx (by omega) (by omega) (fun _ => ?_) (fun h => absurd h nz) (fun h => absurd h nz)
              refine And.intro (show 0 < r243 by first | omega | (simp only [mS_iff, eq_self, Int.reduceEq, true_and, and_true, false_and, and_false, and_self, ↓reduceIte]; omega) | (simp only [mS_iff, eq_self, Int.reduceEq, true_and, and_true, false_and, and_false, and_self, ↓reduceIte] at *; omega)) ?_
              refine ct_319 (by omega) (by omega) (by omega) (by first | exact n3 | (rw [fr.2.2.1 _ _ (by omega) (by omega) (by omega)]; exact n3)) (fun mw246 h247 h248 h249 h250 h251 h252 h253 h254 h255 => ?_)
              exfalso
              omega
            · refine And.intro (fun h => absurd h (by decide)) (fun _ => ?_)
              refine And.intro (rfl) ?_
              refine ct_156 (by omega) hT hx (by omega) (fun mw259 h260 h261 => ?_)
              have fr := fr.trans (fr_t.P h260)
              have hx : hTx mw259 K A V N ((q + 1) + 1) (x_wr (K ((q + 1) + 1))) (A ((q + 1) + 1)) := by rw [if_neg nz, if_neg nz] at h261; exact h261
              have cn := fr.1
              have cs := fr.2.1
              refine And.intro (by first | omega | (simp only [mS_iff, eq_self, Int.reduceEq, true_and, and_true, false_and, and_false, and_self, ↓reduceIte]; omega) | (simp only [mS_iff, eq_self, Int.reduceEq, true_and, and_true, false_and, and_false, and_self, ↓reduceIte] at *; omega)) ?_
              generalize h264 : mN mw259 10 5 = mw262
              generalize h265 : mw259 0 0 + 1 = r263
              obtain ⟨n1, n2, n3, n4, n5, n6⟩ := mN_f h264 h265 (by omega)
              have hx := hx.keep (fun x j a b => n5 x j (by omega) (by omega))
              have fo := fr
              have fr := fr_P.rfl mw262
              have cn := fr.1
              have cs := fr.2.1
              have rr := Eq.symm h265
              refine And.intro (rfl) ?_
              refine ct_154 (by omega) hT hx (by omega) (by omega) (fun _ => ?_) (fun h => absurd h nz) (fun h => absurd h nz)
              refine And.intro (show 0 < r263 by first | omega | (simp only [mS_iff, eq_self, Int.reduceEq, true_and, and_true, false_and, and_false, and_self, ↓reduceIte]; omega) | (simp only [mS_iff, eq_self, Int.reduceEq, true_and, and_true, false_and, and_false, and_self, ↓reduceIte] at *; omega)) ?_
              refine ct_319 (by omega) (by omega) (by omega) (by first | exact n3 | (rw [fr.2.2.1 _ _ (by omega) (by omega) (by omega)]; exact n3)) (fun mw266 h267 h268 h269 h270 h271 h272 h273 h274 h275 => ?_)
              exfalso
              omega
        · have g4 := h186
          refine And.intro (fun _ => ?_) (fun h => absurd h (by decide))
          refine And.intro (by first | omega | (simp only [mS_iff, eq_self, Int.reduceEq, true_and, and_true, false_and, and_false, and_self, ↓reduceIte]; omega) | (simp only [mS_iff, eq_self, Int.reduceEq, true_and, and_true, false_and, and_false, and_self, ↓reduceIte] at *; omega)) ?_
          generalize h278 : mN mw180 10 5 = mw276
          generalize h279 : mw180 0 0 + 1 = r277
          obtain ⟨n1, n2, n3, n4, n5, n6⟩ := mN_f h278 h279 (by omega)
          have hx := hx.keep (fun x j a b => n5 x j (by omega) (by omega))
          have fo := fr
          have fr := fr_P.rfl mw276
          have cn := fr.1
          have cs := fr.2.1
          have rr := Eq.symm h279
          refine And.intro (rfl) ?_
          refine ct_154 (by omega) hT hx (by omega) (by omega) (fun h => absurd rfl h) (fun _ h280 mw282 h284 h285 => ?_) (fun _ h280 mw283 h284 h285 => ?_)
          · have fr := fr.trans (fr_t.P h284)
            have hx := h285
            have cn := fr.1
            have cs := fr.2.1
            have k5 := h280
            refine And.intro (show 0 < r277 by first | omega | (simp only [mS_iff, eq_self, Int.reduceEq, true_and, and_true, false_and, and_false, and_self, ↓reduceIte]; omega) | (simp only [mS_iff, eq_self, Int.reduceEq, true_and, and_true, false_and, and_false, and_self, ↓reduceIte] at *; omega)) ?_
            refine ct_319 (by omega) (by omega) (by omega) (by first | exact n3 | (rw [fr.2.2.1 _ _ (by omega) (by omega) (by omega)]; exact n3)) (fun mw286 h287 h288 h289 h290 h291 h292 h293 h294 h295 => ?_)
            obtain ⟨y1, y2, y3, y4⟩ := h287
            obtain ⟨z1, z2, z3, z4⟩ := fr
            obtain ⟨w1, w2, w3, w4⟩ := fo
            have z0 := hx.2.2.1
            have fX : fr_P 2 30 m mw286 := ⟨by omega, by omega, fun x j a b c => by rw [y3 x j a (by omega) (by omega), z3 x j a (by omega) c, n5 x j a (by omega)] <;> exact w3 x j a b c, fun j a b => by rw [y4 j a b, z4 j a b, n6 j a b] <;> exact w4 j a b⟩
            have hX : hTx mw286 K A V N _ _ _ := hx.keep (fun x j a b => by rw [y3 x j (by omega) (by omega) (by omega)])
            refine hQ _ _ _ (fun k => if k = 5 then 1 else if k = 6 then (K (q + 1) - 9) else if k = 7 then v184 else (K ((q + 1) + 1) - 0)) fX hX ?_ ?_
            · unfold p_grp
              rw [if_neg (by omega)]
              rw [p_bd_r (p_want_y (by omega))]
              unfold p_th
              rw [p_bd_r (p_want_y (by omega))]
              rw [p_bd_r (p_att_n (by omega)), ← h185]
              rw [p_bd_r (p_want_y (by omega))]
            · exact ⟨⟨by omega, by omega⟩, h289, by rw [h290]; simp, by rw [h291]; simp, by rw [h292]; simp, by rw [h293]; simp, ⟨by rw [h294]; omega, by rw [h294]; omega, by rw [h294]; exact h295⟩⟩
          · have fr := fr.trans (fr_t.P h284)
            have hx := h285
            have nz : x_wr (K ((q + 1) + 1)) ≠ 0 := by unfold x_wr; omega
            have er := h280
            have cn := fr.1
            have cs := fr.2.1
            refine And.intro (show 0 < r277 by first | omega | (simp only [mS_iff, eq_self, Int.reduceEq, true_and, and_true, false_and, and_false, and_self, ↓reduceIte]; omega) | (simp only [mS_iff, eq_self, Int.reduceEq, true_and, and_true, false_and, and_false, and_self, ↓reduceIte] at *; omega)) ?_
            refine ct_319 (by omega) (by omega) (by omega) (by first | exact n3 | (rw [fr.2.2.1 _ _ (by omega) (by omega) (by omega)]; exact n3)) (fun mw296 h297 h298 h299 h300 h301 h302 h303 h304 h305 => ?_)
            obtain ⟨y1, y2, y3, y4⟩ := h297
            obtain ⟨z1, z2, z3, z4⟩ := fr
            obtain ⟨w1, w2, w3, w4⟩ := fo
            have z0 := hx.2.2.1
            have fX : fr_P 2 30 m mw296 := ⟨by omega, by omega, fun x j a b c => by rw [y3 x j a (by omega) (by omega), z3 x j a (by omega) c, n5 x j a (by omega)] <;> exact w3 x j a b c, fun j a b => by rw [y4 j a b, z4 j a b, n6 j a b] <;> exact w4 j a b⟩
            have hX : hTx mw296 K A V N _ _ _ := hx.keep (fun x j a b => by rw [y3 x j (by omega) (by omega) (by omega)])
            refine hQe _ _ _ _ _ fX hX nz ?_
            unfold p_grp
            rw [if_neg (by omega)]
            rw [p_bd_r (p_want_y (by omega))]
            unfold p_th
            rw [p_bd_r (p_want_y (by omega))]
            rw [p_bd_r (p_att_n (by omega)), ← h185]
            exact p_bd_l (p_want_n (by omega))
      · have fr := fr.trans (fr_t.P h182)
        have hx := h183
        have nz : x_wr (K (q + 1)) ≠ 0 := by unfold x_wr; omega
        have er := h178
        have cn := fr.1
        have cs := fr.2.1
        refine ct_52 (by omega) (fun v306 h307 => ?_)
        refine And.intro (rfl) ?_
        refine ct_153 (by omega) hT hx (by omega) (fun h => absurd h nz) (fun _ => ?_)
        refine And.intro (fun _ => ?_) (fun h => absurd h (by decide))
        refine And.intro (by first | omega | (simp only [mS_iff, eq_self, Int.reduceEq, true_and, and_true, false_and, and_false, and_self, ↓reduceIte]; omega) | (simp only [mS_iff, eq_self, Int.reduceEq, true_and, and_true, false_and, and_false, and_self, ↓reduceIte] at *; omega)) ?_
        generalize h310 : mN mw181 10 5 = mw308
        generalize h311 : mw181 0 0 + 1 = r309
        obtain ⟨n1, n2, n3, n4, n5, n6⟩ := mN_f h310 h311 (by omega)
        have hx := hx.keep (fun x j a b => n5 x j (by omega) (by omega))
        have fo := fr
        have fr := fr_P.rfl mw308
        have cn := fr.1
        have cs := fr.2.1
        have rr := Eq.symm h311
        refine And.intro (rfl) ?_
        refine ct_154 (by omega) hT hx (by omega) (by omega) (fun _ => ?_) (fun h => absurd h nz) (fun h => absurd h nz)
        refine And.intro (show 0 < r309 by first | omega | (simp only [mS_iff, eq_self, Int.reduceEq, true_and, and_true, false_and, and_false, and_self, ↓reduceIte]; omega) | (simp only [mS_iff, eq_self, Int.reduceEq, true_and, and_true, false_and, and_false, and_self, ↓reduceIte] at *; omega)) ?_
        refine ct_319 (by omega) (by omega) (by omega) (by first | exact n3 | (rw [fr.2.2.1 _ _ (by omega) (by omega) (by omega)]; exact n3)) (fun mw312 h313 h314 h315 h316 h317 h318 h319 h320 h321 => ?_)
        obtain ⟨y1, y2, y3, y4⟩ := h313
        obtain ⟨z1, z2, z3, z4⟩ := fr
        obtain ⟨w1, w2, w3, w4⟩ := fo
        have z0 := hx.2.2.1
        have fX : fr_P 2 30 m mw312 := ⟨by omega, by omega, fun x j a b c => by rw [y3 x j a (by omega) (by omega), z3 x j a (by omega) c, n5 x j a (by omega)] <;> exact w3 x j a b c, fun j a b => by rw [y4 j a b, z4 j a b, n6 j a b] <;> exact w4 j a b⟩
        have hX : hTx mw312 K A V N _ _ _ := hx.keep (fun x j a b => by rw [y3 x j (by omega) (by omega) (by omega)])
        refine hQe _ _ _ _ _ fX hX nz ?_
        unfold p_grp
        rw [if_neg (by omega)]
        rw [p_bd_r (p_want_y (by omega))]
        unfold p_th
        exact p_bd_l (p_want_n (by omega))
    · have fr := fr.trans (fr_t.P h176)
      have hx := h177
      have nz : x_wr (K q) ≠ 0 := by unfold x_wr; omega
      have er := h172
      have cn := fr.1
      have cs := fr.2.1
      refine And.intro (rfl) ?_
      refine ct_154 (by omega) hT hx (by omega) (by omega) (fun _ => ?_) (fun h => absurd h nz) (fun h => absurd h nz)
      refine ct_52 (by omega) (fun v322 h323 => ?_)
      refine And.intro (rfl) ?_
      refine ct_153 (by omega) hT hx (by omega) (fun h => absurd h nz) (fun _ => ?_)
      refine And.intro (fun _ => ?_) (fun h => absurd h (by decide))
      refine And.intro (by first | omega | (simp only [mS_iff, eq_self, Int.reduceEq, true_and, and_true, false_and, and_false, and_self, ↓reduceIte]; omega) | (simp only [mS_iff, eq_self, Int.reduceEq, true_and, and_true, false_and, and_false, and_self, ↓reduceIte] at *; omega)) ?_
      generalize h326 : mN mw175 10 5 = mw324
      generalize h327 : mw175 0 0 + 1 = r325
      obtain ⟨n1, n2, n3, n4, n5, n6⟩ := mN_f h326 h327 (by omega)
      have hx := hx.keep (fun x j a b => n5 x j (by omega) (by omega))
      have fo := fr
      have fr := fr_P.rfl mw324
      have cn := fr.1
      have cs := fr.2.1
      have rr := Eq.symm h327
      refine And.intro (rfl) ?_
      refine ct_154 (by omega) hT hx (by omega) (by omega) (fun _ => ?_) (fun h => absurd h nz) (fun h => absurd h nz)
      refine And.intro (show 0 < r325 by first | omega | (simp only [mS_iff, eq_self, Int.reduceEq, true_and, and_true, false_and, and_false, and_self, ↓reduceIte]; omega) | (simp only [mS_iff, eq_self, Int.reduceEq, true_and, and_true, false_and, and_false, and_self, ↓reduceIte] at *; omega)) ?_
      refine ct_319 (by omega) (by omega) (by omega) (by first | exact n3 | (rw [fr.2.2.1 _ _ (by omega) (by omega) (by omega)]; exact n3)) (fun mw328 h329 h330 h331 h332 h333 h334 h335 h336 h337 => ?_)
      obtain ⟨y1, y2, y3, y4⟩ := h329
      obtain ⟨z1, z2, z3, z4⟩ := fr
      obtain ⟨w1, w2, w3, w4⟩ := fo
      have z0 := hx.2.2.1
      have fX : fr_P 2 30 m mw328 := ⟨by omega, by omega, fun x j a b c => by rw [y3 x j a (by omega) (by omega), z3 x j a (by omega) c, n5 x j a (by omega)] <;> exact w3 x j a b c, fun j a b => by rw [y4 j a b, z4 j a b, n6 j a b] <;> exact w4 j a b⟩
      have hX : hTx mw328 K A V N _ _ _ := hx.keep (fun x j a b => by rw [y3 x j (by omega) (by omega) (by omega)])
      refine hQe _ _ _ _ _ fX hX nz ?_
      unfold p_grp
      rw [if_neg (by omega)]
      exact p_bd_l (p_want_n (by omega))
/-- what was told: a chief (c), a bordure (b) -/
def p_tb (c b : Int) : Int := 64 * c + 128 * b
theorem p_tb_b {c b o : Int} (hc : c = 0 ∨ c = 1) (hb : b = 0 ∨ b = 1) (ho : o = 6 ∨ o = 7) : am_and (am_shr (p_tb c b) o) 1 = (if o = 6 then c else b) := by
  rcases hc with rfl | rfl <;> rcases hb with rfl | rfl <;> rcases ho with rfl | rfl <;> decide
theorem p_tb_s {c b o : Int} (hc : c = 0 ∨ c = 1) (hb : b = 0 ∨ b = 1) (ho : o = 6 ∨ o = 7) : am_or (p_tb c b) (am_shl 1 o) = p_tb (if o = 6 then 1 else c) (if o = 7 then 1 else b) := by
  rcases hc with rfl | rfl <;> rcases hb with rfl | rfl <;> rcases ho with rfl | rfl <;> decide
theorem p_tb_0 {c b : Int} (hc : c = 0 ∨ c = 1) (hb : b = 0 ∨ b = 1) : am_or (p_tb c b) 0 = p_tb c b := by
  rcases hc with rfl | rfl <;> rcases hb with rfl | rfl <;> decide
theorem ct_50 {d : Nat} {m : aM} {Q : aO → aM → Prop} {K A V : Int → Int} {N q p c b : Int} (hd : 4 ≤ d) (hT : xT K A V N) (hx : hTx m K A V N q 0 p) (h0 : 77 ≤ m 0 0 ∧ m 0 0 + 2 ≤ amC ∧ 0 ≤ m 0 1 ∧ m 0 1 + 30 ≤ amS) (hcb : (c = 0 ∨ c = 1) ∧ (b = 0 ∨ b = 1)) (hQe : ∀ m' r q' f' p', fr_P 2 30 m m' → hTx m' K A V N q' f' p' → f' ≠ 0 → p_ord K A c b q = .inl (f', p') → Q (.inl (some (aR r))) m') (hQ : ∀ m' r q' w, fr_P 2 30 m m' → hTx m' K A V N q' 0 p → p_ord K A c b q = .inr (q', w) → hNO m m' r w → Q (.inl (some (aR r))) m') : am_wpc am_G am_T d 50 [aR 13, aI (p_tb c b)] m Q := by
  have fr := fr_P.rfl m
  have cn := fr.1
  have cs := fr.2.1
  refine am_in rfl hd (fun d hd => ?_)
  refine am_go 400 [] (am_wpc_cm _ _ _) wf_50 ?_
  have ax : m 16 (m 13 5) = A q := by rw [hx.2.1]; exact (hx.1 _ hx.2.2.1.1 hx.2.2.1.2).2.1
  refine And.intro (rfl) ?_
  refine And.intro (rfl) ?_
  refine And.intro (⟨rfl, by have := hx.2.1; have := hx.2.2.1; have := hT.1; omega⟩) ?_
  refine And.intro (rfl) ?_
  refine ct_154 (by omega) hT hx (by omega) (by omega) (fun h => absurd rfl h) (fun _ h1 mw3 h5 h6 => ?_) (fun _ h1 mw4 h5 h6 => ?_)
  · have fr := fr.trans (fr_t.P h5)
    have hx := h6
    have cn := fr.1
    have cs := fr.2.1
    have k1 := h1
    refine And.intro (rfl) ?_
    refine And.intro (fun h => absurd h (by have := hx.2.2.2.1; have := hx.2.2.2.2.1; omega)) (fun _ => ?_)
    refine And.intro (fun h7 => ?_) (fun h7 => ?_)
    · refine ct_47 (by omega) hT hx (fun h => absurd rfl h) (fun _ mw8 h9 h10 => ?_)
      have fr := fr.trans (fr_t.P h9)
      have hx := h10
      have cn := fr.1
      have cs := fr.2.1
      refine And.intro (by first | omega | (simp only [mS_iff, eq_self, Int.reduceEq, true_and, and_true, false_and, and_false, and_self, ↓reduceIte]; omega) | (simp only [mS_iff, eq_self, Int.reduceEq, true_and, and_true, false_and, and_false, and_self, ↓reduceIte] at *; omega)) ?_
      generalize h13 : mN mw8 8 4 = mw11
      generalize h14 : mw8 0 0 + 1 = r12
      obtain ⟨n1, n2, n3, n4, n5, n6⟩ := mN_f h13 h14 (by omega)
      have hx := hx.keep (fun x j a b => n5 x j (by omega) (by omega))
      have fo := fr
      have fr := fr_P.rfl mw11
      have cn := fr.1
      have cs := fr.2.1
      have rr := Eq.symm h14
      refine And.intro (rfl) ?_
      refine ct_154 (by omega) hT hx (by omega) (by omega) (fun h => absurd rfl h) (fun _ h15 mw17 h19 h20 => ?_) (fun _ h15 mw18 h19 h20 => ?_)
      · have fr := fr.trans (fr_t.P h19)
        have hx := h20
        have cn := fr.1
        have cs := fr.2.1
        have k2 := h15
        refine And.intro (show 0 < r12 by first | omega | (simp only [mS_iff, eq_self, Int.reduceEq, true_and, and_true, false_and, and_false, and_self, ↓reduceIte]; omega) | (simp only [mS_iff, eq_self, Int.reduceEq, true_and, and_true, false_and, and_false, and_self, ↓reduceIte] at *; omega)) ?_
        refine ct_174 (by omega) (by omega) (by omega) (by first | exact n3 | (rw [fr.2.2.1 _ _ (by omega) (by omega) (by omega)]; exact n3)) (fun mw21 h22 h23 h24 h25 h26 h27 h28 h29 => ?_)
        obtain ⟨y1, y2, y3, y4⟩ := h22
        obtain ⟨z1, z2, z3, z4⟩ := fr
        obtain ⟨w1, w2, w3, w4⟩ := fo
        have z0 := hx.2.2.1
        have fX : fr_P 2 30 m mw21 := ⟨by omega, by omega, fun x j a b c => by rw [y3 x j a (by omega) (by omega), z3 x j a (by omega) c, n5 x j a (by omega)] <;> exact w3 x j a b c, fun j a b => by rw [y4 j a b, z4 j a b, n6 j a b] <;> exact w4 j a b⟩
        have hX : hTx mw21 K A V N _ _ _ := hx.keep (fun x j a b => by rw [y3 x j (by omega) (by omega) (by omega)])
        refine hQ _ _ _ (fun k => if k = 1 then (K q - 25) else if k = 2 then (p_ln K (q + 1)).2 else (K ((p_ln K (q + 1)).1) - 0)) fX hX ?_ ?_
        · unfold p_ord
          rw [p_bd_r (p_want_y (by omega))]
          rw [if_neg (by omega)]
          rw [p_bd_r (p_want_y (by omega))]
        · exact ⟨⟨by omega, by omega⟩, h24, by rw [h25]; simp, by rw [h26]; simp, by rw [h27]; simp, ⟨by rw [h28]; omega, by rw [h28]; omega, by rw [h28]; exact h29⟩⟩
      · have fr := fr.trans (fr_t.P h19)
        have hx := h20
        have nz : x_wr (K ((p_ln K (q + 1)).1)) ≠ 0 := by unfold x_wr; omega
        have er := h15
        have cn := fr.1
        have cs := fr.2.1
        refine And.intro (show 0 < r12 by first | omega | (simp only [mS_iff, eq_self, Int.reduceEq, true_and, and_true, false_and, and_false, and_self, ↓reduceIte]; omega) | (simp only [mS_iff, eq_self, Int.reduceEq, true_and, and_true, false_and, and_false, and_self, ↓reduceIte] at *; omega)) ?_
        refine ct_174 (by omega) (by omega) (by omega) (by first | exact n3 | (rw [fr.2.2.1 _ _ (by omega) (by omega) (by omega)]; exact n3)) (fun mw30 h31 h32 h33 h34 h35 h36 h37 h38 => ?_)
        obtain ⟨y1, y2, y3, y4⟩ := h31
        obtain ⟨z1, z2, z3, z4⟩ := fr
        obtain ⟨w1, w2, w3, w4⟩ := fo
        have z0 := hx.2.2.1
        have fX : fr_P 2 30 m mw30 := ⟨by omega, by omega, fun x j a b c => by rw [y3 x j a (by omega) (by omega), z3 x j a (by omega) c, n5 x j a (by omega)] <;> exact w3 x j a b c, fun j a b => by rw [y4 j a b, z4 j a b, n6 j a b] <;> exact w4 j a b⟩
        have hX : hTx mw30 K A V N _ _ _ := hx.keep (fun x j a b => by rw [y3 x j (by omega) (by omega) (by omega)])
        refine hQe _ _ _ _ _ fX hX nz ?_
        unfold p_ord
        rw [p_bd_r (p_want_y (by omega))]
        rw [if_neg (by omega)]
        exact p_bd_l (p_want_n (by omega))
    · have tb := p_tb_b hcb.1 hcb.2 (show (K q - 25) = 6 ∨ (K q - 25) = 7 by omega)
      refine And.intro (fun h39 => ?_) (fun h39 => ?_)
      · refine ct_47 (by omega) hT hx (fun h => absurd rfl h) (fun _ mw40 h41 h42 => ?_)
        have fr := fr.trans (fr_t.P h41)
        have hx := h42
        have cn := fr.1
        have cs := fr.2.1
        refine And.intro (by first | omega | (simp only [mS_iff, eq_self, Int.reduceEq, true_and, and_true, false_and, and_false, and_self, ↓reduceIte]; omega) | (simp only [mS_iff, eq_self, Int.reduceEq, true_and, and_true, false_and, and_false, and_self, ↓reduceIte] at *; omega)) ?_
        generalize h45 : mN mw40 8 4 = mw43
        generalize h46 : mw40 0 0 + 1 = r44
        obtain ⟨n1, n2, n3, n4, n5, n6⟩ := mN_f h45 h46 (by omega)
        have hx := hx.keep (fun x j a b => n5 x j (by omega) (by omega))
        have fo := fr
        have fr := fr_P.rfl mw43
        have cn := fr.1
        have cs := fr.2.1
        have rr := Eq.symm h46
        refine And.intro (rfl) ?_
        refine ct_154 (by omega) hT hx (by omega) (by omega) (fun h => absurd rfl h) (fun _ h47 mw49 h51 h52 => ?_) (fun _ h47 mw50 h51 h52 => ?_)
        · have fr := fr.trans (fr_t.P h51)
          have hx := h52
          have cn := fr.1
          have cs := fr.2.1
          have k2 := h47
          refine And.intro (show 0 < r44 by first | omega | (simp only [mS_iff, eq_self, Int.reduceEq, true_and, and_true, false_and, and_false, and_self, ↓reduceIte]; omega) | (simp only [mS_iff, eq_self, Int.reduceEq, true_and, and_true, false_and, and_false, and_self, ↓reduceIte] at *; omega)) ?_
          refine ct_174 (by omega) (by omega) (by omega) (by first | exact n3 | (rw [fr.2.2.1 _ _ (by omega) (by omega) (by omega)]; exact n3)) (fun mw53 h54 h55 h56 h57 h58 h59 h60 h61 => ?_)
          obtain ⟨y1, y2, y3, y4⟩ := h54
          obtain ⟨z1, z2, z3, z4⟩ := fr
          obtain ⟨w1, w2, w3, w4⟩ := fo
          have z0 := hx.2.2.1
          have fX : fr_P 2 30 m mw53 := ⟨by omega, by omega, fun x j a b c => by rw [y3 x j a (by omega) (by omega), z3 x j a (by omega) c, n5 x j a (by omega)] <;> exact w3 x j a b c, fun j a b => by rw [y4 j a b, z4 j a b, n6 j a b] <;> exact w4 j a b⟩
          have hX : hTx mw53 K A V N _ _ _ := hx.keep (fun x j a b => by rw [y3 x j (by omega) (by omega) (by omega)])
          refine hQ _ _ _ (fun k => if k = 1 then (K q - 25) else if k = 2 then (p_ln K (q + 1)).2 else (K ((p_ln K (q + 1)).1) - 0)) fX hX ?_ ?_
          · unfold p_ord
            rw [p_bd_r (p_want_y (by omega))]
            rw [if_neg (by omega)]
            rw [p_bd_r (p_want_y (by omega))]
          · exact ⟨⟨by omega, by omega⟩, h56, by rw [h57]; simp, by rw [h58]; simp, by rw [h59]; simp, ⟨by rw [h60]; omega, by rw [h60]; omega, by rw [h60]; exact h61⟩⟩
        · have fr := fr.trans (fr_t.P h51)
          have hx := h52
          have nz : x_wr (K ((p_ln K (q + 1)).1)) ≠ 0 := by unfold x_wr; omega
          have er := h47
          have cn := fr.1
          have cs := fr.2.1
          refine And.intro (show 0 < r44 by first | omega | (simp only [mS_iff, eq_self, Int.reduceEq, true_and, and_true, false_and, and_false, and_self, ↓reduceIte]; omega) | (simp only [mS_iff, eq_self, Int.reduceEq, true_and, and_true, false_and, and_false, and_self, ↓reduceIte] at *; omega)) ?_
          refine ct_174 (by omega) (by omega) (by omega) (by first | exact n3 | (rw [fr.2.2.1 _ _ (by omega) (by omega) (by omega)]; exact n3)) (fun mw62 h63 h64 h65 h66 h67 h68 h69 h70 => ?_)
          obtain ⟨y1, y2, y3, y4⟩ := h63
          obtain ⟨z1, z2, z3, z4⟩ := fr
          obtain ⟨w1, w2, w3, w4⟩ := fo
          have z0 := hx.2.2.1
          have fX : fr_P 2 30 m mw62 := ⟨by omega, by omega, fun x j a b c => by rw [y3 x j a (by omega) (by omega), z3 x j a (by omega) c, n5 x j a (by omega)] <;> exact w3 x j a b c, fun j a b => by rw [y4 j a b, z4 j a b, n6 j a b] <;> exact w4 j a b⟩
          have hX : hTx mw62 K A V N _ _ _ := hx.keep (fun x j a b => by rw [y3 x j (by omega) (by omega) (by omega)])
          refine hQe _ _ _ _ _ fX hX nz ?_
          unfold p_ord
          rw [p_bd_r (p_want_y (by omega))]
          rw [if_neg (by omega)]
          exact p_bd_l (p_want_n (by omega))
      · refine And.intro (rfl) ?_
        refine ct_156 (by omega) hT hx (by omega) (fun mw71 h72 h73 => ?_)
        have fr := fr.trans (fr_t.P h72)
        have hx : hTx mw71 K A V N (q + 1) 5 (A q) := by rw [if_pos rfl, if_pos rfl, ax] at h73; exact h73
        have nz : (5 : Int) ≠ 0 := by omega
        have cn := fr.1
        have cs := fr.2.1
        refine ct_47 (by omega) hT hx (fun _ => ?_) (fun h => absurd h nz)
        refine And.intro (by first | omega | (simp only [mS_iff, eq_self, Int.reduceEq, true_and, and_true, false_and, and_false, and_self, ↓reduceIte]; omega) | (simp only [mS_iff, eq_self, Int.reduceEq, true_and, and_true, false_and, and_false, and_self, ↓reduceIte] at *; omega)) ?_
        generalize h76 : mN mw71 8 4 = mw74
        generalize h77 : mw71 0 0 + 1 = r75
        obtain ⟨n1, n2, n3, n4, n5, n6⟩ := mN_f h76 h77 (by omega)
        have hx := hx.keep (fun x j a b => n5 x j (by omega) (by omega))
        have fo := fr
        have fr := fr_P.rfl mw74
        have cn := fr.1
        have cs := fr.2.1
        have rr := Eq.symm h77
        refine And.intro (rfl) ?_
        refine ct_154 (by omega) hT hx (by omega) (by omega) (fun _ => ?_) (fun h => absurd h nz) (fun h => absurd h nz)
        refine And.intro (show 0 < r75 by first | omega | (simp only [mS_iff, eq_self, Int.reduceEq, true_and, and_true, false_and, and_false, and_self, ↓reduceIte]; omega) | (simp only [mS_iff, eq_self, Int.reduceEq, true_and, and_true, false_and, and_false, and_self, ↓reduceIte] at *; omega)) ?_
        refine ct_174 (by omega) (by omega) (by omega) (by first | exact n3 | (rw [fr.2.2.1 _ _ (by omega) (by omega) (by omega)]; exact n3)) (fun mw78 h79 h80 h81 h82 h83 h84 h85 h86 => ?_)
        obtain ⟨y1, y2, y3, y4⟩ := h79
        obtain ⟨z1, z2, z3, z4⟩ := fr
        obtain ⟨w1, w2, w3, w4⟩ := fo
        have z0 := hx.2.2.1
        have fX : fr_P 2 30 m mw78 := ⟨by omega, by omega, fun x j a b c => by rw [y3 x j a (by omega) (by omega), z3 x j a (by omega) c, n5 x j a (by omega)] <;> exact w3 x j a b c, fun j a b => by rw [y4 j a b, z4 j a b, n6 j a b] <;> exact w4 j a b⟩
        have hX : hTx mw78 K A V N _ _ _ := hx.keep (fun x j a b => by rw [y3 x j (by omega) (by omega) (by omega)])
        refine hQe _ _ _ _ _ fX hX nz ?_
        unfold p_ord
        rw [p_bd_r (p_want_y (by omega))]
        exact if_pos (by omega)
  · have fr := fr.trans (fr_t.P h5)
    have hx := h6
    have nz : x_wr (K q) ≠ 0 := by unfold x_wr; omega
    have er := h1
    have cn := fr.1
    have cs := fr.2.1
    refine And.intro (rfl) ?_
    refine And.intro (fun _ => ?_) (fun h => absurd h (by have := hx.2.2.2.1; have := hx.2.2.2.2.1; omega))
    refine ct_47 (by omega) hT hx (fun _ => ?_) (fun h => absurd h nz)
    refine And.intro (by first | omega | (simp only [mS_iff, eq_self, Int.reduceEq, true_and, and_true, false_and, and_false, and_self, ↓reduceIte]; omega) | (simp only [mS_iff, eq_self, Int.reduceEq, true_and, and_true, false_and, and_false, and_self, ↓reduceIte] at *; omega)) ?_
    generalize h89 : mN mw4 8 4 = mw87
    generalize h90 : mw4 0 0 + 1 = r88
    obtain ⟨n1, n2, n3, n4, n5, n6⟩ := mN_f h89 h90 (by omega)
    have hx := hx.keep (fun x j a b => n5 x j (by omega) (by omega))
    have fo := fr
    have fr := fr_P.rfl mw87
    have cn := fr.1
    have cs := fr.2.1
    have rr := Eq.symm h90
    refine And.intro (rfl) ?_
    refine ct_154 (by omega) hT hx (by omega) (by omega) (fun _ => ?_) (fun h => absurd h nz) (fun h => absurd h nz)
    refine And.intro (show 0 < r88 by first | omega | (simp only [mS_iff, eq_self, Int.reduceEq, true_and, and_true, false_and, and_false, and_self, ↓reduceIte]; omega) | (simp only [mS_iff, eq_self, Int.reduceEq, true_and, and_true, false_and, and_false, and_self, ↓reduceIte] at *; omega)) ?_
    refine ct_174 (by omega) (by omega) (by omega) (by first | exact n3 | (rw [fr.2.2.1 _ _ (by omega) (by omega) (by omega)]; exact n3)) (fun mw91 h92 h93 h94 h95 h96 h97 h98 h99 => ?_)
    obtain ⟨y1, y2, y3, y4⟩ := h92
    obtain ⟨z1, z2, z3, z4⟩ := fr
    obtain ⟨w1, w2, w3, w4⟩ := fo
    have z0 := hx.2.2.1
    have fX : fr_P 2 30 m mw91 := ⟨by omega, by omega, fun x j a b c => by rw [y3 x j a (by omega) (by omega), z3 x j a (by omega) c, n5 x j a (by omega)] <;> exact w3 x j a b c, fun j a b => by rw [y4 j a b, z4 j a b, n6 j a b] <;> exact w4 j a b⟩
    have hX : hTx mw91 K A V N _ _ _ := hx.keep (fun x j a b => by rw [y3 x j (by omega) (by omega) (by omega)])
    refine hQe _ _ _ _ _ fX hX nz ?_
    unfold p_ord
    exact p_bd_l (p_want_n (by omega))
theorem ct_50f {d : Nat} {m : aM} {Q : aO → aM → Prop} {K A V : Int → Int} {N q f p t : Int} (hd : 4 ≤ d) (hT : xT K A V N) (hx : hTx m K A V N q f p) (nz : f ≠ 0) (h0 : 77 ≤ m 0 0 ∧ m 0 0 + 2 ≤ amC ∧ 0 ≤ m 0 1 ∧ m 0 1 + 30 ≤ amS) (hQ : ∀ m' r, fr_P 2 30 m m' → hTx m' K A V N q f p → m 0 0 + 1 ≤ r → r ≤ m' 0 0 → m' r (-1) = 8 → Q (.inl (some (aR r))) m') : am_wpc am_G am_T d 50 [aR 13, aI t] m Q := by
  have fr := fr_P.rfl m
  have cn := fr.1
  have cs := fr.2.1
  refine am_in rfl hd (fun d hd => ?_)
  refine am_go 400 [] (am_wpc_cm _ _ _) wf_50 ?_
  refine And.intro (rfl) ?_
  refine And.intro (rfl) ?_
  refine And.intro (⟨rfl, by have := hx.2.1; have := hx.2.2.1; have := hT.1; omega⟩) ?_
  refine And.intro (rfl) ?_
  refine ct_154 (by omega) hT hx (by omega) (by omega) (fun _ => ?_) (fun h => absurd h nz) (fun h => absurd h nz)
  refine And.intro (rfl) ?_
  refine And.intro (fun _ => ?_) (fun h => absurd h (by have := hx.2.2.2.1; have := hx.2.2.2.2.1; omega))
  refine ct_47 (by omega) hT hx (fun _ => ?_) (fun h => absurd h nz)
  refine And.intro (by first | omega | (simp only [mS_iff, eq_self, Int.reduceEq, true_and, and_true, false_and, and_false, and_self, ↓reduceIte]; omega) | (simp only [mS_iff, eq_self, Int.reduceEq, true_and, and_true, false_and, and_false, and_self, ↓reduceIte] at *; omega)) ?_
  generalize h3 : mN m 8 4 = mw1
  generalize h4 : m 0 0 + 1 = r2
  obtain ⟨n1, n2, n3, n4, n5, n6⟩ := mN_f h3 h4 (by omega)
  have hx := hx.keep (fun x j a b => n5 x j (by omega) (by omega))
  have fo := fr
  have fr := fr_P.rfl mw1
  have cn := fr.1
  have cs := fr.2.1
  have rr := Eq.symm h4
  refine And.intro (rfl) ?_
  refine ct_154 (by omega) hT hx (by omega) (by omega) (fun _ => ?_) (fun h => absurd h nz) (fun h => absurd h nz)
  refine And.intro (show 0 < r2 by first | omega | (simp only [mS_iff, eq_self, Int.reduceEq, true_and, and_true, false_and, and_false, and_self, ↓reduceIte]; omega) | (simp only [mS_iff, eq_self, Int.reduceEq, true_and, and_true, false_and, and_false, and_self, ↓reduceIte] at *; omega)) ?_
  refine ct_174 (by omega) (by omega) (by omega) (by first | exact n3 | (rw [fr.2.2.1 _ _ (by omega) (by omega) (by omega)]; exact n3)) (fun mw5 h6 h7 h8 h9 h10 h11 h12 h13 => ?_)
  obtain ⟨y1, y2, y3, y4⟩ := h6
  obtain ⟨z1, z2, z3, z4⟩ := fr
  obtain ⟨w1, w2, w3, w4⟩ := fo
  have z0 := hx.2.2.1
  have fX : fr_P 2 30 m mw5 := ⟨by omega, by omega, fun x j a b c => by rw [y3 x j a (by omega) (by omega), z3 x j a (by omega) c, n5 x j a (by omega)] <;> exact w3 x j a b c, fun j a b => by rw [y4 j a b, z4 j a b, n6 j a b] <;> exact w4 j a b⟩
  have hX : hTx mw5 K A V N _ _ _ := hx.keep (fun x j a b => by rw [y3 x j (by omega) (by omega) (by omega)])
  exact hQ _ _ fX hX (by omega) (by omega) h8
