/-! needs: 65 -/
/-! CONTRACTS: rows of the reference, points, meaning; by tools/gen66.py -/
set_option maxRecDepth 100000
theorem ct_186 {d : Nat} {m : aM} {Q : aO → aM → Prop} {a k : Int} {w : Int → Int} (hd : 1 ≤ d) (hA : mRow m a w) (hk : 0 ≤ k ∧ k < 66) (hQ : ∀ x, x = w k → Q (.inl (some (aI x))) m) : am_wpc am_G am_T d 186 [aR 41, aI a, aI k] m Q := by
  obtain ⟨a1, a2, a3⟩ := hA
  refine am_in rfl hd (fun d hd => ?_)
  refine am_go 400 [] (am_wpc_cm _ _ _) wf_186 ?_
  refine And.intro (rfl) ?_
  refine And.intro (show -2147483648 ≤ 66 * a ∧ 66 * a ≤ 2147483647 by first | omega | (simp only [mS_iff]; omega) | (simp only [mS_iff] at *; omega)) ?_
  refine And.intro (show -2147483648 ≤ (66 * a) + k ∧ (66 * a) + k ≤ 2147483647 by first | omega | (simp only [mS_iff]; omega) | (simp only [mS_iff] at *; omega)) ?_
  refine And.intro (⟨rfl, by first | omega | (simp only [mS_iff]; omega) | (simp only [mS_iff] at *; omega)⟩) ?_
  exact hQ _ (a3 k (by omega) (by omega))
theorem ct_188 {d : Nat} {m : aM} {Q : aO → aM → Prop} {a l k : Int} {w : Int → Int} (hd : 1 ≤ d) (hA : mRow m a w) (hl : 0 ≤ l ∧ l < 6) (hk : 0 ≤ k ∧ k < 10) (hQ : ∀ x, x = w (6 + 10 * l + k) → Q (.inl (some (aI x))) m) : am_wpc am_G am_T d 188 [aR 41, aI a, aI l, aI k] m Q := by
  obtain ⟨a1, a2, a3⟩ := hA
  refine am_in rfl hd (fun d hd => ?_)
  refine am_go 400 [] (am_wpc_cm _ _ _) wf_188 ?_
  refine And.intro (rfl) ?_
  refine And.intro (show -2147483648 ≤ 66 * a ∧ 66 * a ≤ 2147483647 by first | omega | (simp only [mS_iff]; omega) | (simp only [mS_iff] at *; omega)) ?_
  refine And.intro (show -2147483648 ≤ (66 * a) + 6 ∧ (66 * a) + 6 ≤ 2147483647 by first | omega | (simp only [mS_iff]; omega) | (simp only [mS_iff] at *; omega)) ?_
  refine And.intro (show -2147483648 ≤ 10 * l ∧ 10 * l ≤ 2147483647 by first | omega | (simp only [mS_iff]; omega) | (simp only [mS_iff] at *; omega)) ?_
  refine And.intro (show -2147483648 ≤ ((66 * a) + 6) + (10 * l) ∧ ((66 * a) + 6) + (10 * l) ≤ 2147483647 by first | omega | (simp only [mS_iff]; omega) | (simp only [mS_iff] at *; omega)) ?_
  refine And.intro (show -2147483648 ≤ (((66 * a) + 6) + (10 * l)) + k ∧ (((66 * a) + 6) + (10 * l)) + k ≤ 2147483647 by first | omega | (simp only [mS_iff]; omega) | (simp only [mS_iff] at *; omega)) ?_
  refine And.intro (⟨rfl, by first | omega | (simp only [mS_iff]; omega) | (simp only [mS_iff] at *; omega)⟩) ?_
  have e := a3 (6 + 10 * l + k) (by omega) (by omega)
  rw [show 66 * a + (6 + 10 * l + k) = 66 * a + 6 + 10 * l + k by omega] at e
  exact hQ _ e
theorem ct_188z {d : Nat} {m : aM} {Q : aO → aM → Prop} {a l : Int} {w : Int → Int} (hd : 1 ≤ d) (hA : mRow m a w) (hl : 0 ≤ l ∧ l < 6) (hQ : ∀ x, x = w (6 + 10 * l) → Q (.inl (some (aI x))) m) : am_wpc am_G am_T d 188 [aR 41, aI a, aI l, aI 0] m Q := ct_188 hd hA hl (by omega) (fun x h => hQ x (by rw [h, Int.add_zero]))
theorem ct_273 {d : Nat} {m : aM} {Q : aO → aM → Prop} {a b l : Int} {w v : Int → Int} (hd : 2 ≤ d) (hA : mRow m a w) (hB : mRow m b v) (hl : 0 ≤ l ∧ l < 6) (hQ : ∀ x, x = s_lp w v (6 + 10 * l) → Q (.inl (some (aI x))) m) : am_wpc am_G am_T d 273 [aR 41, aI a, aI b, aI l] m Q := by
  refine am_in rfl hd (fun d hd => ?_)
  refine am_go 400 [] (am_wpc_cm _ _ _) wf_273 ?_
  refine And.intro (rfl) ?_
  refine ct_188z (by omega) hA (by omega) (fun v1 h2 => ?_)
  refine And.intro (rfl) ?_
  refine ct_188z (by omega) hB (by omega) (fun v3 h4 => ?_)
  refine ct_272 (by omega) (fun v5 h6 h7 => ?_)
  refine And.intro (rfl) ?_
  refine ct_188 (by omega) hA (by omega) (by omega) (fun v8 h9 => ?_)
  replace h9 : v8 = w (6 + 10 * l + 1) := h9
  refine And.intro (rfl) ?_
  refine ct_188 (by omega) hB (by omega) (by omega) (fun v10 h11 => ?_)
  replace h11 : v10 = v (6 + 10 * l + 1) := h11
  refine ct_272 (by omega) (fun v12 h13 h14 => ?_)
  refine And.intro (show -2147483648 ≤ v5 + v12 ∧ v5 + v12 ≤ 2147483647 by first | omega | (simp only [mS_iff]; omega) | (simp only [mS_iff] at *; omega)) ?_
  refine And.intro (rfl) ?_
  refine ct_188 (by omega) hA (by omega) (by omega) (fun v15 h16 => ?_)
  replace h16 : v15 = w (6 + 10 * l + 1) := h16
  refine And.intro (fun h17 => ?_) (fun h17 => ?_)
  · refine And.intro (rfl) ?_
    refine ct_188 (by omega) hA (by omega) (by omega) (fun v18 h19 => ?_)
    replace h19 : v18 = w (6 + 10 * l + 4) := h19
    refine And.intro (fun h20 => ?_) (fun h20 => ?_)
    · refine And.intro (rfl) ?_
      refine ct_188 (by omega) hB (by omega) (by omega) (fun v21 h22 => ?_)
      replace h22 : v21 = v (6 + 10 * l + 4) := h22
      refine And.intro (fun h23 => ?_) (fun h23 => ?_)
      · refine And.intro (fun _ => ?_) (fun h => absurd h (by decide))
        refine And.intro (fun _ => ?_) (fun h => absurd h (by decide))
        exact hQ _ (by simp only [h2, h4, h6, h9, h11, h13, h16, h19, h22, s_lp]; omega)
      · refine And.intro (fun h => absurd h (by decide)) (fun _ => ?_)
        refine And.intro (show -2147483648 ≤ (v5 + v12) + 1 ∧ (v5 + v12) + 1 ≤ 2147483647 by first | omega | (simp only [mS_iff]; omega) | (simp only [mS_iff] at *; omega)) ?_
        exact hQ _ (by simp only [h2, h4, h6, h9, h11, h13, h16, h19, h22, s_lp]; omega)
    · refine And.intro (rfl) ?_
      refine ct_188 (by omega) hB (by omega) (by omega) (fun v24 h25 => ?_)
      replace h25 : v24 = v (6 + 10 * l + 4) := h25
      refine And.intro (fun h26 => ?_) (fun h26 => ?_)
      · refine And.intro (fun h => absurd h (by decide)) (fun _ => ?_)
        refine And.intro (show -2147483648 ≤ (v5 + v12) + 1 ∧ (v5 + v12) + 1 ≤ 2147483647 by first | omega | (simp only [mS_iff]; omega) | (simp only [mS_iff] at *; omega)) ?_
        exact hQ _ (by simp only [h2, h4, h6, h9, h11, h13, h16, h19, h25, s_lp]; omega)
      · refine And.intro (fun _ => ?_) (fun h => absurd h (by decide))
        refine And.intro (fun h => absurd h (by decide)) (fun _ => ?_)
        refine And.intro (fun h => absurd h (by decide)) (fun _ => ?_)
        refine And.intro (rfl) ?_
        refine ct_188 (by omega) hA (by omega) (by omega) (fun v27 h28 => ?_)
        replace h28 : v27 = w (6 + 10 * l + 4) := h28
        refine And.intro (rfl) ?_
        refine ct_188 (by omega) hB (by omega) (by omega) (fun v29 h30 => ?_)
        replace h30 : v29 = v (6 + 10 * l + 4) := h30
        refine ct_272 (by omega) (fun v31 h32 h33 => ?_)
        refine And.intro (show -2147483648 ≤ (v5 + v12) + v31 ∧ (v5 + v12) + v31 ≤ 2147483647 by first | omega | (simp only [mS_iff]; omega) | (simp only [mS_iff] at *; omega)) ?_
        refine And.intro (show -2147483648 ≤ 4 + 1 ∧ 4 + 1 ≤ 2147483647 by first | omega | (simp only [mS_iff]; omega) | (simp only [mS_iff] at *; omega)) ?_
        refine And.intro (fun h => absurd h (by decide)) (fun _ => ?_)
        refine And.intro (rfl) ?_
        refine ct_188 (by omega) hA (by omega) (by omega) (fun v34 h35 => ?_)
        replace h35 : v34 = w (6 + 10 * l + 5) := h35
        refine And.intro (rfl) ?_
        refine ct_188 (by omega) hB (by omega) (by omega) (fun v36 h37 => ?_)
        replace h37 : v36 = v (6 + 10 * l + 5) := h37
        refine ct_272 (by omega) (fun v38 h39 h40 => ?_)
        refine And.intro (show -2147483648 ≤ ((v5 + v12) + v31) + v38 ∧ ((v5 + v12) + v31) + v38 ≤ 2147483647 by first | omega | (simp only [mS_iff]; omega) | (simp only [mS_iff] at *; omega)) ?_
        refine And.intro (show -2147483648 ≤ 5 + 1 ∧ 5 + 1 ≤ 2147483647 by first | omega | (simp only [mS_iff]; omega) | (simp only [mS_iff] at *; omega)) ?_
        refine And.intro (fun h => absurd h (by decide)) (fun _ => ?_)
        refine And.intro (rfl) ?_
        refine ct_188 (by omega) hA (by omega) (by omega) (fun v41 h42 => ?_)
        replace h42 : v41 = w (6 + 10 * l + 6) := h42
        refine And.intro (rfl) ?_
        refine ct_188 (by omega) hB (by omega) (by omega) (fun v43 h44 => ?_)
        replace h44 : v43 = v (6 + 10 * l + 6) := h44
        refine ct_272 (by omega) (fun v45 h46 h47 => ?_)
        refine And.intro (show -2147483648 ≤ (((v5 + v12) + v31) + v38) + v45 ∧ (((v5 + v12) + v31) + v38) + v45 ≤ 2147483647 by first | omega | (simp only [mS_iff]; omega) | (simp only [mS_iff] at *; omega)) ?_
        refine And.intro (show -2147483648 ≤ 6 + 1 ∧ 6 + 1 ≤ 2147483647 by first | omega | (simp only [mS_iff]; omega) | (simp only [mS_iff] at *; omega)) ?_
        refine And.intro (fun h => absurd h (by decide)) (fun _ => ?_)
        refine And.intro (rfl) ?_
        refine ct_188 (by omega) hA (by omega) (by omega) (fun v48 h49 => ?_)
        replace h49 : v48 = w (6 + 10 * l + 7) := h49
        refine And.intro (rfl) ?_
        refine ct_188 (by omega) hB (by omega) (by omega) (fun v50 h51 => ?_)
        replace h51 : v50 = v (6 + 10 * l + 7) := h51
        refine ct_272 (by omega) (fun v52 h53 h54 => ?_)
        refine And.intro (show -2147483648 ≤ ((((v5 + v12) + v31) + v38) + v45) + v52 ∧ ((((v5 + v12) + v31) + v38) + v45) + v52 ≤ 2147483647 by first | omega | (simp only [mS_iff]; omega) | (simp only [mS_iff] at *; omega)) ?_
        refine And.intro (show -2147483648 ≤ 7 + 1 ∧ 7 + 1 ≤ 2147483647 by first | omega | (simp only [mS_iff]; omega) | (simp only [mS_iff] at *; omega)) ?_
        refine And.intro (fun h => absurd h (by decide)) (fun _ => ?_)
        refine And.intro (rfl) ?_
        refine ct_188 (by omega) hA (by omega) (by omega) (fun v55 h56 => ?_)
        replace h56 : v55 = w (6 + 10 * l + 8) := h56
        refine And.intro (rfl) ?_
        refine ct_188 (by omega) hB (by omega) (by omega) (fun v57 h58 => ?_)
        replace h58 : v57 = v (6 + 10 * l + 8) := h58
        refine ct_272 (by omega) (fun v59 h60 h61 => ?_)
        refine And.intro (show -2147483648 ≤ (((((v5 + v12) + v31) + v38) + v45) + v52) + v59 ∧ (((((v5 + v12) + v31) + v38) + v45) + v52) + v59 ≤ 2147483647 by first | omega | (simp only [mS_iff]; omega) | (simp only [mS_iff] at *; omega)) ?_
        refine And.intro (show -2147483648 ≤ 8 + 1 ∧ 8 + 1 ≤ 2147483647 by first | omega | (simp only [mS_iff]; omega) | (simp only [mS_iff] at *; omega)) ?_
        refine And.intro (fun h => absurd h (by decide)) (fun _ => ?_)
        refine And.intro (rfl) ?_
        refine ct_188 (by omega) hA (by omega) (by omega) (fun v62 h63 => ?_)
        replace h63 : v62 = w (6 + 10 * l + 9) := h63
        refine And.intro (rfl) ?_
        refine ct_188 (by omega) hB (by omega) (by omega) (fun v64 h65 => ?_)
        replace h65 : v64 = v (6 + 10 * l + 9) := h65
        refine ct_272 (by omega) (fun v66 h67 h68 => ?_)
        refine And.intro (show -2147483648 ≤ ((((((v5 + v12) + v31) + v38) + v45) + v52) + v59) + v66 ∧ ((((((v5 + v12) + v31) + v38) + v45) + v52) + v59) + v66 ≤ 2147483647 by first | omega | (simp only [mS_iff]; omega) | (simp only [mS_iff] at *; omega)) ?_
        refine And.intro (show -2147483648 ≤ 9 + 1 ∧ 9 + 1 ≤ 2147483647 by first | omega | (simp only [mS_iff]; omega) | (simp only [mS_iff] at *; omega)) ?_
        refine And.intro (fun _ => ?_) (fun h => absurd h (by decide))
        exact hQ _ (by simp only [h2, h4, h6, h9, h11, h13, h16, h19, h25, h28, h30, h32, h35, h37, h39, h42, h44, h46, h49, h51, h53, h56, h58, h60, h63, h65, h67, s_lp]; omega)
  · refine And.intro (rfl) ?_
    refine ct_188 (by omega) hB (by omega) (by omega) (fun v69 h70 => ?_)
    replace h70 : v69 = v (6 + 10 * l + 1) := h70
    refine And.intro (fun h71 => ?_) (fun h71 => ?_)
    · refine And.intro (rfl) ?_
      refine ct_188 (by omega) hA (by omega) (by omega) (fun v72 h73 => ?_)
      replace h73 : v72 = w (6 + 10 * l + 4) := h73
      refine And.intro (fun h74 => ?_) (fun h74 => ?_)
      · refine And.intro (rfl) ?_
        refine ct_188 (by omega) hB (by omega) (by omega) (fun v75 h76 => ?_)
        replace h76 : v75 = v (6 + 10 * l + 4) := h76
        refine And.intro (fun h77 => ?_) (fun h77 => ?_)
        · refine And.intro (fun _ => ?_) (fun h => absurd h (by decide))
          refine And.intro (fun _ => ?_) (fun h => absurd h (by decide))
          exact hQ _ (by simp only [h2, h4, h6, h9, h11, h13, h16, h70, h73, h76, s_lp]; omega)
        · refine And.intro (fun h => absurd h (by decide)) (fun _ => ?_)
          refine And.intro (show -2147483648 ≤ (v5 + v12) + 1 ∧ (v5 + v12) + 1 ≤ 2147483647 by first | omega | (simp only [mS_iff]; omega) | (simp only [mS_iff] at *; omega)) ?_
          exact hQ _ (by simp only [h2, h4, h6, h9, h11, h13, h16, h70, h73, h76, s_lp]; omega)
      · refine And.intro (rfl) ?_
        refine ct_188 (by omega) hB (by omega) (by omega) (fun v78 h79 => ?_)
        replace h79 : v78 = v (6 + 10 * l + 4) := h79
        refine And.intro (fun h80 => ?_) (fun h80 => ?_)
        · refine And.intro (fun h => absurd h (by decide)) (fun _ => ?_)
          refine And.intro (show -2147483648 ≤ (v5 + v12) + 1 ∧ (v5 + v12) + 1 ≤ 2147483647 by first | omega | (simp only [mS_iff]; omega) | (simp only [mS_iff] at *; omega)) ?_
          exact hQ _ (by simp only [h2, h4, h6, h9, h11, h13, h16, h70, h73, h79, s_lp]; omega)
        · refine And.intro (fun _ => ?_) (fun h => absurd h (by decide))
          refine And.intro (fun h => absurd h (by decide)) (fun _ => ?_)
          refine And.intro (fun h => absurd h (by decide)) (fun _ => ?_)
          refine And.intro (rfl) ?_
          refine ct_188 (by omega) hA (by omega) (by omega) (fun v81 h82 => ?_)
          replace h82 : v81 = w (6 + 10 * l + 4) := h82
          refine And.intro (rfl) ?_
          refine ct_188 (by omega) hB (by omega) (by omega) (fun v83 h84 => ?_)
          replace h84 : v83 = v (6 + 10 * l + 4) := h84
          refine ct_272 (by omega) (fun v85 h86 h87 => ?_)
          refine And.intro (show -2147483648 ≤ (v5 + v12) + v85 ∧ (v5 + v12) + v85 ≤ 2147483647 by first | omega | (simp only [mS_iff]; omega) | (simp only [mS_iff] at *; omega)) ?_
          refine And.intro (show -2147483648 ≤ 4 + 1 ∧ 4 + 1 ≤ 2147483647 by first | omega | (simp only [mS_iff]; omega) | (simp only [mS_iff] at *; omega)) ?_
          refine And.intro (fun h => absurd h (by decide)) (fun _ => ?_)
          refine And.intro (rfl) ?_
          refine ct_188 (by omega) hA (by omega) (by omega) (fun v88 h89 => ?_)
          replace h89 : v88 = w (6 + 10 * l + 5) := h89
          refine And.intro (rfl) ?_
          refine ct_188 (by omega) hB (by omega) (by omega) (fun v90 h91 => ?_)
          replace h91 : v90 = v (6 + 10 * l + 5) := h91
          refine ct_272 (by omega) (fun v92 h93 h94 => ?_)
          refine And.intro (show -2147483648 ≤ ((v5 + v12) + v85) + v92 ∧ ((v5 + v12) + v85) + v92 ≤ 2147483647 by first | omega | (simp only [mS_iff]; omega) | (simp only [mS_iff] at *; omega)) ?_
          refine And.intro (show -2147483648 ≤ 5 + 1 ∧ 5 + 1 ≤ 2147483647 by first | omega | (simp only [mS_iff]; omega) | (simp only [mS_iff] at *; omega)) ?_
          refine And.intro (fun h => absurd h (by decide)) (fun _ => ?_)
          refine And.intro (rfl) ?_
          refine ct_188 (by omega) hA (by omega) (by omega) (fun v95 h96 => ?_)
          replace h96 : v95 = w (6 + 10 * l + 6) := h96
          refine And.intro (rfl) ?_
          refine ct_188 (by omega) hB (by omega) (by omega) (fun v97 h98 => ?_)
          replace h98 : v97 = v (6 + 10 * l + 6) := h98
          refine ct_272 (by omega) (fun v99 h100 h101 => ?_)
          refine And.intro (show -2147483648 ≤ (((v5 + v12) + v85) + v92) + v99 ∧ (((v5 + v12) + v85) + v92) + v99 ≤ 2147483647 by first | omega | (simp only [mS_iff]; omega) | (simp only [mS_iff] at *; omega)) ?_
          refine And.intro (show -2147483648 ≤ 6 + 1 ∧ 6 + 1 ≤ 2147483647 by first | omega | (simp only [mS_iff]; omega) | (simp only [mS_iff] at *; omega)) ?_
          refine And.intro (fun h => absurd h (by decide)) (fun _ => ?_)
          refine And.intro (rfl) ?_
          refine ct_188 (by omega) hA (by omega) (by omega) (fun v102 h103 => ?_)
          replace h103 : v102 = w (6 + 10 * l + 7) := h103
          refine And.intro (rfl) ?_
          refine ct_188 (by omega) hB (by omega) (by omega) (fun v104 h105 => ?_)
          replace h105 : v104 = v (6 + 10 * l + 7) := h105
          refine ct_272 (by omega) (fun v106 h107 h108 => ?_)
          refine And.intro (show -2147483648 ≤ ((((v5 + v12) + v85) + v92) + v99) + v106 ∧ ((((v5 + v12) + v85) + v92) + v99) + v106 ≤ 2147483647 by first | omega | (simp only [mS_iff]; omega) | (simp only [mS_iff] at *; omega)) ?_
          refine And.intro (show -2147483648 ≤ 7 + 1 ∧ 7 + 1 ≤ 2147483647 by first | omega | (simp only [mS_iff]; omega) | (simp only [mS_iff] at *; omega)) ?_
          refine And.intro (fun h => absurd h (by decide)) (fun _ => ?_)
          refine And.intro (rfl) ?_
          refine ct_188 (by omega) hA (by omega) (by omega) (fun v109 h110 => ?_)
          replace h110 : v109 = w (6 + 10 * l + 8) := h110
          refine And.intro (rfl) ?_
          refine ct_188 (by omega) hB (by omega) (by omega) (fun v111 h112 => ?_)
          replace h112 : v111 = v (6 + 10 * l + 8) := h112
          refine ct_272 (by omega) (fun v113 h114 h115 => ?_)
          refine And.intro (show -2147483648 ≤ (((((v5 + v12) + v85) + v92) + v99) + v106) + v113 ∧ (((((v5 + v12) + v85) + v92) + v99) + v106) + v113 ≤ 2147483647 by first | omega | (simp only [mS_iff]; omega) | (simp only [mS_iff] at *; omega)) ?_
          refine And.intro (show -2147483648 ≤ 8 + 1 ∧ 8 + 1 ≤ 2147483647 by first | omega | (simp only [mS_iff]; omega) | (simp only [mS_iff] at *; omega)) ?_
          refine And.intro (fun h => absurd h (by decide)) (fun _ => ?_)
          refine And.intro (rfl) ?_
          refine ct_188 (by omega) hA (by omega) (by omega) (fun v116 h117 => ?_)
          replace h117 : v116 = w (6 + 10 * l + 9) := h117
          refine And.intro (rfl) ?_
          refine ct_188 (by omega) hB (by omega) (by omega) (fun v118 h119 => ?_)
          replace h119 : v118 = v (6 + 10 * l + 9) := h119
          refine ct_272 (by omega) (fun v120 h121 h122 => ?_)
          refine And.intro (show -2147483648 ≤ ((((((v5 + v12) + v85) + v92) + v99) + v106) + v113) + v120 ∧ ((((((v5 + v12) + v85) + v92) + v99) + v106) + v113) + v120 ≤ 2147483647 by first | omega | (simp only [mS_iff]; omega) | (simp only [mS_iff] at *; omega)) ?_
          refine And.intro (show -2147483648 ≤ 9 + 1 ∧ 9 + 1 ≤ 2147483647 by first | omega | (simp only [mS_iff]; omega) | (simp only [mS_iff] at *; omega)) ?_
          refine And.intro (fun _ => ?_) (fun h => absurd h (by decide))
          exact hQ _ (by simp only [h2, h4, h6, h9, h11, h13, h16, h70, h73, h79, h82, h84, h86, h89, h91, h93, h96, h98, h100, h103, h105, h107, h110, h112, h114, h117, h119, h121, s_lp]; omega)
    · refine And.intro (rfl) ?_
      refine ct_188 (by omega) hA (by omega) (by omega) (fun v123 h124 => ?_)
      replace h124 : v123 = w (6 + 10 * l + 2) := h124
      refine And.intro (rfl) ?_
      refine ct_188 (by omega) hB (by omega) (by omega) (fun v125 h126 => ?_)
      replace h126 : v125 = v (6 + 10 * l + 2) := h126
      refine ct_272 (by omega) (fun v127 h128 h129 => ?_)
      refine And.intro (rfl) ?_
      refine ct_188 (by omega) hA (by omega) (by omega) (fun v130 h131 => ?_)
      replace h131 : v130 = w (6 + 10 * l + 3) := h131
      refine And.intro (rfl) ?_
      refine ct_188 (by omega) hB (by omega) (by omega) (fun v132 h133 => ?_)
      replace h133 : v132 = v (6 + 10 * l + 3) := h133
      refine ct_272 (by omega) (fun v134 h135 h136 => ?_)
      refine And.intro (show -2147483648 ≤ v127 + v134 ∧ v127 + v134 ≤ 2147483647 by first | omega | (simp only [mS_iff]; omega) | (simp only [mS_iff] at *; omega)) ?_
      refine And.intro (show -2147483648 ≤ (v5 + v12) + (v127 + v134) ∧ (v5 + v12) + (v127 + v134) ≤ 2147483647 by first | omega | (simp only [mS_iff]; omega) | (simp only [mS_iff] at *; omega)) ?_
      refine And.intro (rfl) ?_
      refine ct_188 (by omega) hA (by omega) (by omega) (fun v137 h138 => ?_)
      replace h138 : v137 = w (6 + 10 * l + 4) := h138
      refine And.intro (fun h139 => ?_) (fun h139 => ?_)
      · refine And.intro (rfl) ?_
        refine ct_188 (by omega) hB (by omega) (by omega) (fun v140 h141 => ?_)
        replace h141 : v140 = v (6 + 10 * l + 4) := h141
        refine And.intro (fun h142 => ?_) (fun h142 => ?_)
        · refine And.intro (fun _ => ?_) (fun h => absurd h (by decide))
          refine And.intro (fun _ => ?_) (fun h => absurd h (by decide))
          exact hQ _ (by simp only [h2, h4, h6, h9, h11, h13, h16, h70, h124, h126, h128, h131, h133, h135, h138, h141, s_lp]; omega)
        · refine And.intro (fun h => absurd h (by decide)) (fun _ => ?_)
          refine And.intro (show -2147483648 ≤ ((v5 + v12) + (v127 + v134)) + 1 ∧ ((v5 + v12) + (v127 + v134)) + 1 ≤ 2147483647 by first | omega | (simp only [mS_iff]; omega) | (simp only [mS_iff] at *; omega)) ?_
          exact hQ _ (by simp only [h2, h4, h6, h9, h11, h13, h16, h70, h124, h126, h128, h131, h133, h135, h138, h141, s_lp]; omega)
      · refine And.intro (rfl) ?_
        refine ct_188 (by omega) hB (by omega) (by omega) (fun v143 h144 => ?_)
        replace h144 : v143 = v (6 + 10 * l + 4) := h144
        refine And.intro (fun h145 => ?_) (fun h145 => ?_)
        · refine And.intro (fun h => absurd h (by decide)) (fun _ => ?_)
          refine And.intro (show -2147483648 ≤ ((v5 + v12) + (v127 + v134)) + 1 ∧ ((v5 + v12) + (v127 + v134)) + 1 ≤ 2147483647 by first | omega | (simp only [mS_iff]; omega) | (simp only [mS_iff] at *; omega)) ?_
          exact hQ _ (by simp only [h2, h4, h6, h9, h11, h13, h16, h70, h124, h126, h128, h131, h133, h135, h138, h144, s_lp]; omega)
        · refine And.intro (fun _ => ?_) (fun h => absurd h (by decide))
          refine And.intro (fun h => absurd h (by decide)) (fun _ => ?_)
          refine And.intro (fun h => absurd h (by decide)) (fun _ => ?_)
          refine And.intro (rfl) ?_
          refine ct_188 (by omega) hA (by omega) (by omega) (fun v146 h147 => ?_)
          replace h147 : v146 = w (6 + 10 * l + 4) := h147
          refine And.intro (rfl) ?_
          refine ct_188 (by omega) hB (by omega) (by omega) (fun v148 h149 => ?_)
          replace h149 : v148 = v (6 + 10 * l + 4) := h149
          refine ct_272 (by omega) (fun v150 h151 h152 => ?_)
          refine And.intro (show -2147483648 ≤ ((v5 + v12) + (v127 + v134)) + v150 ∧ ((v5 + v12) + (v127 + v134)) + v150 ≤ 2147483647 by first | omega | (simp only [mS_iff]; omega) | (simp only [mS_iff] at *; omega)) ?_
          refine And.intro (show -2147483648 ≤ 4 + 1 ∧ 4 + 1 ≤ 2147483647 by first | omega | (simp only [mS_iff]; omega) | (simp only [mS_iff] at *; omega)) ?_
          refine And.intro (fun h => absurd h (by decide)) (fun _ => ?_)
          refine And.intro (rfl) ?_
          refine ct_188 (by omega) hA (by omega) (by omega) (fun v153 h154 => ?_)
          replace h154 : v153 = w (6 + 10 * l + 5) := h154
          refine And.intro (rfl) ?_
          refine ct_188 (by omega) hB (by omega) (by omega) (fun v155 h156 => ?_)
          replace h156 : v155 = v (6 + 10 * l + 5) := h156
          refine ct_272 (by omega) (fun v157 h158 h159 => ?_)
          refine And.intro (show -2147483648 ≤ (((v5 + v12) + (v127 + v134)) + v150) + v157 ∧ (((v5 + v12) + (v127 + v134)) + v150) + v157 ≤ 2147483647 by first | omega | (simp only [mS_iff]; omega) | (simp only [mS_iff] at *; omega)) ?_
          refine And.intro (show -2147483648 ≤ 5 + 1 ∧ 5 + 1 ≤ 2147483647 by first | omega | (simp only [mS_iff]; omega) | (simp only [mS_iff] at *; omega)) ?_
          refine And.intro (fun h => absurd h (by decide)) (fun _ => ?_)
          refine And.intro (rfl) ?_
          refine ct_188 (by omega) hA (by omega) (by omega) (fun v160 h161 => ?_)
          replace h161 : v160 = w (6 + 10 * l + 6) := h161
          refine And.intro (rfl) ?_
          refine ct_188 (by omega) hB (by omega) (by omega) (fun v162 h163 => ?_)
          replace h163 : v162 = v (6 + 10 * l + 6) := h163
          refine ct_272 (by omega) (fun v164 h165 h166 => ?_)
          refine And.intro (show -2147483648 ≤ ((((v5 + v12) + (v127 + v134)) + v150) + v157) + v164 ∧ ((((v5 + v12) + (v127 + v134)) + v150) + v157) + v164 ≤ 2147483647 by first | omega | (simp only [mS_iff]; omega) | (simp only [mS_iff] at *; omega)) ?_
          refine And.intro (show -2147483648 ≤ 6 + 1 ∧ 6 + 1 ≤ 2147483647 by first | omega | (simp only [mS_iff]; omega) | (simp only [mS_iff] at *; omega)) ?_
          refine And.intro (fun h => absurd h (by decide)) (fun _ => ?_)
          refine And.intro (rfl) ?_
          refine ct_188 (by omega) hA (by omega) (by omega) (fun v167 h168 => ?_)
          replace h168 : v167 = w (6 + 10 * l + 7) := h168
          refine And.intro (rfl) ?_
          refine ct_188 (by omega) hB (by omega) (by omega) (fun v169 h170 => ?_)
          replace h170 : v169 = v (6 + 10 * l + 7) := h170
          refine ct_272 (by omega) (fun v171 h172 h173 => ?_)
          refine And.intro (show -2147483648 ≤ (((((v5 + v12) + (v127 + v134)) + v150) + v157) + v164) + v171 ∧ (((((v5 + v12) + (v127 + v134)) + v150) + v157) + v164) + v171 ≤ 2147483647 by first | omega | (simp only [mS_iff]; omega) | (simp only [mS_iff] at *; omega)) ?_
          refine And.intro (show -2147483648 ≤ 7 + 1 ∧ 7 + 1 ≤ 2147483647 by first | omega | (simp only [mS_iff]; omega) | (simp only [mS_iff] at *; omega)) ?_
          refine And.intro (fun h => absurd h (by decide)) (fun _ => ?_)
          refine And.intro (rfl) ?_
          refine ct_188 (by omega) hA (by omega) (by omega) (fun v174 h175 => ?_)
          replace h175 : v174 = w (6 + 10 * l + 8) := h175
          refine And.intro (rfl) ?_
          refine ct_188 (by omega) hB (by omega) (by omega) (fun v176 h177 => ?_)
          replace h177 : v176 = v (6 + 10 * l + 8) := h177
          refine ct_272 (by omega) (fun v178 h179 h180 => ?_)
          refine And.intro (show -2147483648 ≤ ((((((v5 + v12) + (v127 + v134)) + v150) + v157) + v164) + v171) + v178 ∧ ((((((v5 + v12) + (v127 + v134)) + v150) + v157) + v164) + v171) + v178 ≤ 2147483647 by first | omega | (simp only [mS_iff]; omega) | (simp only [mS_iff] at *; omega)) ?_
          refine And.intro (show -2147483648 ≤ 8 + 1 ∧ 8 + 1 ≤ 2147483647 by first | omega | (simp only [mS_iff]; omega) | (simp only [mS_iff] at *; omega)) ?_
          refine And.intro (fun h => absurd h (by decide)) (fun _ => ?_)
          refine And.intro (rfl) ?_
          refine ct_188 (by omega) hA (by omega) (by omega) (fun v181 h182 => ?_)
          replace h182 : v181 = w (6 + 10 * l + 9) := h182
          refine And.intro (rfl) ?_
          refine ct_188 (by omega) hB (by omega) (by omega) (fun v183 h184 => ?_)
          replace h184 : v183 = v (6 + 10 * l + 9) := h184
          refine ct_272 (by omega) (fun v185 h186 h187 => ?_)
          refine And.intro (show -2147483648 ≤ (((((((v5 + v12) + (v127 + v134)) + v150) + v157) + v164) + v171) + v178) + v185 ∧ (((((((v5 + v12) + (v127 + v134)) + v150) + v157) + v164) + v171) + v178) + v185 ≤ 2147483647 by first | omega | (simp only [mS_iff]; omega) | (simp only [mS_iff] at *; omega)) ?_
          refine And.intro (show -2147483648 ≤ 9 + 1 ∧ 9 + 1 ≤ 2147483647 by first | omega | (simp only [mS_iff]; omega) | (simp only [mS_iff] at *; omega)) ?_
          refine And.intro (fun _ => ?_) (fun h => absurd h (by decide))
          exact hQ _ (by simp only [h2, h4, h6, h9, h11, h13, h16, h70, h124, h126, h128, h131, h133, h135, h138, h144, h147, h149, h151, h154, h156, h158, h161, h163, h165, h168, h170, h172, h175, h177, h179, h182, h184, h186, s_lp]; omega)
theorem ct_271 {d : Nat} {m : aM} {Q : aO → aM → Prop} {a b : Int} {w v : Int → Int} (hd : 3 ≤ d) (hA : mRow m a w) (hB : mRow m b v) (hw : 0 ≤ w 5 ∧ w 5 ≤ 6) (hv : 0 ≤ v 5 ∧ v 5 ≤ 6) (hQ : ∀ x, x = s_pt w v → Q (.inl (some (aI x))) m) : am_wpc am_G am_T d 271 [aR 41, aI a, aI b] m Q := by
  refine am_in rfl hd (fun d hd => ?_)
  have K40 : ∀ (N : Nat), ∀ (l : Int) (n : Int) (x5 : aV) (x6 : aV), (6 - l).toNat = N → (0 ≤ l ∧ l ≤ 6) → (n = s_fp w v + s_sum (s_lt w v) l.toNat) → am_WP am_G (am_wpc am_G am_T d) [] cd_271 Q 40 [aR 41, aI a, aI b, aI n, aI l, x5, x6] [] m := by
    intro N
    induction N using Nat.strongRecOn with
    | _ N ih =>
      intro l n x5 x6 hN i0 i1
      have e1 := s_fp_b w v
      have e2 := s_sum_b (s_lt_b w v) l.toNat
      have e3 := s_lp_b w v (6 + 10 * l)
      have e4 := s_lt_eq w v l
      refine am_go 400 [40] (am_wpc_cm _ _ _) wf_271 ?_
      refine And.intro (fun h1 => ?_) (fun h1 => ?_)
      · exact hQ _ (by rw [i1, show l.toNat = 6 by omega]; rfl)
      · refine And.intro (rfl) ?_
        refine ct_186 (by omega) hA (by omega) (fun v2 h3 => ?_)
        replace h3 : v2 = w 5 := h3
        refine And.intro (fun h4 => ?_) (fun h4 => ?_)
        · refine And.intro (rfl) ?_
          refine ct_186 (by omega) hB (by omega) (fun v5 h6 => ?_)
          replace h6 : v5 = v 5 := h6
          refine And.intro (fun h7 => ?_) (fun h7 => ?_)
          · refine And.intro (fun _ => ?_) (fun h => absurd h (by decide))
            refine And.intro (fun _ => ?_) (fun h => absurd h (by decide))
            refine And.intro (show -2147483648 ≤ l + 1 ∧ l + 1 ≤ 2147483647 by first | omega | (simp only [mS_iff]; omega) | (simp only [mS_iff] at *; omega)) ?_
            refine ih _ ?_ _ _ _ _ (Eq.refl _) ?_ ?_
            · omega
            · first | omega | (simp only [mS_iff]; omega) | (simp only [mS_iff] at *; omega)
            · rw [s_sum_s (by omega)]; omega
          · refine And.intro (fun h => absurd h (by decide)) (fun _ => ?_)
            refine And.intro (show -2147483648 ≤ n + 2 ∧ n + 2 ≤ 2147483647 by first | omega | (simp only [mS_iff]; omega) | (simp only [mS_iff] at *; omega)) ?_
            refine And.intro (show -2147483648 ≤ l + 1 ∧ l + 1 ≤ 2147483647 by first | omega | (simp only [mS_iff]; omega) | (simp only [mS_iff] at *; omega)) ?_
            refine ih _ ?_ _ _ _ _ (Eq.refl _) ?_ ?_
            · omega
            · first | omega | (simp only [mS_iff]; omega) | (simp only [mS_iff] at *; omega)
            · rw [s_sum_s (by omega)]; omega
        · refine And.intro (rfl) ?_
          refine ct_186 (by omega) hB (by omega) (fun v8 h9 => ?_)
          replace h9 : v8 = v 5 := h9
          refine And.intro (fun h10 => ?_) (fun h10 => ?_)
          · refine And.intro (fun h => absurd h (by decide)) (fun _ => ?_)
            refine And.intro (show -2147483648 ≤ n + 2 ∧ n + 2 ≤ 2147483647 by first | omega | (simp only [mS_iff]; omega) | (simp only [mS_iff] at *; omega)) ?_
            refine And.intro (show -2147483648 ≤ l + 1 ∧ l + 1 ≤ 2147483647 by first | omega | (simp only [mS_iff]; omega) | (simp only [mS_iff] at *; omega)) ?_
            refine ih _ ?_ _ _ _ _ (Eq.refl _) ?_ ?_
            · omega
            · first | omega | (simp only [mS_iff]; omega) | (simp only [mS_iff] at *; omega)
            · rw [s_sum_s (by omega)]; omega
          · refine And.intro (fun _ => ?_) (fun h => absurd h (by decide))
            refine And.intro (fun h => absurd h (by decide)) (fun _ => ?_)
            refine And.intro (rfl) ?_
            refine ct_273 (by omega) hA hB (by omega) (fun v11 h12 => ?_)
            refine And.intro (show -2147483648 ≤ n + v11 ∧ n + v11 ≤ 2147483647 by first | omega | (simp only [mS_iff]; omega) | (simp only [mS_iff] at *; omega)) ?_
            refine And.intro (show -2147483648 ≤ l + 1 ∧ l + 1 ≤ 2147483647 by first | omega | (simp only [mS_iff]; omega) | (simp only [mS_iff] at *; omega)) ?_
            refine ih _ ?_ _ _ _ _ (Eq.refl _) ?_ ?_
            · omega
            · first | omega | (simp only [mS_iff]; omega) | (simp only [mS_iff] at *; omega)
            · rw [s_sum_s (by omega)]; omega
  refine am_go 400 [40] (am_wpc_cm _ _ _) wf_271 ?_
  refine And.intro (fun h => absurd h (by decide)) (fun _ => ?_)
  refine And.intro (rfl) ?_
  refine ct_186 (by omega) hA (by omega) (fun v13 h14 => ?_)
  replace h14 : v13 = w 0 := h14
  refine And.intro (rfl) ?_
  refine ct_186 (by omega) hB (by omega) (fun v15 h16 => ?_)
  replace h16 : v15 = v 0 := h16
  refine ct_272 (by omega) (fun v17 h18 h19 => ?_)
  refine And.intro (show -2147483648 ≤ 0 + v17 ∧ 0 + v17 ≤ 2147483647 by first | omega | (simp only [mS_iff]; omega) | (simp only [mS_iff] at *; omega)) ?_
  refine And.intro (show -2147483648 ≤ 0 + 1 ∧ 0 + 1 ≤ 2147483647 by first | omega | (simp only [mS_iff]; omega) | (simp only [mS_iff] at *; omega)) ?_
  refine And.intro (fun h => absurd h (by decide)) (fun _ => ?_)
  refine And.intro (rfl) ?_
  refine ct_186 (by omega) hA (by omega) (fun v20 h21 => ?_)
  replace h21 : v20 = w 1 := h21
  refine And.intro (rfl) ?_
  refine ct_186 (by omega) hB (by omega) (fun v22 h23 => ?_)
  replace h23 : v22 = v 1 := h23
  refine ct_272 (by omega) (fun v24 h25 h26 => ?_)
  refine And.intro (show -2147483648 ≤ (0 + v17) + v24 ∧ (0 + v17) + v24 ≤ 2147483647 by first | omega | (simp only [mS_iff]; omega) | (simp only [mS_iff] at *; omega)) ?_
  refine And.intro (show -2147483648 ≤ 1 + 1 ∧ 1 + 1 ≤ 2147483647 by first | omega | (simp only [mS_iff]; omega) | (simp only [mS_iff] at *; omega)) ?_
  refine And.intro (fun h => absurd h (by decide)) (fun _ => ?_)
  refine And.intro (rfl) ?_
  refine ct_186 (by omega) hA (by omega) (fun v27 h28 => ?_)
  replace h28 : v27 = w 2 := h28
  refine And.intro (rfl) ?_
  refine ct_186 (by omega) hB (by omega) (fun v29 h30 => ?_)
  replace h30 : v29 = v 2 := h30
  refine ct_272 (by omega) (fun v31 h32 h33 => ?_)
  refine And.intro (show -2147483648 ≤ ((0 + v17) + v24) + v31 ∧ ((0 + v17) + v24) + v31 ≤ 2147483647 by first | omega | (simp only [mS_iff]; omega) | (simp only [mS_iff] at *; omega)) ?_
  refine And.intro (show -2147483648 ≤ 2 + 1 ∧ 2 + 1 ≤ 2147483647 by first | omega | (simp only [mS_iff]; omega) | (simp only [mS_iff] at *; omega)) ?_
  refine And.intro (fun h => absurd h (by decide)) (fun _ => ?_)
  refine And.intro (rfl) ?_
  refine ct_186 (by omega) hA (by omega) (fun v34 h35 => ?_)
  replace h35 : v34 = w 3 := h35
  refine And.intro (rfl) ?_
  refine ct_186 (by omega) hB (by omega) (fun v36 h37 => ?_)
  replace h37 : v36 = v 3 := h37
  refine ct_272 (by omega) (fun v38 h39 h40 => ?_)
  refine And.intro (show -2147483648 ≤ (((0 + v17) + v24) + v31) + v38 ∧ (((0 + v17) + v24) + v31) + v38 ≤ 2147483647 by first | omega | (simp only [mS_iff]; omega) | (simp only [mS_iff] at *; omega)) ?_
  refine And.intro (show -2147483648 ≤ 3 + 1 ∧ 3 + 1 ≤ 2147483647 by first | omega | (simp only [mS_iff]; omega) | (simp only [mS_iff] at *; omega)) ?_
  refine And.intro (fun h => absurd h (by decide)) (fun _ => ?_)
  refine And.intro (rfl) ?_
  refine ct_186 (by omega) hA (by omega) (fun v41 h42 => ?_)
  replace h42 : v41 = w 4 := h42
  refine And.intro (rfl) ?_
  refine ct_186 (by omega) hB (by omega) (fun v43 h44 => ?_)
  replace h44 : v43 = v 4 := h44
  refine ct_272 (by omega) (fun v45 h46 h47 => ?_)
  refine And.intro (show -2147483648 ≤ ((((0 + v17) + v24) + v31) + v38) + v45 ∧ ((((0 + v17) + v24) + v31) + v38) + v45 ≤ 2147483647 by first | omega | (simp only [mS_iff]; omega) | (simp only [mS_iff] at *; omega)) ?_
  refine And.intro (show -2147483648 ≤ 4 + 1 ∧ 4 + 1 ≤ 2147483647 by first | omega | (simp only [mS_iff]; omega) | (simp only [mS_iff] at *; omega)) ?_
  refine And.intro (fun _ => ?_) (fun h => absurd h (by decide))
  refine K40 _ _ _ _ _ (Eq.refl _) ?_ ?_
  · first | omega | (simp only [mS_iff]; omega) | (simp only [mS_iff] at *; omega)
  · simp only [s_sum, Int.toNat_zero, s_fp]; simp only [*]; omega
