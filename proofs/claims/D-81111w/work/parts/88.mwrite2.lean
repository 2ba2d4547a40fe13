/-! needs: 87 -/
/-! CONTRACTS: the whole written form of the reference; by tools/gen87.py -/
set_option maxRecDepth 100000
theorem lp_226 {d : Nat} {m : aM} {Q : aO → aM → Prop} {a : Int} {w : Int → Int} (hd : 4 ≤ d) (hW : mWd m) (hR : mRow m a w) (hk : okRow w) (hO : mOut m (o_fld w)) (hQ : ∀ m' x, fr_V m m' → mOut m' (o_arms w) → x = ((o_arms w).length : Int) → Q (.inl (some (aI x))) m') : am_WP am_G (am_wpc am_G am_T d) [] cd_226 Q 21 [aR 41, aI a, aU, aU] [] m := by
  have hW0 := hW
  have w5 := hk.cnt
  have K23 : ∀ (N : Nat), ∀ (y : Int) (h : aV), ∀ (m3 : aM), (6 - y).toNat = N → (0 ≤ y ∧ y ≤ w 5) → (fr_V m m3) → (mOut m3 (o_k w y.toNat)) → am_WP am_G (am_wpc am_G am_T d) [] cd_226 Q 23 [aR 41, aI a, aI y, h] [] m3 := by
    intro N
    induction N using Nat.strongRecOn with
    | _ N ih23 =>
      intro y h m3 hN i0 fr hO
      have hW := fr.Wd hW0
      have hA := fr.row hR
      have n0 := o_k_l hk y.toNat (by omega)
      have K157 : ∀ (h : Int), ∀ (m4 : aM), (fr_V m m4) → (mOut m4 (o_gr w (6 + 10 * y) (o_bt (o_ord w (6 + 10 * y) (o_on (o_ov (o_k w y.toNat ++ [44]) (w (6 + 10 * y))) (w (6 + 10 * y + 4)))) (w (6 + 10 * y + 4))))) → (y < w 5) → (h = w (6 + 10 * y + 4)) → am_WP am_G (am_wpc am_G am_T d) [] cd_226 Q 157 [aR 41, aI a, aI y, aI h] [] m4 := by
        intro h m4 fr hO yy hh
        have hW := fr.Wd hW0
        have hA := fr.row hR
        have hK := hk.2.2.2.2.2.2.2.1 y (by omega) yy
        have n0 := o_k_l hk y.toNat (by omega)
        have n00 : (o_k w y.toNat ++ [44]).length = (o_k w y.toNat).length + 1 := List.length_append
        have n1 := o_ov_l (o_k w y.toNat ++ [44]) (w (6 + 10 * y))
        have n2 := o_on_l (o_ov (o_k w y.toNat ++ [44]) (w (6 + 10 * y))) (w (6 + 10 * y + 4))
        have n3 := o_ord_l (l := (o_on (o_ov (o_k w y.toNat ++ [44]) (w (6 + 10 * y))) (w (6 + 10 * y + 4)))) hK
        have n4 := o_bt_l (o_ord w (6 + 10 * y) (o_on (o_ov (o_k w y.toNat ++ [44]) (w (6 + 10 * y))) (w (6 + 10 * y + 4)))) (w (6 + 10 * y + 4))
        have n5 := o_gr_l (l := (o_bt (o_ord w (6 + 10 * y) (o_on (o_ov (o_k w y.toNat ++ [44]) (w (6 + 10 * y))) (w (6 + 10 * y + 4)))) (w (6 + 10 * y + 4)))) hK
        have pt := hK.part
        have kl := hK.2.2.2.1
        have kx := hK.1
        have ko := hK.2.1
        unfold okOrd noOrd at ko
        have kg := hK.2.2.1
        have k4 : 0 ≤ w (6 + 10 * y + 4) ∧ w (6 + 10 * y + 4) ≤ 3 := by have q := kg; unfold okGrp noGrp at q; omega
        refine am_go 400 [23, 157, 147, 140, 87, 57] (am_wpc_cm _ _ _) wf_226 ?_
        refine And.intro (rfl) ?_
        refine ct_188 (by omega) hA (by omega) (by omega) (fun v1 h2 => ?_)
        replace h2 : v1 = w (6 + 10 * y + 9) := h2
        refine And.intro (fun h3 => ?_) (fun h3 => ?_)
        · refine And.intro (show -2147483648 ≤ y + 1 ∧ y + 1 ≤ 2147483647 by first | omega | (simp only [mS_iff, eq_self, Int.reduceEq, true_and, and_true, false_and, and_false, and_self, ↓reduceIte]; omega) | (simp only [mS_iff, eq_self, Int.reduceEq, true_and, and_true, false_and, and_false, and_self, ↓reduceIte] at *; omega)) ?_
          refine ih23 _ ?_ _ _ _ (Eq.refl _) ?_ ?_ ?_
          · omega
          · first | omega | (simp only [mS_iff, eq_self, Int.reduceEq, true_and, and_true, false_and, and_false, and_self, ↓reduceIte]; omega) | (simp only [mS_iff, eq_self, Int.reduceEq, true_and, and_true, false_and, and_false, and_self, ↓reduceIte] at *; omega)
          · exact fr
          · rw [o_k_s w (by omega)]; show mOut _ (o_pt (o_gr w (6 + 10 * y) (o_bt (o_ord w (6 + 10 * y) (o_on (o_ov (o_k w y.toNat ++ [44]) (w (6 + 10 * y))) (w (6 + 10 * y + 4)))) (w (6 + 10 * y + 4)))) (w (6 + 10 * y + 9))); unfold o_pt; first | (rw [if_pos (by omega)]; exact hO) | (rw [if_neg (by omega)]; exact hO)
        · refine And.intro (rfl) ?_
          refine ct_228 (w := 47) (l := (o_gr w (6 + 10 * y) (o_bt (o_ord w (6 + 10 * y) (o_on (o_ov (o_k w y.toNat ++ [44]) (w (6 + 10 * y))) (w (6 + 10 * y + 4)))) (w (6 + 10 * y + 4))))) (by decide) (by omega) (by omega) hO (by omega) (fun mw4 h5 h6 => ?_)
          have fr := fr.trans h5
          have hW := h5.Wd hW
          have hO := h6
          have h7 := o_w_a (l := (o_gr w (6 + 10 * y) (o_bt (o_ord w (6 + 10 * y) (o_on (o_ov (o_k w y.toNat ++ [44]) (w (6 + 10 * y))) (w (6 + 10 * y + 4)))) (w (6 + 10 * y + 4))))) (w := 47) (by omega)
          have hA := h5.row hA
          refine And.intro (rfl) ?_
          refine And.intro (rfl) ?_
          refine ct_188 (by omega) hA (by omega) (by omega) (fun v8 h9 => ?_)
          replace h9 : v8 = w (6 + 10 * y + 9) := h9
          refine And.intro (⟨rfl, by first | omega | (simp only [mS_iff, eq_self, Int.reduceEq, true_and, and_true, false_and, and_false, and_self, ↓reduceIte]; omega) | (simp only [mS_iff, eq_self, Int.reduceEq, true_and, and_true, false_and, and_false, and_self, ↓reduceIte] at *; omega)⟩) ?_
          refine And.intro (rfl) ?_
          refine ct_228 (w := if w (6 + 10 * y + 9) = 1 then 31 else 48 + w (6 + 10 * y + 9) - 2) (l := (o_w (o_gr w (6 + 10 * y) (o_bt (o_ord w (6 + 10 * y) (o_on (o_ov (o_k w y.toNat ++ [44]) (w (6 + 10 * y))) (w (6 + 10 * y + 4)))) (w (6 + 10 * y + 4)))) 47)) (by rw [h9]; exact hW.2.2.2.2.1 (w (6 + 10 * y + 9)) (by omega) (by omega)) (by omega) (by omega) hO (by omega) (fun mw10 h11 h12 => ?_)
          have fr := fr.trans h11
          have hW := h11.Wd hW
          have hO := h12
          have h13 := o_w_a (l := (o_w (o_gr w (6 + 10 * y) (o_bt (o_ord w (6 + 10 * y) (o_on (o_ov (o_k w y.toNat ++ [44]) (w (6 + 10 * y))) (w (6 + 10 * y + 4)))) (w (6 + 10 * y + 4)))) 47)) (w := if w (6 + 10 * y + 9) = 1 then 31 else 48 + w (6 + 10 * y + 9) - 2) (by omega)
          have hA := h11.row hA
          refine And.intro (show -2147483648 ≤ y + 1 ∧ y + 1 ≤ 2147483647 by first | omega | (simp only [mS_iff, eq_self, Int.reduceEq, true_and, and_true, false_and, and_false, and_self, ↓reduceIte]; omega) | (simp only [mS_iff, eq_self, Int.reduceEq, true_and, and_true, false_and, and_false, and_self, ↓reduceIte] at *; omega)) ?_
          refine ih23 _ ?_ _ _ _ (Eq.refl _) ?_ ?_ ?_
          · omega
          · first | omega | (simp only [mS_iff, eq_self, Int.reduceEq, true_and, and_true, false_and, and_false, and_self, ↓reduceIte]; omega) | (simp only [mS_iff, eq_self, Int.reduceEq, true_and, and_true, false_and, and_false, and_self, ↓reduceIte] at *; omega)
          · exact fr
          · rw [o_k_s w (by omega)]; show mOut _ (o_pt (o_gr w (6 + 10 * y) (o_bt (o_ord w (6 + 10 * y) (o_on (o_ov (o_k w y.toNat ++ [44]) (w (6 + 10 * y))) (w (6 + 10 * y + 4)))) (w (6 + 10 * y + 4)))) (w (6 + 10 * y + 9))); unfold o_pt; first | (rw [if_pos (by omega)]; exact hO) | (rw [if_neg (by omega)]; exact hO)
      have K147 : ∀ (h : Int), ∀ (m4 : aM), (fr_V m m4) → (mOut m4 (o_bt (o_ord w (6 + 10 * y) (o_on (o_ov (o_k w y.toNat ++ [44]) (w (6 + 10 * y))) (w (6 + 10 * y + 4)))) (w (6 + 10 * y + 4)))) → (y < w 5) → (h = w (6 + 10 * y + 4)) → am_WP am_G (am_wpc am_G am_T d) [] cd_226 Q 147 [aR 41, aI a, aI y, aI h] [] m4 := by
        intro h m4 fr hO yy hh
        have hW := fr.Wd hW0
        have hA := fr.row hR
        have hK := hk.2.2.2.2.2.2.2.1 y (by omega) yy
        have n0 := o_k_l hk y.toNat (by omega)
        have n00 : (o_k w y.toNat ++ [44]).length = (o_k w y.toNat).length + 1 := List.length_append
        have n1 := o_ov_l (o_k w y.toNat ++ [44]) (w (6 + 10 * y))
        have n2 := o_on_l (o_ov (o_k w y.toNat ++ [44]) (w (6 + 10 * y))) (w (6 + 10 * y + 4))
        have n3 := o_ord_l (l := (o_on (o_ov (o_k w y.toNat ++ [44]) (w (6 + 10 * y))) (w (6 + 10 * y + 4)))) hK
        have n4 := o_bt_l (o_ord w (6 + 10 * y) (o_on (o_ov (o_k w y.toNat ++ [44]) (w (6 + 10 * y))) (w (6 + 10 * y + 4)))) (w (6 + 10 * y + 4))
        have n5 := o_gr_l (l := (o_bt (o_ord w (6 + 10 * y) (o_on (o_ov (o_k w y.toNat ++ [44]) (w (6 + 10 * y))) (w (6 + 10 * y + 4)))) (w (6 + 10 * y + 4)))) hK
        have pt := hK.part
        have kl := hK.2.2.2.1
        have kx := hK.1
        have ko := hK.2.1
        unfold okOrd noOrd at ko
        have kg := hK.2.2.1
        have k4 : 0 ≤ w (6 + 10 * y + 4) ∧ w (6 + 10 * y + 4) ≤ 3 := by have q := kg; unfold okGrp noGrp at q; omega
        refine am_go 400 [23, 157, 147, 140, 87, 57] (am_wpc_cm _ _ _) wf_226 ?_
        refine And.intro (fun h14 => ?_) (fun h14 => ?_)
        · refine K157 _ _ ?_ ?_ ?_ ?_
          · exact fr
          · unfold o_gr; first | (rw [if_pos (by omega)]; exact hO) | (rw [if_neg (by omega)]; exact hO)
          · first | omega | (simp only [mS_iff, eq_self, Int.reduceEq, true_and, and_true, false_and, and_false, and_self, ↓reduceIte]; omega) | (simp only [mS_iff, eq_self, Int.reduceEq, true_and, and_true, false_and, and_false, and_self, ↓reduceIte] at *; omega)
          · omega
        · refine And.intro (rfl) ?_
          refine ct_232 (l := (o_bt (o_ord w (6 + 10 * y) (o_on (o_ov (o_k w y.toNat ++ [44]) (w (6 + 10 * y))) (w (6 + 10 * y + 4)))) (w (6 + 10 * y + 4)))) (by omega) hW hO hA (by omega) (by rcases kg with q | q; exact q; (unfold noGrp at q; omega)) (by omega) (fun mw15 h16 h17 => ?_)
          have fr := fr.trans h16
          have hW := h16.Wd hW
          have hA := h16.row hA
          have hO := h17
          refine K157 _ _ ?_ ?_ ?_ ?_
          · exact fr
          · unfold o_gr; first | (rw [if_pos (by omega)]; exact hO) | (rw [if_neg (by omega)]; exact hO)
          · first | omega | (simp only [mS_iff, eq_self, Int.reduceEq, true_and, and_true, false_and, and_false, and_self, ↓reduceIte]; omega) | (simp only [mS_iff, eq_self, Int.reduceEq, true_and, and_true, false_and, and_false, and_self, ↓reduceIte] at *; omega)
          · omega
      have K140 : ∀ (h : Int), ∀ (m4 : aM), (fr_V m m4) → (mOut m4 (o_ord w (6 + 10 * y) (o_on (o_ov (o_k w y.toNat ++ [44]) (w (6 + 10 * y))) (w (6 + 10 * y + 4))))) → (y < w 5) → (h = w (6 + 10 * y + 4)) → (0 ≤ w (6 + 10 * y + 1) ∧ w (6 + 10 * y + 4) = 2) → am_WP am_G (am_wpc am_G am_T d) [] cd_226 Q 140 [aR 41, aI a, aI y, aI h] [] m4 := by
        intro h m4 fr hO yy hh oo
        have hW := fr.Wd hW0
        have hA := fr.row hR
        have hK := hk.2.2.2.2.2.2.2.1 y (by omega) yy
        have n0 := o_k_l hk y.toNat (by omega)
        have n00 : (o_k w y.toNat ++ [44]).length = (o_k w y.toNat).length + 1 := List.length_append
        have n1 := o_ov_l (o_k w y.toNat ++ [44]) (w (6 + 10 * y))
        have n2 := o_on_l (o_ov (o_k w y.toNat ++ [44]) (w (6 + 10 * y))) (w (6 + 10 * y + 4))
        have n3 := o_ord_l (l := (o_on (o_ov (o_k w y.toNat ++ [44]) (w (6 + 10 * y))) (w (6 + 10 * y + 4)))) hK
        have n4 := o_bt_l (o_ord w (6 + 10 * y) (o_on (o_ov (o_k w y.toNat ++ [44]) (w (6 + 10 * y))) (w (6 + 10 * y + 4)))) (w (6 + 10 * y + 4))
        have n5 := o_gr_l (l := (o_bt (o_ord w (6 + 10 * y) (o_on (o_ov (o_k w y.toNat ++ [44]) (w (6 + 10 * y))) (w (6 + 10 * y + 4)))) (w (6 + 10 * y + 4)))) hK
        have pt := hK.part
        have kl := hK.2.2.2.1
        have kx := hK.1
        have ko := hK.2.1
        unfold okOrd noOrd at ko
        have kg := hK.2.2.1
        have k4 : 0 ≤ w (6 + 10 * y + 4) ∧ w (6 + 10 * y + 4) ≤ 3 := by have q := kg; unfold okGrp noGrp at q; omega
        refine am_go 400 [23, 157, 147, 140, 87, 57] (am_wpc_cm _ _ _) wf_226 ?_
        refine And.intro (rfl) ?_
        refine ct_228 (w := 46) (l := (o_ord w (6 + 10 * y) (o_on (o_ov (o_k w y.toNat ++ [44]) (w (6 + 10 * y))) (w (6 + 10 * y + 4))))) (by decide) (by omega) (by omega) hO (by omega) (fun mw18 h19 h20 => ?_)
        have fr := fr.trans h19
        have hW := h19.Wd hW
        have hO := h20
        have h21 := o_w_a (l := (o_ord w (6 + 10 * y) (o_on (o_ov (o_k w y.toNat ++ [44]) (w (6 + 10 * y))) (w (6 + 10 * y + 4))))) (w := 46) (by omega)
        have hA := h19.row hA
        refine K147 _ _ ?_ ?_ ?_ ?_
        · exact fr
        · unfold o_bt; first | (rw [if_pos (by omega)]; exact hO) | (rw [if_neg (by omega)]; exact hO) | (rw [if_neg (by omega)]; unfold o_ord o_on; rw [if_pos (by omega), if_neg (by omega)]; exact hO) | (rw [if_neg (by omega)]; unfold o_ord; rw [if_neg (by omega)]; exact hO)
        · first | omega | (simp only [mS_iff, eq_self, Int.reduceEq, true_and, and_true, false_and, and_false, and_self, ↓reduceIte]; omega) | (simp only [mS_iff, eq_self, Int.reduceEq, true_and, and_true, false_and, and_false, and_self, ↓reduceIte] at *; omega)
        · omega
      have K87 : ∀ (h : Int), ∀ (m4 : aM), (fr_V m m4) → (mOut m4 (o_on (o_ov (o_k w y.toNat ++ [44]) (w (6 + 10 * y))) (w (6 + 10 * y + 4)))) → (y < w 5) → (h = w (6 + 10 * y + 4)) → (0 ≤ w (6 + 10 * y + 1)) → am_WP am_G (am_wpc am_G am_T d) [] cd_226 Q 87 [aR 41, aI a, aI y, aI h] [] m4 := by
        intro h m4 fr hO yy hh oo
        have hW := fr.Wd hW0
        have hA := fr.row hR
        have hK := hk.2.2.2.2.2.2.2.1 y (by omega) yy
        have n0 := o_k_l hk y.toNat (by omega)
        have n00 : (o_k w y.toNat ++ [44]).length = (o_k w y.toNat).length + 1 := List.length_append
        have n1 := o_ov_l (o_k w y.toNat ++ [44]) (w (6 + 10 * y))
        have n2 := o_on_l (o_ov (o_k w y.toNat ++ [44]) (w (6 + 10 * y))) (w (6 + 10 * y + 4))
        have n3 := o_ord_l (l := (o_on (o_ov (o_k w y.toNat ++ [44]) (w (6 + 10 * y))) (w (6 + 10 * y + 4)))) hK
        have n4 := o_bt_l (o_ord w (6 + 10 * y) (o_on (o_ov (o_k w y.toNat ++ [44]) (w (6 + 10 * y))) (w (6 + 10 * y + 4)))) (w (6 + 10 * y + 4))
        have n5 := o_gr_l (l := (o_bt (o_ord w (6 + 10 * y) (o_on (o_ov (o_k w y.toNat ++ [44]) (w (6 + 10 * y))) (w (6 + 10 * y + 4)))) (w (6 + 10 * y + 4)))) hK
        have pt := hK.part
        have kl := hK.2.2.2.1
        have kx := hK.1
        have ko := hK.2.1
        unfold okOrd noOrd at ko
        have kg := hK.2.2.1
        have k4 : 0 ≤ w (6 + 10 * y + 4) ∧ w (6 + 10 * y + 4) ≤ 3 := by have q := kg; unfold okGrp noGrp at q; omega
        refine am_go 400 [23, 157, 147, 140, 87, 57] (am_wpc_cm _ _ _) wf_226 ?_
        refine And.intro (rfl) ?_
        refine ct_228 (w := 43) (l := (o_on (o_ov (o_k w y.toNat ++ [44]) (w (6 + 10 * y))) (w (6 + 10 * y + 4)))) (by decide) (by omega) (by omega) hO (by omega) (fun mw22 h23 h24 => ?_)
        have fr := fr.trans h23
        have hW := h23.Wd hW
        have hO := h24
        have h25 := o_w_a (l := (o_on (o_ov (o_k w y.toNat ++ [44]) (w (6 + 10 * y))) (w (6 + 10 * y + 4)))) (w := 43) (by omega)
        have hA := h23.row hA
        refine And.intro (rfl) ?_
        refine And.intro (rfl) ?_
        refine ct_188 (by omega) hA (by omega) (by omega) (fun v26 h27 => ?_)
        replace h27 : v26 = w (6 + 10 * y + 1) := h27
        refine And.intro (⟨rfl, by first | omega | (simp only [mS_iff, eq_self, Int.reduceEq, true_and, and_true, false_and, and_false, and_self, ↓reduceIte]; omega) | (simp only [mS_iff, eq_self, Int.reduceEq, true_and, and_true, false_and, and_false, and_self, ↓reduceIte] at *; omega)⟩) ?_
        refine And.intro (rfl) ?_
        refine ct_228 (w := 25 + w (6 + 10 * y + 1)) (l := (o_w (o_on (o_ov (o_k w y.toNat ++ [44]) (w (6 + 10 * y))) (w (6 + 10 * y + 4))) 43)) (by rw [h27]; exact hW.2.2.2.1 (w (6 + 10 * y + 1)) (by omega) (by omega)) (by omega) (by omega) hO (by omega) (fun mw28 h29 h30 => ?_)
        have fr := fr.trans h29
        have hW := h29.Wd hW
        have hO := h30
        have h31 := o_w_a (l := (o_w (o_on (o_ov (o_k w y.toNat ++ [44]) (w (6 + 10 * y))) (w (6 + 10 * y + 4))) 43)) (w := 25 + w (6 + 10 * y + 1)) (by omega)
        have hA := h29.row hA
        refine And.intro (rfl) ?_
        refine ct_188 (by omega) hA (by omega) (by omega) (fun v32 h33 => ?_)
        replace h33 : v32 = w (6 + 10 * y + 2) := h33
        refine And.intro (rfl) ?_
        refine ct_230 (n := w (6 + 10 * y + 2)) (l := (o_w (o_w (o_on (o_ov (o_k w y.toNat ++ [44]) (w (6 + 10 * y))) (w (6 + 10 * y + 4))) 43) (25 + w (6 + 10 * y + 1)))) (by omega) (by omega) hW hO (by omega) (by omega) (fun mw34 h35 h36 => ?_)
        have fr := fr.trans h35
        have hW := h35.Wd hW
        have hO := h36
        have h37 := o_ln_l (l := (o_w (o_w (o_on (o_ov (o_k w y.toNat ++ [44]) (w (6 + 10 * y))) (w (6 + 10 * y + 4))) 43) (25 + w (6 + 10 * y + 1)))) (n := w (6 + 10 * y + 2)) (by omega)
        have hA := h35.row hA
        refine And.intro (rfl) ?_
        refine And.intro (rfl) ?_
        refine ct_188 (by omega) hA (by omega) (by omega) (fun v38 h39 => ?_)
        replace h39 : v38 = w (6 + 10 * y + 3) := h39
        refine And.intro (⟨rfl, by first | omega | (simp only [mS_iff, eq_self, Int.reduceEq, true_and, and_true, false_and, and_false, and_self, ↓reduceIte]; omega) | (simp only [mS_iff, eq_self, Int.reduceEq, true_and, and_true, false_and, and_false, and_self, ↓reduceIte] at *; omega)⟩) ?_
        refine And.intro (rfl) ?_
        refine ct_228 (w := w (6 + 10 * y + 3)) (l := (o_ln (o_w (o_w (o_on (o_ov (o_k w y.toNat ++ [44]) (w (6 + 10 * y))) (w (6 + 10 * y + 4))) 43) (25 + w (6 + 10 * y + 1))) (w (6 + 10 * y + 2)))) (by rw [h39]; exact hW.1 (w (6 + 10 * y + 3)) (by omega) (by omega)) (by omega) (by omega) hO (by omega) (fun mw40 h41 h42 => ?_)
        have fr := fr.trans h41
        have hW := h41.Wd hW
        have hO := h42
        have h43 := o_w_a (l := (o_ln (o_w (o_w (o_on (o_ov (o_k w y.toNat ++ [44]) (w (6 + 10 * y))) (w (6 + 10 * y + 4))) 43) (25 + w (6 + 10 * y + 1))) (w (6 + 10 * y + 2)))) (w := w (6 + 10 * y + 3)) (by omega)
        have hA := h41.row hA
        refine And.intro (fun h44 => ?_) (fun h44 => ?_)
        · refine K147 _ _ ?_ ?_ ?_ ?_
          · exact fr
          · unfold o_bt; first | (rw [if_pos (by omega)]; exact hO) | (rw [if_neg (by omega)]; exact hO) | (rw [if_neg (by omega)]; unfold o_ord o_on; rw [if_pos (by omega), if_neg (by omega)]; exact hO) | (rw [if_neg (by omega)]; unfold o_ord; rw [if_neg (by omega)]; exact hO)
          · first | omega | (simp only [mS_iff, eq_self, Int.reduceEq, true_and, and_true, false_and, and_false, and_self, ↓reduceIte]; omega) | (simp only [mS_iff, eq_self, Int.reduceEq, true_and, and_true, false_and, and_false, and_self, ↓reduceIte] at *; omega)
          · omega
        · refine K140 _ _ ?_ ?_ ?_ ?_ ?_
          · exact fr
          · unfold o_ord; rw [if_neg (by omega)]; exact hO
          · first | omega | (simp only [mS_iff, eq_self, Int.reduceEq, true_and, and_true, false_and, and_false, and_self, ↓reduceIte]; omega) | (simp only [mS_iff, eq_self, Int.reduceEq, true_and, and_true, false_and, and_false, and_self, ↓reduceIte] at *; omega)
          · omega
          · omega
      have K57 : ∀ (h : aV), ∀ (m4 : aM), (fr_V m m4) → (mOut m4 (o_ov (o_k w y.toNat ++ [44]) (w (6 + 10 * y)))) → (y < w 5) → am_WP am_G (am_wpc am_G am_T d) [] cd_226 Q 57 [aR 41, aI a, aI y, h] [] m4 := by
        intro h m4 fr hO yy
        have hW := fr.Wd hW0
        have hA := fr.row hR
        have hK := hk.2.2.2.2.2.2.2.1 y (by omega) yy
        have n0 := o_k_l hk y.toNat (by omega)
        have n00 : (o_k w y.toNat ++ [44]).length = (o_k w y.toNat).length + 1 := List.length_append
        have n1 := o_ov_l (o_k w y.toNat ++ [44]) (w (6 + 10 * y))
        have n2 := o_on_l (o_ov (o_k w y.toNat ++ [44]) (w (6 + 10 * y))) (w (6 + 10 * y + 4))
        have n3 := o_ord_l (l := (o_on (o_ov (o_k w y.toNat ++ [44]) (w (6 + 10 * y))) (w (6 + 10 * y + 4)))) hK
        have n4 := o_bt_l (o_ord w (6 + 10 * y) (o_on (o_ov (o_k w y.toNat ++ [44]) (w (6 + 10 * y))) (w (6 + 10 * y + 4)))) (w (6 + 10 * y + 4))
        have n5 := o_gr_l (l := (o_bt (o_ord w (6 + 10 * y) (o_on (o_ov (o_k w y.toNat ++ [44]) (w (6 + 10 * y))) (w (6 + 10 * y + 4)))) (w (6 + 10 * y + 4)))) hK
        have pt := hK.part
        have kl := hK.2.2.2.1
        have kx := hK.1
        have ko := hK.2.1
        unfold okOrd noOrd at ko
        have kg := hK.2.2.1
        have k4 : 0 ≤ w (6 + 10 * y + 4) ∧ w (6 + 10 * y + 4) ≤ 3 := by have q := kg; unfold okGrp noGrp at q; omega
        refine am_go 400 [23, 157, 147, 140, 87, 57] (am_wpc_cm _ _ _) wf_226 ?_
        refine And.intro (rfl) ?_
        refine ct_188 (by omega) hA (by omega) (by omega) (fun v45 h46 => ?_)
        replace h46 : v45 = w (6 + 10 * y + 4) := h46
        refine And.intro (rfl) ?_
        refine ct_188 (by omega) hA (by omega) (by omega) (fun v47 h48 => ?_)
        replace h48 : v47 = w (6 + 10 * y + 1) := h48
        refine And.intro (fun h49 => ?_) (fun h49 => ?_)
        · refine K147 _ _ ?_ ?_ ?_ ?_
          · exact fr
          · unfold o_bt; first | (rw [if_pos (by omega)]; exact hO) | (rw [if_neg (by omega)]; exact hO) | (rw [if_neg (by omega)]; unfold o_ord o_on; rw [if_pos (by omega), if_neg (by omega)]; exact hO) | (rw [if_neg (by omega)]; unfold o_ord; rw [if_neg (by omega)]; exact hO)
          · first | omega | (simp only [mS_iff, eq_self, Int.reduceEq, true_and, and_true, false_and, and_false, and_self, ↓reduceIte]; omega) | (simp only [mS_iff, eq_self, Int.reduceEq, true_and, and_true, false_and, and_false, and_self, ↓reduceIte] at *; omega)
          · omega
        · refine And.intro (fun h50 => ?_) (fun h50 => ?_)
          · refine K87 _ _ ?_ ?_ ?_ ?_ ?_
            · exact fr
            · unfold o_on; first | (rw [if_pos (by omega)]; exact hO) | (rw [if_neg (by omega)]; exact hO)
            · first | omega | (simp only [mS_iff, eq_self, Int.reduceEq, true_and, and_true, false_and, and_false, and_self, ↓reduceIte]; omega) | (simp only [mS_iff, eq_self, Int.reduceEq, true_and, and_true, false_and, and_false, and_self, ↓reduceIte] at *; omega)
            · omega
            · omega
          · refine And.intro (rfl) ?_
            refine ct_228 (w := 45) (l := (o_ov (o_k w y.toNat ++ [44]) (w (6 + 10 * y)))) (by decide) (by omega) (by omega) hO (by omega) (fun mw51 h52 h53 => ?_)
            have fr := fr.trans h52
            have hW := h52.Wd hW
            have hO := h53
            have h54 := o_w_a (l := (o_ov (o_k w y.toNat ++ [44]) (w (6 + 10 * y)))) (w := 45) (by omega)
            have hA := h52.row hA
            refine K87 _ _ ?_ ?_ ?_ ?_ ?_
            · exact fr
            · unfold o_on; first | (rw [if_pos (by omega)]; exact hO) | (rw [if_neg (by omega)]; exact hO)
            · first | omega | (simp only [mS_iff, eq_self, Int.reduceEq, true_and, and_true, false_and, and_false, and_self, ↓reduceIte]; omega) | (simp only [mS_iff, eq_self, Int.reduceEq, true_and, and_true, false_and, and_false, and_self, ↓reduceIte] at *; omega)
            · omega
            · omega
      refine am_go 400 [23, 157, 147, 140, 87, 57] (am_wpc_cm _ _ _) wf_226 ?_
      refine And.intro (rfl) ?_
      refine ct_186 (by omega) hA (by omega) (fun v55 h56 => ?_)
      replace h56 : v55 = w 5 := h56
      refine And.intro (fun h57 => ?_) (fun h57 => ?_)
      · refine And.intro (rfl) ?_
        exact hQ _ _ fr (by unfold o_arms; rw [show w 5 = y by omega]; exact hO) (by unfold o_arms; rw [show w 5 = y by omega]; exact hO.1)
      · have hK := hk.2.2.2.2.2.2.2.1 y (by omega) (by omega)
        have kx := hK.1
        have n00 : (o_k w y.toNat ++ [44]).length = (o_k w y.toNat).length + 1 := List.length_append
        refine And.intro (rfl) ?_
        refine ct_229 (b := 44) (l := (o_k w y.toNat)) (by omega) hO (by omega) (fun mw58 h59 h60 => ?_)
        have fr := fr.trans h59
        have hW := h59.Wd hW
        have hA := h59.row hA
        have hO := h60
        refine And.intro (rfl) ?_
        refine ct_188z (by omega) hA (by omega) (fun v61 h62 => ?_)
        refine And.intro (fun h63 => ?_) (fun h63 => ?_)
        · refine K57 _ _ ?_ ?_ ?_
          · exact fr
          · unfold o_ov; first | (rw [if_pos (by omega)]; exact hO) | (rw [if_neg (by omega)]; exact hO)
          · first | omega | (simp only [mS_iff, eq_self, Int.reduceEq, true_and, and_true, false_and, and_false, and_self, ↓reduceIte]; omega) | (simp only [mS_iff, eq_self, Int.reduceEq, true_and, and_true, false_and, and_false, and_self, ↓reduceIte] at *; omega)
        · refine And.intro (rfl) ?_
          refine ct_228 (w := 44) (l := ((o_k w y.toNat) ++ [44])) (by decide) (by omega) (by omega) hO (by omega) (fun mw64 h65 h66 => ?_)
          have fr := fr.trans h65
          have hW := h65.Wd hW
          have hO := h66
          have h67 := o_w_a (l := ((o_k w y.toNat) ++ [44])) (w := 44) (by omega)
          have hA := h65.row hA
          refine K57 _ _ ?_ ?_ ?_
          · exact fr
          · unfold o_ov; first | (rw [if_pos (by omega)]; exact hO) | (rw [if_neg (by omega)]; exact hO)
          · first | omega | (simp only [mS_iff, eq_self, Int.reduceEq, true_and, and_true, false_and, and_false, and_self, ↓reduceIte]; omega) | (simp only [mS_iff, eq_self, Int.reduceEq, true_and, and_true, false_and, and_false, and_self, ↓reduceIte] at *; omega)
  refine am_go 400 [23, 157, 147, 140, 87, 57] (am_wpc_cm _ _ _) wf_226 ?_
  refine K23 _ _ _ _ (Eq.refl _) ?_ ?_ ?_
  · first | omega | (simp only [mS_iff, eq_self, Int.reduceEq, true_and, and_true, false_and, and_false, and_self, ↓reduceIte]; omega) | (simp only [mS_iff, eq_self, Int.reduceEq, true_and, and_true, false_and, and_false, and_self, ↓reduceIte] at *; omega)
  · exact fr_V.rfl m
  · exact hO
