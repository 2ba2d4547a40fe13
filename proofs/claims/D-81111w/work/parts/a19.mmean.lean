/-! needs: a18 -/
/-! CONTRACTS: the meaning, settled by the reference; by tools/gena19.py -/
set_option maxRecDepth 100000
set_option maxHeartbeats 8000000
/-- row 50 of the reference says a field and its layers -/
def mRL (m : aM) (w : Int → Int) (L : List (Int → Int)) : Prop := mSg m 3300 5 w ∧ m 42 3305 = (L.length : Int) ∧ ∀ k : Nat, k < 6 → mSg m (3306 + 10 * (k : Int)) 10 (L.getD k l_no)
theorem mRL.row {m : aM} {w : Int → Int} {L : List (Int → Int)} (h : mRL m w L) : mRow m 50 (p_row w L) := by
  refine ⟨by omega, by omega, fun k k0 k1 => ?_⟩
  obtain ⟨h1, h2, h3⟩ := h
  by_cases a : k < 5
  · rw [p_row_f a]; exact h1 k k0 a
  · by_cases b : k = 5
    · subst b; rw [p_row_5]; exact h2
    · have e : k = 6 + 10 * ((k - 6) / 10) + (k - 6) % 10 := by omega
      have := h3 ((k - 6) / 10).toNat (by omega) ((k - 6) % 10) (by omega) (by omega)
      rw [show (((k - 6) / 10).toNat : Int) = (k - 6) / 10 by omega, show (3306 : Int) + 10 * ((k - 6) / 10) + (k - 6) % 10 = 66 * 50 + k by omega] at this
      rw [this]
      conv => rhs; rw [e]
      rw [p_row_l (by omega) (by omega) (by omega)]
theorem mRL.f {m : aM} {w w2 : Int → Int} {L : List (Int → Int)} (h : mRL m w L) (e : ∀ k, 0 ≤ k → k < 5 → w2 k = w k) : mRL m w2 L := ⟨fun j a b => by rw [e j a b]; exact h.1 j a b, h.2⟩
theorem mRL.sw {m m' : aM} {w x y : Int → Int} {u v : List (Int → Int)} {j : Int} (h : mRL m w (u ++ x :: y :: v)) (hj : j = (u.length : Int)) (h6 : u.length + 2 ≤ 6) (f : fr_B (3306 + 10 * j) (3326 + 10 * j) m m') (g1 : mSg m' (3306 + 10 * j) 10 y) (g2 : mSg m' (3316 + 10 * j) 10 x) : mRL m' w (u ++ y :: x :: v) := by
  obtain ⟨h1, h2, h3⟩ := h
  refine ⟨h1.B f (by omega), by rw [f 42 _ (by omega), h2]; simp, fun k hk => ?_⟩
  have h4 := h3 k hk
  by_cases e1 : k = u.length
  · subst e1
    rw [List.getD_eq_getElem?_getD, List.getElem?_append_right (by omega)]
    simp only [Nat.sub_self, List.getElem?_cons_zero, Option.getD_some]
    rw [← hj]; exact g1
  · by_cases e2 : k = u.length + 1
    · subst e2
      rw [List.getD_eq_getElem?_getD, List.getElem?_append_right (by omega)]
      simp only [Nat.add_sub_cancel_left, List.getElem?_cons_succ, List.getElem?_cons_zero, Option.getD_some]
      rw [show (3306 : Int) + 10 * ((u.length + 1 : Nat) : Int) = 3316 + 10 * j by omega]; exact g2
    · have e3 : (u ++ y :: x :: v).getD k l_no = (u ++ x :: y :: v).getD k l_no := by
        by_cases e3 : k < u.length
        · rw [List.getD_eq_getElem?_getD, List.getD_eq_getElem?_getD, List.getElem?_append_left e3, List.getElem?_append_left e3]
        · rw [List.getD_eq_getElem?_getD, List.getD_eq_getElem?_getD, List.getElem?_append_right (by omega), List.getElem?_append_right (by omega)]
          obtain ⟨z, hz⟩ : ∃ z, k - u.length = z + 2 := ⟨k - u.length - 2, by omega⟩
          rw [hz]; simp
      rw [e3]
      exact h4.B f (by omega)
def e_lp (l : Int → Int) : Prop := l 4 = 1 ∧ 0 < l 9 ∧ l 0 = 0
theorem e_kl_y {l : Int → Int} (h : e_lp l) : e_kl l = (l 9).toNat := by unfold e_kl; exact if_pos h
theorem e_kl_n {l : Int → Int} (h : ¬ e_lp l) : e_kl l = 0 := by unfold e_kl; exact if_neg h
theorem e_lgl_y {x y : Int → Int} (hx : e_lp x) (hy : e_lp y) (h : y 9 < x 9) : e_leg e_kl x y = true := by
  unfold e_leg; rw [e_kl_y hx, e_kl_y hy]
  have := hx.2.1; have := hy.2.1
  simp only [Bool.and_eq_true, Nat.ble_eq]
  exact ⟨by omega, by rw [Nat.blt_eq]; omega⟩
theorem e_lgl_n {x y : Int → Int} (h : ¬ (e_lp x ∧ e_lp y ∧ y 9 < x 9)) : e_leg e_kl x y = false := by
  by_cases hy : e_lp y
  · by_cases hx : e_lp x
    · have h3 : ¬ y 9 < x 9 := fun z => h ⟨hx, hy, z⟩
      unfold e_leg; rw [e_kl_y hx, e_kl_y hy]
      have := hx.2.1; have := hy.2.1
      rw [Bool.and_eq_false_iff]
      exact Or.inr (by rw [Bool.eq_false_iff]; intro z; rw [Nat.blt_eq] at z; omega)
    · unfold e_leg; rw [e_kl_n hx, Bool.and_eq_false_iff]
      exact Or.inr (by rw [Bool.eq_false_iff]; intro z; rw [Nat.blt_eq] at z; omega)
  · unfold e_leg; rw [e_kl_n hy]; rfl
theorem p_row_at {w x : Int → Int} {u v : List (Int → Int)} {j k : Int} (hj : j = (u.length : Int)) (k0 : 0 ≤ k) (k9 : k ≤ 9) : p_row w (u ++ x :: v) (6 + 10 * j + k) = x k := by
  rw [p_row_l (by omega) k0 k9, List.getD_eq_getElem?_getD, show j.toNat = u.length by omega, List.getElem?_append_right (by omega)]
  simp
theorem ct_217 {d : Nat} {m : aM} {Q : aO → aM → Prop} {l : Int} {w : Int → Int} (hd : 2 ≤ d) (hA : mRow m 50 w) (hl : 0 ≤ l ∧ l < 6) (hQ1 : (w (6 + 10 * l + 4) = 1 ∧ 0 < w (6 + 10 * l + 9) ∧ w (6 + 10 * l + 0) = 0) → Q (.inl (some (aI 1))) m) (hQ0 : ¬ (w (6 + 10 * l + 4) = 1 ∧ 0 < w (6 + 10 * l + 9) ∧ w (6 + 10 * l + 0) = 0) → Q (.inl (some (aI 0))) m) : am_wpc am_G am_T d 217 [aR 41, aI 50, aI l] m Q := by
  refine am_in rfl hd (fun d hd => ?_)
  refine am_go 400 [] (am_wpc_cm _ _ _) wf_217 ?_
  refine And.intro (rfl) ?_
  refine ct_188 (by omega) hA (by omega) (by omega) (fun v1 h2 => ?_)
  refine And.intro (fun h3 => ?_) (fun h3 => ?_)
  · refine And.intro (by first | omega | (simp only [mS_iff, eq_self, Int.reduceEq, true_and, and_true, false_and, and_false, and_self, ↓reduceIte]; omega) | (simp only [mS_iff, eq_self, Int.reduceEq, true_and, and_true, false_and, and_false, and_self, ↓reduceIte] at *; omega)) ?_
    exact hQ0 (by omega)
  · refine And.intro (rfl) ?_
    refine ct_188 (by omega) hA (by omega) (by omega) (fun v4 h5 => ?_)
    refine And.intro (fun h6 => ?_) (fun h6 => ?_)
    · refine And.intro (by first | omega | (simp only [mS_iff, eq_self, Int.reduceEq, true_and, and_true, false_and, and_false, and_self, ↓reduceIte]; omega) | (simp only [mS_iff, eq_self, Int.reduceEq, true_and, and_true, false_and, and_false, and_self, ↓reduceIte] at *; omega)) ?_
      exact hQ0 (by omega)
    · refine And.intro (rfl) ?_
      refine ct_188 (by omega) hA (by omega) (by omega) (fun v7 h8 => ?_)
      refine And.intro (fun h9 => ?_) (fun h9 => ?_)
      · refine And.intro (by first | omega | (simp only [mS_iff, eq_self, Int.reduceEq, true_and, and_true, false_and, and_false, and_self, ↓reduceIte]; omega) | (simp only [mS_iff, eq_self, Int.reduceEq, true_and, and_true, false_and, and_false, and_self, ↓reduceIte] at *; omega)) ?_
        exact hQ0 (by omega)
      · refine And.intro (by first | omega | (simp only [mS_iff, eq_self, Int.reduceEq, true_and, and_true, false_and, and_false, and_self, ↓reduceIte]; omega) | (simp only [mS_iff, eq_self, Int.reduceEq, true_and, and_true, false_and, and_false, and_self, ↓reduceIte] at *; omega)) ?_
        exact hQ1 (by omega)
theorem ct_219 {d : Nat} {m : aM} {Q : aO → aM → Prop} {a b : Int} {w : Int → Int} (hd : 1 ≤ d) (ha : 0 ≤ a ∧ a ≤ 51) (hb : mRow m b w) (hab : a ≠ b) (hQ : ∀ m', fr_B (66 * a) (66 * a + 66) m m' → mRow m' a w → Q (.inl none) m') : am_wpc am_G am_T d 219 [aR 41, aI a, aI b] m Q := by
  obtain ⟨b1, b2, b3⟩ := hb
  refine am_in rfl hd (fun d hd => ?_)
  have K2 : ∀ (Nm : Nat), ∀ (k : Int), ∀ (mu : aM), (66 - k).toNat = Nm → (0 ≤ k ∧ k ≤ 66) → (fr_B (66 * a) (66 * a + 66) m mu) → (∀ j, 0 ≤ j → j < k → mu 42 (66 * a + j) = w j) → am_WP am_G (am_wpc am_G am_T d) [] cd_219 Q 2 [aR 41, aI a, aI b, aI k] [] mu := by
    intro Nm
    induction Nm using Nat.strongRecOn with
    | _ Nm ih2 =>
      intro k mu hN i0 fb sg
      refine am_go 400 [2] (am_wpc_cm _ _ _) wf_219 ?_
      refine And.intro (fun h1 => ?_) (fun h1 => ?_)
      · exact hQ _ fb ⟨by omega, by omega, fun j x y => sg j x (by omega)⟩
      · refine And.intro (rfl) ?_
        refine And.intro (show -2147483648 ≤ 66 * a ∧ 66 * a ≤ 2147483647 by first | omega | (simp only [mS_iff, eq_self, Int.reduceEq, true_and, and_true, false_and, and_false, and_self, ↓reduceIte]; omega) | (simp only [mS_iff, eq_self, Int.reduceEq, true_and, and_true, false_and, and_false, and_self, ↓reduceIte] at *; omega)) ?_
        refine And.intro (show -2147483648 ≤ (66 * a) + k ∧ (66 * a) + k ≤ 2147483647 by first | omega | (simp only [mS_iff, eq_self, Int.reduceEq, true_and, and_true, false_and, and_false, and_self, ↓reduceIte]; omega) | (simp only [mS_iff, eq_self, Int.reduceEq, true_and, and_true, false_and, and_false, and_self, ↓reduceIte] at *; omega)) ?_
        refine And.intro (rfl) ?_
        refine And.intro (show -2147483648 ≤ 66 * b ∧ 66 * b ≤ 2147483647 by first | omega | (simp only [mS_iff, eq_self, Int.reduceEq, true_and, and_true, false_and, and_false, and_self, ↓reduceIte]; omega) | (simp only [mS_iff, eq_self, Int.reduceEq, true_and, and_true, false_and, and_false, and_self, ↓reduceIte] at *; omega)) ?_
        refine And.intro (show -2147483648 ≤ (66 * b) + k ∧ (66 * b) + k ≤ 2147483647 by first | omega | (simp only [mS_iff, eq_self, Int.reduceEq, true_and, and_true, false_and, and_false, and_self, ↓reduceIte]; omega) | (simp only [mS_iff, eq_self, Int.reduceEq, true_and, and_true, false_and, and_false, and_self, ↓reduceIte] at *; omega)) ?_
        refine And.intro (⟨rfl, by first | omega | (simp only [mS_iff, eq_self, Int.reduceEq, true_and, and_true, false_and, and_false, and_self, ↓reduceIte]; omega) | (simp only [mS_iff, eq_self, Int.reduceEq, true_and, and_true, false_and, and_false, and_self, ↓reduceIte] at *; omega)⟩) ?_
        refine And.intro (⟨rfl, by first | omega | (simp only [mS_iff, eq_self, Int.reduceEq, true_and, and_true, false_and, and_false, and_self, ↓reduceIte]; omega) | (simp only [mS_iff, eq_self, Int.reduceEq, true_and, and_true, false_and, and_false, and_self, ↓reduceIte] at *; omega)⟩) ?_
        refine And.intro (show -2147483648 ≤ k + 1 ∧ k + 1 ≤ 2147483647 by first | omega | (simp only [mS_iff, eq_self, Int.reduceEq, true_and, and_true, false_and, and_false, and_self, ↓reduceIte]; omega) | (simp only [mS_iff, eq_self, Int.reduceEq, true_and, and_true, false_and, and_false, and_self, ↓reduceIte] at *; omega)) ?_
        refine ih2 _ ?_ _ _ (Eq.refl _) ?_ ?_ ?_
        · omega
        · first | omega | (simp only [mS_iff, eq_self, Int.reduceEq, true_and, and_true, false_and, and_false, and_self, ↓reduceIte]; omega) | (simp only [mS_iff, eq_self, Int.reduceEq, true_and, and_true, false_and, and_false, and_self, ↓reduceIte] at *; omega)
        · exact fb.p (by omega)
        · intro j x y
          rw [mS_iff]
          by_cases e : j = k
          · rw [if_pos ⟨rfl, by omega⟩, fb 42 _ (by omega), e]; exact b3 k (by omega) (by omega)
          · rw [if_neg (by omega)]; exact sg j x (by omega)
  refine am_go 400 [2] (am_wpc_cm _ _ _) wf_219 ?_
  refine K2 _ _ _ (Eq.refl _) ?_ ?_ ?_
  · first | omega | (simp only [mS_iff, eq_self, Int.reduceEq, true_and, and_true, false_and, and_false, and_self, ↓reduceIte]; omega) | (simp only [mS_iff, eq_self, Int.reduceEq, true_and, and_true, false_and, and_false, and_self, ↓reduceIte] at *; omega)
  · exact fr_B.rfl _ _ m
  · intro j x y
    omega
theorem ct_218 {d : Nat} {m : aM} {Q : aO → aM → Prop} {w : Int → Int} (hd : 2 ≤ d) (hm : 0 ≤ m 41 1 ∧ m 41 1 < 50) (hb : mRow m 50 w) (hQ : ∀ m', m' 41 1 = m 41 1 + 1 → (∀ r j, (r ≠ 41 ∨ j ≠ 1) → (r ≠ 42 ∨ j < 66 * m 41 1 ∨ 66 * m 41 1 + 66 ≤ j) → m' r j = m r j) → mRow m' (m 41 1) w → Q (.inl (some (aI (m 41 1)))) m') : am_wpc am_G am_T d 218 [aR 41] m Q := by
  refine am_in rfl hd (fun d hd => ?_)
  refine am_go 400 [] (am_wpc_cm _ _ _) wf_218 ?_
  refine And.intro (rfl) ?_
  refine And.intro (rfl) ?_
  refine ct_219 (by omega) (by omega) hb (by omega) (fun mw1 h2 h3 => ?_)
  have fz := h2
  have rz := h3
  have e1 : mw1 41 1 = m 41 1 := fz 41 1 (by omega)
  refine And.intro (rfl) ?_
  refine And.intro (show -2147483648 ≤ (mw1 41 1) + 1 ∧ (mw1 41 1) + 1 ≤ 2147483647 by first | omega | (simp only [mS_iff, eq_self, Int.reduceEq, true_and, and_true, false_and, and_false, and_self, ↓reduceIte]; omega) | (simp only [mS_iff, eq_self, Int.reduceEq, true_and, and_true, false_and, and_false, and_self, ↓reduceIte] at *; omega)) ?_
  refine And.intro (rfl) ?_
  refine And.intro (rfl) ?_
  refine And.intro (show -2147483648 ≤ ((mw1 41 1) + 1) - 1 ∧ ((mw1 41 1) + 1) - 1 ≤ 2147483647 by first | omega | (simp only [mS_iff, eq_self, Int.reduceEq, true_and, and_true, false_and, and_false, and_self, ↓reduceIte]; omega) | (simp only [mS_iff, eq_self, Int.reduceEq, true_and, and_true, false_and, and_false, and_self, ↓reduceIte] at *; omega)) ?_
  have q := hQ (mS mw1 41 1 (mw1 41 1 + 1)) (by rw [mS_iff, if_pos ⟨rfl, rfl⟩]; omega) (fun r j u w => by rw [mS_iff, if_neg (by omega)]; exact fz r j (by omega)) rz
  rw [show mS mw1 41 1 (mw1 41 1 + 1) 41 1 - 1 = m 41 1 by (show mw1 41 1 + 1 - 1 = _); omega]
  exact q
theorem e_bub_y {x y : Int → Int} {l : List (Int → Int)} (h : e_leg e_kl x y = true) : e_bub e_kl x (y :: l) = y :: e_bub e_kl x l := by show (bif e_leg e_kl x y then _ else _) = _; rw [h]; rfl
theorem e_bub_n {x y : Int → Int} {l : List (Int → Int)} (h : e_leg e_kl x y = false) : e_bub e_kl x (y :: l) = x :: e_bub e_kl y l := by show (bif e_leg e_kl x y then _ else _) = _; rw [h]; rfl
theorem mRow.self (m : aM) : mRow m 50 (fun k => m 42 (66 * 50 + k)) := ⟨by omega, by omega, fun _ _ _ => rfl⟩
theorem lp_216s {d : Nat} {m : aM} {Q : aO → aM → Prop} {i j : Int} {x y : Int → Int} {z3 z4 : aV} (hd : 2 ≤ d) (hj : 0 ≤ j ∧ j ≤ 4) (sx : mSg m (3306 + 10 * j) 10 x) (sy : mSg m (3316 + 10 * j) 10 y) (H : ∀ m' k3 k4, fr_B (3306 + 10 * j) (3326 + 10 * j) m m' → mSg m' (3306 + 10 * j) 10 y → mSg m' (3316 + 10 * j) 10 x → am_WP am_G (am_wpc am_G am_T d) [] cd_216 Q 204 [aR 41, aI i, aI j, aI k3, k4] [] m') : am_WP am_G (am_wpc am_G am_T d) [] cd_216 Q 150 [aR 41, aI i, aI j, z3, z4] [] m := by
  have K152 : ∀ (Nm : Nat), ∀ (k : Int) (z : aV), ∀ (mz : aM), (10 - k).toNat = Nm → (0 ≤ k ∧ k ≤ 10) → (fr_B (3306 + 10 * j) (3326 + 10 * j) m mz) → (∀ i, 0 ≤ i → i < 10 → mz 42 (3306 + 10 * j + i) = if i < k then y i else x i) → (∀ i, 0 ≤ i → i < 10 → mz 42 (3316 + 10 * j + i) = if i < k then x i else y i) → am_WP am_G (am_wpc am_G am_T d) [] cd_216 Q 152 [aR 41, aI i, aI j, aI k, z] [] mz := by
    intro Nm
    induction Nm using Nat.strongRecOn with
    | _ Nm ih152 =>
      intro k z mz hN k0 fz s1 s2
      refine am_go 400 [152, 204] (am_wpc_cm _ _ _) wf_216 ?_
      refine And.intro (fun h1 => ?_) (fun h1 => ?_)
      · exact H _ _ _ fz (fun i u v => by rw [s1 i u v, if_pos (by omega)]) (fun i u v => by rw [s2 i u v, if_pos (by omega)])
      · refine And.intro (rfl) ?_
        refine ct_188 (by omega) (mRow.self _) (by omega) (by omega) (fun va ha => ?_)
        refine And.intro (show -2147483648 ≤ j + 1 ∧ j + 1 ≤ 2147483647 by first | omega | (simp only [mS_iff, eq_self, Int.reduceEq, true_and, and_true, false_and, and_false, and_self, ↓reduceIte]; omega) | (simp only [mS_iff, eq_self, Int.reduceEq, true_and, and_true, false_and, and_false, and_self, ↓reduceIte] at *; omega)) ?_
        refine And.intro (rfl) ?_
        refine ct_188 (by omega) (mRow.self _) (by omega) (by omega) (fun vb hb => ?_)
        refine And.intro (rfl) ?_
        refine ct_184 (by omega) (by omega) (by omega) (fun ma ea => ?_)
        refine And.intro (show -2147483648 ≤ j + 1 ∧ j + 1 ≤ 2147483647 by first | omega | (simp only [mS_iff, eq_self, Int.reduceEq, true_and, and_true, false_and, and_false, and_self, ↓reduceIte]; omega) | (simp only [mS_iff, eq_self, Int.reduceEq, true_and, and_true, false_and, and_false, and_self, ↓reduceIte] at *; omega)) ?_
        refine And.intro (rfl) ?_
        refine ct_184 (by omega) (by omega) (by omega) (fun mb eb => ?_)
        refine And.intro (show -2147483648 ≤ k + 1 ∧ k + 1 ≤ 2147483647 by first | omega | (simp only [mS_iff, eq_self, Int.reduceEq, true_and, and_true, false_and, and_false, and_self, ↓reduceIte]; omega) | (simp only [mS_iff, eq_self, Int.reduceEq, true_and, and_true, false_and, and_false, and_self, ↓reduceIte] at *; omega)) ?_
        refine ih152 _ ?_ _ _ _ (Eq.refl _) ?_ ?_ ?_ ?_
        · omega
        · first | omega | (simp only [mS_iff, eq_self, Int.reduceEq, true_and, and_true, false_and, and_false, and_self, ↓reduceIte]; omega) | (simp only [mS_iff, eq_self, Int.reduceEq, true_and, and_true, false_and, and_false, and_self, ↓reduceIte] at *; omega)
        · rw [eb, ea]; exact (fz.p (by omega)).p (by omega)
        · intro i u v
          rw [eb, mS_iff]
          rw [if_neg (by omega), ea, mS_iff]
          by_cases e : i = k
          · rw [if_pos ⟨rfl, by omega⟩, if_pos (by omega), hb, show (66 * 50 + (6 + 10 * (j + 1) + k) : Int) = 3316 + 10 * j + k by omega, s2 k (by omega) (by omega), if_neg (by omega), e]
          · rw [if_neg (by omega), s1 i u v]
            by_cases g : i < k
            · rw [if_pos g, if_pos (by omega)]
            · rw [if_neg g, if_neg (by omega)]
        · intro i u v
          rw [eb, mS_iff]
          by_cases e : i = k
          · rw [if_pos ⟨rfl, by omega⟩, if_pos (by omega), ha, show (66 * 50 + (6 + 10 * j + k) : Int) = 3306 + 10 * j + k by omega, s1 k (by omega) (by omega), if_neg (by omega), e]
          · rw [if_neg (by omega), ea, mS_iff, if_neg (by omega), s2 i u v]
            by_cases g : i < k
            · rw [if_pos g, if_pos (by omega)]
            · rw [if_neg g, if_neg (by omega)]
  refine am_go 400 [152, 204] (am_wpc_cm _ _ _) wf_216 ?_
  refine K152 _ _ _ _ (Eq.refl _) ?_ ?_ ?_ ?_
  · first | omega | (simp only [mS_iff, eq_self, Int.reduceEq, true_and, and_true, false_and, and_false, and_self, ↓reduceIte]; omega) | (simp only [mS_iff, eq_self, Int.reduceEq, true_and, and_true, false_and, and_false, and_self, ↓reduceIte] at *; omega)
  · exact fr_B.rfl _ _ _
  · intro i u v
    rw [if_neg (by omega)]; exact sx i u v
  · intro i u v
    rw [if_neg (by omega)]; exact sy i u v
theorem lp_216p {d : Nat} {m : aM} {Q : aO → aM → Prop} {i : Int} {w : Int → Int} {L : List (Int → Int)} {z2 z3 z4 : aV} (hd : 2 ≤ d) (hL : mRL m w L) (h6 : L.length ≤ 6) (H : ∀ m' z2 z3 z4, fr_B 3300 3366 m m' → mRL m' w (e_b1 e_kl L) → am_WP am_G (am_wpc am_G am_T d) [] cd_216 Q 210 [aR 41, aI i, z2, z3, z4] [] m') : am_WP am_G (am_wpc am_G am_T d) [] cd_216 Q 90 [aR 41, aI i, z2, z3, z4] [] m := by
  have K92 : ∀ (Nm : Nat), ∀ (j : Int) (u : List (Int → Int)) (rest : List (Int → Int)) (z3 : aV) (z4 : aV), ∀ (mv : aM), ((rest.length : Int)).toNat = Nm → (j = (u.length : Int) ∧ u.length + rest.length ≤ 6) → (mRL mv w (u ++ rest)) → (fr_B 3300 3366 m mv) → (u ++ e_b1 e_kl rest = e_b1 e_kl L) → am_WP am_G (am_wpc am_G am_T d) [] cd_216 Q 92 [aR 41, aI i, aI j, z3, z4] [] mv := by
    intro Nm
    induction Nm using Nat.strongRecOn with
    | _ Nm ih92 =>
      intro j u rest z3 z4 mv hN hj rl fb hT
      refine am_go 400 [92, 150, 210] (am_wpc_cm _ _ _) wf_216 ?_
      refine And.intro (show -2147483648 ≤ j + 1 ∧ j + 1 ≤ 2147483647 by first | omega | (simp only [mS_iff, eq_self, Int.reduceEq, true_and, and_true, false_and, and_false, and_self, ↓reduceIte]; omega) | (simp only [mS_iff, eq_self, Int.reduceEq, true_and, and_true, false_and, and_false, and_self, ↓reduceIte] at *; omega)) ?_
      refine And.intro (rfl) ?_
      refine ct_186 (by omega) rl.row (by omega) (fun v1 h2 => ?_)
      rw [p_row_5] at h2
      refine And.intro (fun h3 => ?_) (fun h3 => ?_)
      · refine H _ _ _ _ fb ?_
        rw [← hT]
        have hr : e_b1 e_kl rest = rest := by
          cases rest with
          | nil => rfl
          | cons x r => cases r with
            | nil => rfl
            | cons y r => exfalso; simp at *; omega
        rw [hr]; exact rl
      · obtain ⟨x, y, r, er⟩ : ∃ x y r, rest = x :: y :: r := by
          cases rest with
          | nil => exfalso; simp at *; omega
          | cons x r => cases r with
            | nil => exfalso; simp at *; omega
            | cons y r => exact ⟨x, y, r, rfl⟩
        subst er
        have hj2 := hj.2
        simp at hj2
        refine And.intro (rfl) ?_
        refine ct_217 (by omega) rl.row (by omega) (fun h4 => ?_) (fun h4 => ?_)
        · have t0 : p_row w (u ++ x :: y :: r) (6 + 10 * j + 0) = x 0 := by
            have := p_row_at (w := w) (x := x) (u := u) (v := y :: r) (j := j) (k := 0) (by first | omega | (simp; omega)) (by omega) (by omega)
            simpa using this
          have t4 : p_row w (u ++ x :: y :: r) (6 + 10 * j + 4) = x 4 := by
            have := p_row_at (w := w) (x := x) (u := u) (v := y :: r) (j := j) (k := 4) (by first | omega | (simp; omega)) (by omega) (by omega)
            simpa using this
          have t9 : p_row w (u ++ x :: y :: r) (6 + 10 * j + 9) = x 9 := by
            have := p_row_at (w := w) (x := x) (u := u) (v := y :: r) (j := j) (k := 9) (by first | omega | (simp; omega)) (by omega) (by omega)
            simpa using this
          rw [t0, t4, t9] at h4
          have cx : e_lp x := h4
          refine And.intro (fun h => absurd h (by decide)) (fun _ => ?_)
          refine And.intro (show -2147483648 ≤ j + 1 ∧ j + 1 ≤ 2147483647 by first | omega | (simp only [mS_iff, eq_self, Int.reduceEq, true_and, and_true, false_and, and_false, and_self, ↓reduceIte]; omega) | (simp only [mS_iff, eq_self, Int.reduceEq, true_and, and_true, false_and, and_false, and_self, ↓reduceIte] at *; omega)) ?_
          refine And.intro (rfl) ?_
          refine ct_217 (by omega) rl.row (by omega) (fun h5 => ?_) (fun h5 => ?_)
          · have t0 : p_row w (u ++ x :: y :: r) (6 + 10 * (j + 1) + 0) = y 0 := by
              have := p_row_at (w := w) (x := y) (u := u ++ [x]) (v := r) (j := (j + 1)) (k := 0) (by first | omega | (simp; omega)) (by omega) (by omega)
              simpa using this
            have t4 : p_row w (u ++ x :: y :: r) (6 + 10 * (j + 1) + 4) = y 4 := by
              have := p_row_at (w := w) (x := y) (u := u ++ [x]) (v := r) (j := (j + 1)) (k := 4) (by first | omega | (simp; omega)) (by omega) (by omega)
              simpa using this
            have t9 : p_row w (u ++ x :: y :: r) (6 + 10 * (j + 1) + 9) = y 9 := by
              have := p_row_at (w := w) (x := y) (u := u ++ [x]) (v := r) (j := (j + 1)) (k := 9) (by first | omega | (simp; omega)) (by omega) (by omega)
              simpa using this
            rw [t0, t4, t9] at h5
            have cy : e_lp y := h5
            refine And.intro (fun h => absurd h (by decide)) (fun _ => ?_)
            refine And.intro (rfl) ?_
            refine ct_188 (by omega) rl.row (by omega) (by omega) (fun v6 h7 => ?_)
            have t9 : p_row w (u ++ x :: y :: r) (6 + 10 * j + 9) = x 9 := by
              have := p_row_at (w := w) (x := x) (u := u) (v := y :: r) (j := j) (k := 9) (by first | omega | (simp; omega)) (by omega) (by omega)
              simpa using this
            rw [t9] at h7
            refine And.intro (show -2147483648 ≤ j + 1 ∧ j + 1 ≤ 2147483647 by first | omega | (simp only [mS_iff, eq_self, Int.reduceEq, true_and, and_true, false_and, and_false, and_self, ↓reduceIte]; omega) | (simp only [mS_iff, eq_self, Int.reduceEq, true_and, and_true, false_and, and_false, and_self, ↓reduceIte] at *; omega)) ?_
            refine And.intro (rfl) ?_
            refine ct_188 (by omega) rl.row (by omega) (by omega) (fun v8 h9 => ?_)
            have t9 : p_row w (u ++ x :: y :: r) (6 + 10 * (j + 1) + 9) = y 9 := by
              have := p_row_at (w := w) (x := y) (u := u ++ [x]) (v := r) (j := (j + 1)) (k := 9) (by first | omega | (simp; omega)) (by omega) (by omega)
              simpa using this
            rw [t9] at h9
            refine And.intro (fun h10 => ?_) (fun h10 => ?_)
            · refine And.intro (show -2147483648 ≤ j + 1 ∧ j + 1 ≤ 2147483647 by first | omega | (simp only [mS_iff, eq_self, Int.reduceEq, true_and, and_true, false_and, and_false, and_self, ↓reduceIte]; omega) | (simp only [mS_iff, eq_self, Int.reduceEq, true_and, and_true, false_and, and_false, and_self, ↓reduceIte] at *; omega)) ?_
              refine ih92 _ ?_ _ (u ++ [x]) (y :: r) _ _ _ (Eq.refl _) ?_ ?_ ?_ ?_
              · simp at hN; simp; omega
              · simp; omega
              · simpa using rl
              · exact fb
              · rw [← hT]
                show (u ++ [x]) ++ e_bub e_kl y r = u ++ e_bub e_kl x (y :: r)
                rw [e_bub_n (e_lgl_n (by first | exact fun z => cx z.1 | exact fun z => cy z.2.1 | exact fun z => by have := z.2.2; omega))]; simp
            · have sx : mSg mv (3306 + 10 * j) 10 x := by have := rl.2.2 u.length (by simp at hj; omega); rw [← hj.1] at this; simpa using this
              have sy : mSg mv (3316 + 10 * j) 10 y := by have := rl.2.2 (u.length + 1) (by simp at hj; omega); rw [show (3306 : Int) + 10 * ((u.length + 1 : Nat) : Int) = 3316 + 10 * j by omega] at this; simpa using this
              refine lp_216s (by omega) (by simp at hj; omega) sx sy (fun mx k3 k4 fz g1 g2 => ?_)
              refine am_go 400 [92, 150, 210] (am_wpc_cm _ _ _) wf_216 ?_
              refine And.intro (show -2147483648 ≤ j + 1 ∧ j + 1 ≤ 2147483647 by first | omega | (simp only [mS_iff, eq_self, Int.reduceEq, true_and, and_true, false_and, and_false, and_self, ↓reduceIte]; omega) | (simp only [mS_iff, eq_self, Int.reduceEq, true_and, and_true, false_and, and_false, and_self, ↓reduceIte] at *; omega)) ?_
              refine ih92 _ ?_ _ (u ++ [y]) (x :: r) _ _ _ (Eq.refl _) ?_ ?_ ?_ ?_
              · simp at hN; simp; omega
              · simp; omega
              · have := rl.sw hj.1 (by simp at hj; omega) fz g1 g2
                simpa using this
              · exact fb.trans (fz.wd (by omega) (by omega))
              · rw [← hT]
                show (u ++ [y]) ++ e_bub e_kl x r = u ++ e_bub e_kl x (y :: r)
                rw [e_bub_y (e_lgl_y cx cy (by omega))]; simp
          · have t0 : p_row w (u ++ x :: y :: r) (6 + 10 * (j + 1) + 0) = y 0 := by
              have := p_row_at (w := w) (x := y) (u := u ++ [x]) (v := r) (j := (j + 1)) (k := 0) (by first | omega | (simp; omega)) (by omega) (by omega)
              simpa using this
            have t4 : p_row w (u ++ x :: y :: r) (6 + 10 * (j + 1) + 4) = y 4 := by
              have := p_row_at (w := w) (x := y) (u := u ++ [x]) (v := r) (j := (j + 1)) (k := 4) (by first | omega | (simp; omega)) (by omega) (by omega)
              simpa using this
            have t9 : p_row w (u ++ x :: y :: r) (6 + 10 * (j + 1) + 9) = y 9 := by
              have := p_row_at (w := w) (x := y) (u := u ++ [x]) (v := r) (j := (j + 1)) (k := 9) (by first | omega | (simp; omega)) (by omega) (by omega)
              simpa using this
            rw [t0, t4, t9] at h5
            have cy : ¬ e_lp y := h5
            refine And.intro (fun _ => ?_) (fun h => absurd h (by decide))
            refine And.intro (show -2147483648 ≤ j + 1 ∧ j + 1 ≤ 2147483647 by first | omega | (simp only [mS_iff, eq_self, Int.reduceEq, true_and, and_true, false_and, and_false, and_self, ↓reduceIte]; omega) | (simp only [mS_iff, eq_self, Int.reduceEq, true_and, and_true, false_and, and_false, and_self, ↓reduceIte] at *; omega)) ?_
            refine ih92 _ ?_ _ (u ++ [x]) (y :: r) _ _ _ (Eq.refl _) ?_ ?_ ?_ ?_
            · simp at hN; simp; omega
            · simp; omega
            · simpa using rl
            · exact fb
            · rw [← hT]
              show (u ++ [x]) ++ e_bub e_kl y r = u ++ e_bub e_kl x (y :: r)
              rw [e_bub_n (e_lgl_n (by first | exact fun z => cx z.1 | exact fun z => cy z.2.1 | exact fun z => by have := z.2.2; omega))]; simp
        · have t0 : p_row w (u ++ x :: y :: r) (6 + 10 * j + 0) = x 0 := by
            have := p_row_at (w := w) (x := x) (u := u) (v := y :: r) (j := j) (k := 0) (by first | omega | (simp; omega)) (by omega) (by omega)
            simpa using this
          have t4 : p_row w (u ++ x :: y :: r) (6 + 10 * j + 4) = x 4 := by
            have := p_row_at (w := w) (x := x) (u := u) (v := y :: r) (j := j) (k := 4) (by first | omega | (simp; omega)) (by omega) (by omega)
            simpa using this
          have t9 : p_row w (u ++ x :: y :: r) (6 + 10 * j + 9) = x 9 := by
            have := p_row_at (w := w) (x := x) (u := u) (v := y :: r) (j := j) (k := 9) (by first | omega | (simp; omega)) (by omega) (by omega)
            simpa using this
          rw [t0, t4, t9] at h4
          have cx : ¬ e_lp x := h4
          refine And.intro (fun _ => ?_) (fun h => absurd h (by decide))
          refine And.intro (show -2147483648 ≤ j + 1 ∧ j + 1 ≤ 2147483647 by first | omega | (simp only [mS_iff, eq_self, Int.reduceEq, true_and, and_true, false_and, and_false, and_self, ↓reduceIte]; omega) | (simp only [mS_iff, eq_self, Int.reduceEq, true_and, and_true, false_and, and_false, and_self, ↓reduceIte] at *; omega)) ?_
          refine ih92 _ ?_ _ (u ++ [x]) (y :: r) _ _ _ (Eq.refl _) ?_ ?_ ?_ ?_
          · simp at hN; simp; omega
          · simp; omega
          · simpa using rl
          · exact fb
          · rw [← hT]
            show (u ++ [x]) ++ e_bub e_kl y r = u ++ e_bub e_kl x (y :: r)
            rw [e_bub_n (e_lgl_n (by first | exact fun z => cx z.1 | exact fun z => cy z.2.1 | exact fun z => by have := z.2.2; omega))]; simp
  refine am_go 400 [92, 150, 210] (am_wpc_cm _ _ _) wf_216 ?_
  refine K92 _ _ ([]) (L) _ _ _ (Eq.refl _) ?_ ?_ ?_ ?_
  · simp; omega
  · simpa using hL
  · exact fr_B.rfl _ _ _
  · simp
theorem ct_216 {d : Nat} {m : aM} {Q : aO → aM → Prop} {x w : Int → Int} {ls : List (Int → Int)} (hd : 3 ≤ d) (rd : mRd m x ls) (hn : ls.length ≤ 6) (h5 : m 42 3305 = (ls.length : Int)) (hraw : p_raw x w) (hk : ∀ l ∈ p_z ls, e_kl l ≤ 4) (hQ : ∀ m', fr_B 3300 3366 m m' → mRow m' 50 (p_row w (p_set ls)) → Q (.inl none) m') : am_wpc am_G am_T d 216 [aR 41] m Q := by
  have zl : (p_z ls).length = ls.length := by cases ls <;> rfl
  have e6 : e_bn e_kl 6 (p_z ls) = p_set ls := (e_same e_kl (p_z ls) (by omega) hk).symm
  have hQ2 : ∀ m', fr_B 3300 3366 m m' → mRL m' w (e_bn e_kl 6 (p_z ls)) → Q (.inl none) m' := fun m' a b => hQ m' a (by rw [← e6]; exact b.row)
  have r0 : mRL m x ls := ⟨rd.1, h5, rd.2⟩
  refine am_in rfl hd (fun d hd => ?_)
  have K84 : ∀ (Nm : Nat), ∀ (i : Int) (n : Nat) (Lc : List (Int → Int)) (z2 : aV) (z3 : aV) (z4 : aV), ∀ (mo : aM), (6 - i).toNat = Nm → (i = 6 - (n : Int) ∧ n ≤ 6 ∧ Lc.length ≤ 6) → (mRL mo w Lc) → (fr_B 3300 3366 m mo) → (e_bn e_kl n Lc = e_bn e_kl 6 (p_z ls)) → am_WP am_G (am_wpc am_G am_T d) [] cd_216 Q 84 [aR 41, aI i, z2, z3, z4] [] mo := by
    intro Nm
    induction Nm using Nat.strongRecOn with
    | _ Nm ih84 =>
      intro i n Lc z2 z3 z4 mo hN hi rl fb hT
      refine am_go 400 [84, 63, 90] (am_wpc_cm _ _ _) wf_216 ?_
      refine And.intro (fun h1 => ?_) (fun h1 => ?_)
      · exact hQ2 _ fb (by rw [show n = 0 by omega] at hT; rw [← hT]; exact rl)
      · obtain ⟨n', en⟩ : ∃ k, n = k + 1 := ⟨n - 1, by omega⟩
        subst en
        refine lp_216p (by omega) rl hi.2.2 (fun mp y2 y3 y4 f2 rl => ?_)
        have fb := fb.trans f2
        refine am_go 400 [84, 63, 90] (am_wpc_cm _ _ _) wf_216 ?_
        refine And.intro (show -2147483648 ≤ i + 1 ∧ i + 1 ≤ 2147483647 by first | omega | (simp only [mS_iff, eq_self, Int.reduceEq, true_and, and_true, false_and, and_false, and_self, ↓reduceIte]; omega) | (simp only [mS_iff, eq_self, Int.reduceEq, true_and, and_true, false_and, and_false, and_self, ↓reduceIte] at *; omega)) ?_
        refine ih84 _ ?_ _ (n') (e_b1 e_kl Lc) _ _ _ _ (Eq.refl _) ?_ ?_ ?_ ?_
        · omega
        · simp [e_b1_len]; omega
        · exact rl
        · exact fb
        · exact hT
  have K63 : ∀ (mv : aM), (mRL mv w ls) → (fr_B 3300 3366 m mv) → am_WP am_G (am_wpc am_G am_T d) [] cd_216 Q 63 [aR 41, aU, aU, aU, aU] [] mv := by
    intro mv rl fb
    refine am_go 400 [84, 63, 90] (am_wpc_cm _ _ _) wf_216 ?_
    refine And.intro (rfl) ?_
    refine ct_186 (by omega) rl.row (by omega) (fun v2 h3 => ?_)
    rw [p_row_5] at h3
    refine And.intro (fun h4 => ?_) (fun h4 => ?_)
    · have hl0 : ls = [] := List.length_eq_zero_iff.mp (by omega)
      have rz : mRL mv w (p_z ls) := by rw [hl0] at rl ⊢; exact rl
      have fz := fb
      refine K84 _ _ (6) (p_z ls) _ _ _ _ (Eq.refl _) ?_ ?_ ?_ ?_
      · simp; omega
      · exact rz
      · exact fz
      · exact rfl
    · refine And.intro (rfl) ?_
      refine ct_184 (by omega) (by omega) (by omega) (fun ma ea => ?_)
      have rz : mRL ma w (p_z ls) := by
        obtain ⟨r1, r2, r3⟩ := rl
        refine ⟨fun j a b => by rw [ea, mS_iff, if_neg (by omega)]; exact r1 j a b, by rw [ea, mS_iff, if_neg (by omega), zl]; exact r2, fun k hk j a b => ?_⟩
        have := r3 k hk j a b
        cases ls with
        | nil => simp at *; omega
        | cons l0 lt =>
          cases k with
          | zero =>
            rw [ea, mS_iff]
            by_cases e : j = 0
            · rw [if_pos ⟨rfl, by omega⟩, e]; rfl
            · rw [if_neg (by omega), this]
              show l0 j = (if j = 0 then 0 else l0 j)
              rw [if_neg e]
          | succ k => rw [ea, mS_iff, if_neg (by omega), this]; rfl
      have fz : fr_B 3300 3366 m ma := by rw [ea]; exact fb.p (by omega)
      refine K84 _ _ (6) (p_z ls) _ _ _ _ (Eq.refl _) ?_ ?_ ?_ ?_
      · simp; omega
      · exact rz
      · exact fz
      · exact rfl
  refine am_go 400 [84, 63, 90] (am_wpc_cm _ _ _) wf_216 ?_
  refine And.intro (rfl) ?_
  refine ct_186 (by omega) r0.row (by omega) (fun v5 h6 => ?_)
  rw [p_row_f (by omega)] at h6
  refine And.intro (fun h7 => ?_) (fun h7 => ?_)
  · refine K63 _ ?_ ?_
    · exact r0.f (fun k a b => by rw [hraw k a b, if_neg (by omega)])
    · exact fr_B.rfl _ _ _
  · refine And.intro (rfl) ?_
    refine ct_186 (by omega) r0.row (by omega) (fun v8 h9 => ?_)
    rw [p_row_f (by omega)] at h9
    refine And.intro (rfl) ?_
    refine ct_186 (by omega) r0.row (by omega) (fun v10 h11 => ?_)
    rw [p_row_f (by omega)] at h11
    refine And.intro (fun h12 => ?_) (fun h12 => ?_)
    · refine K63 _ ?_ ?_
      · exact r0.f (fun k a b => by rw [hraw k a b, if_neg (by omega)])
      · exact fr_B.rfl _ _ _
    · refine And.intro (rfl) ?_
      refine And.intro (⟨rfl, by first | omega | (simp only [mS_iff, eq_self, Int.reduceEq, true_and, and_true, false_and, and_false, and_self, ↓reduceIte]; omega) | (simp only [mS_iff, eq_self, Int.reduceEq, true_and, and_true, false_and, and_false, and_self, ↓reduceIte] at *; omega)⟩) ?_
      refine And.intro (rfl) ?_
      refine And.intro (⟨rfl, by first | omega | (simp only [mS_iff, eq_self, Int.reduceEq, true_and, and_true, false_and, and_false, and_self, ↓reduceIte]; omega) | (simp only [mS_iff, eq_self, Int.reduceEq, true_and, and_true, false_and, and_false, and_self, ↓reduceIte] at *; omega)⟩) ?_
      refine And.intro (rfl) ?_
      refine And.intro (⟨rfl, by first | omega | (simp only [mS_iff, eq_self, Int.reduceEq, true_and, and_true, false_and, and_false, and_self, ↓reduceIte]; omega) | (simp only [mS_iff, eq_self, Int.reduceEq, true_and, and_true, false_and, and_false, and_self, ↓reduceIte] at *; omega)⟩) ?_
      refine And.intro (rfl) ?_
      refine And.intro (⟨rfl, by first | omega | (simp only [mS_iff, eq_self, Int.reduceEq, true_and, and_true, false_and, and_false, and_self, ↓reduceIte]; omega) | (simp only [mS_iff, eq_self, Int.reduceEq, true_and, and_true, false_and, and_false, and_self, ↓reduceIte] at *; omega)⟩) ?_
      refine K63 _ ?_ ?_
      · refine ⟨fun j a b => ?_, by rw [mS_iff, if_neg (by omega), mS_iff, if_neg (by omega), mS_iff, if_neg (by omega), mS_iff, if_neg (by omega)]; exact h5, fun k hk j a b => ?_⟩
        · rw [hraw j a b, if_pos (by omega)]
          have := rd.1 j a b
          have hj : j = 0 ∨ j = 1 ∨ j = 2 ∨ j = 3 ∨ j = 4 := by omega
          rcases hj with rfl | rfl | rfl | rfl | rfl
          · rfl
          · rfl
          · rfl
          · exact this
          · rfl
        · rw [mS_iff, if_neg (by omega), mS_iff, if_neg (by omega), mS_iff, if_neg (by omega), mS_iff, if_neg (by omega)]; exact rd.2 k hk j a b
      · exact (((fr_B.rfl _ _ m).p (by omega)).p (by omega)).p (by omega) |>.p (by omega)
