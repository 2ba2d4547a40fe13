/-! needs: 86 -/
/-! CONTRACTS: writing of the reference; by tools/gen87.py -/
set_option maxRecDepth 100000
/-- a word as a number by 27 -/
def s_vl (l : List Int) : Int := l.foldl (fun a b => 27 * a + (b - 96)) 0
def s_cd (w : Int) : Int := s_vl (s_wb w)
def s_p (i : Nat) : Int := 27 ^ i
theorem s_pw_s (i : Nat) : s_p (i + 1) = 27 * s_p i := by unfold s_p; rw [Int.pow_succ, Int.mul_comm]
theorem s_pw_b : ∀ i : Nat, i < 10 → 1 ≤ s_p i ∧ s_p i ≤ 7625597484987 * 27 := by decide +kernel
theorem s_dg : ∀ w : Nat, w < 67 → (1 ≤ s_vl (st_by.getD w []) ∧ s_vl (st_by.getD w []) ≤ 7625597484987) ∧ ∀ i : Nat, i < 9 → (i < (st_by.getD w []).length → s_vl (st_by.getD w []) / s_p i % 27 + 96 = (st_by.getD w []).getD ((st_by.getD w []).length - 1 - i) 0) ∧ (i + 1 < (st_by.getD w []).length → 27 ≤ s_vl (st_by.getD w []) / s_p i) ∧ (i + 1 = (st_by.getD w []).length → s_vl (st_by.getD w []) / s_p i < 27) := by decide +kernel
theorem s_dgi {w : Int} (h : 0 ≤ w ∧ w < 67) : (1 ≤ s_cd w ∧ s_cd w ≤ 7625597484987) ∧ ∀ i : Nat, i < 9 → (i < (s_wb w).length → s_cd w / s_p i % 27 + 96 = (s_wb w).getD ((s_wb w).length - 1 - i) 0) ∧ (i + 1 < (s_wb w).length → 27 ≤ s_cd w / s_p i) ∧ (i + 1 = (s_wb w).length → s_cd w / s_p i < 27) := s_dg w.toNat (by omega)
def mOut (m : aM) (l : List Int) : Prop := m 41 5 = l.length ∧ ∀ j : Nat, j < l.length → m 44 j = l.getD j 0
def fr_V (m m' : aM) : Prop := ∀ r j, r ≠ 44 → (r ≠ 41 ∨ j ≠ 5) → m' r j = m r j
theorem fr_V.trans {a b c : aM} (h : fr_V a b) (g : fr_V b c) : fr_V a c := fun r j x y => (g r j x y).trans (h r j x y)
theorem fr_V.rfl (m : aM) : fr_V m m := fun _ _ _ _ => Eq.refl _
theorem fr_V.row {m m' : aM} (h : fr_V m m') {a : Int} {w : Int → Int} (g : mRow m a w) : mRow m' a w := g.keep (fun j => h 42 j (by omega) (by omega))
/-- the words of the reference -/
def mWd (m : aM) : Prop := (∀ k, 0 ≤ k → k < 9 → m 45 k = s_cd k) ∧ (∀ k, 0 ≤ k → k < 12 → m 46 k = s_cd (9 + k)) ∧ (∀ k, 1 ≤ k → k < 5 → m 47 k = s_cd (21 + k - 1)) ∧ (∀ k, 0 ≤ k → k < 8 → m 48 k = s_cd (25 + k)) ∧ (∀ k, 1 ≤ k → k < 5 → m 49 k = s_cd (if k = 1 then 31 else 48 + k - 2)) ∧ (∀ k, 0 ≤ k → k < 10 → m 50 k = s_cd (55 + k)) ∧ m 47 0 = 0 ∧ m 49 0 = 0
theorem mWd.keep {m m' : aM} (h : mWd m) (e : ∀ r j, 45 ≤ r → r ≤ 50 → m' r j = m r j) : mWd m' := by
  obtain ⟨h1, h2, h3, h4, h5, h6, h7, h8⟩ := h
  exact ⟨fun k a b => by rw [e _ _ (by omega) (by omega)]; exact h1 k a b, fun k a b => by rw [e _ _ (by omega) (by omega)]; exact h2 k a b, fun k a b => by rw [e _ _ (by omega) (by omega)]; exact h3 k a b, fun k a b => by rw [e _ _ (by omega) (by omega)]; exact h4 k a b, fun k a b => by rw [e _ _ (by omega) (by omega)]; exact h5 k a b, fun k a b => by rw [e _ _ (by omega) (by omega)]; exact h6 k a b, by rw [e _ _ (by omega) (by omega)]; exact h7, by rw [e _ _ (by omega) (by omega)]; exact h8⟩
theorem fr_V.Wd {m m' : aM} (h : fr_V m m') (g : mWd m) : mWd m' := g.keep (fun r j a b => h r j (by omega) (by omega))
theorem ct_229 {d : Nat} {m : aM} {Q : aO → aM → Prop} {b : Int} {l : List Int} (hd : 1 ≤ d) (hO : mOut m l) (hl : l.length < 2000) (hQ : ∀ m', fr_V m m' → mOut m' (l ++ [b]) → Q (.inl none) m') : am_wpc am_G am_T d 229 [aR 41, aI b] m Q := by
  have h0 := hO.1
  refine am_in rfl hd (fun d hd => ?_)
  refine am_go 400 [] (am_wpc_cm _ _ _) wf_229 ?_
  refine And.intro (rfl) ?_
  refine And.intro (rfl) ?_
  refine And.intro (⟨rfl, by first | omega | (simp only [mS_iff, eq_self, Int.reduceEq, true_and, and_true, false_and, and_false, and_self, ↓reduceIte]; omega) | (simp only [mS_iff, eq_self, Int.reduceEq, true_and, and_true, false_and, and_false, and_self, ↓reduceIte] at *; omega)⟩) ?_
  refine And.intro (rfl) ?_
  refine And.intro (show -2147483648 ≤ (m 41 5) + 1 ∧ (m 41 5) + 1 ≤ 2147483647 by first | omega | (simp only [mS_iff, eq_self, Int.reduceEq, true_and, and_true, false_and, and_false, and_self, ↓reduceIte]; omega) | (simp only [mS_iff, eq_self, Int.reduceEq, true_and, and_true, false_and, and_false, and_self, ↓reduceIte] at *; omega)) ?_
  refine And.intro (rfl) ?_
  refine hQ _ (fun r j a b => by rw [mS_iff, if_neg (by omega), mS_iff, if_neg (by omega)]) ⟨?_, fun j hj => ?_⟩
  · rw [List.length_append, List.length_singleton]
    show m 41 5 + 1 = _
    omega
  · rw [q_app_at hj]
    rw [List.length_append, List.length_singleton] at hj
    rw [mS_a _ _ _ _ (by omega), mS_iff]
    by_cases e : j < l.length
    · rw [if_pos e, if_neg (by omega)]; exact hO.2 j e
    · rw [if_neg e, if_pos (by omega)]
theorem ct_228 {d : Nat} {m : aM} {Q : aO → aM → Prop} {w v : Int} {l : List Int} (e : v = s_cd w) (hd : 2 ≤ d) (hw : 0 ≤ w ∧ w < 67) (hO : mOut m l) (hl : l.length + 10 ≤ 2000) (hQ : ∀ m', fr_V m m' → mOut m' (o_w l w) → Q (.inl none) m') : am_wpc am_G am_T d 228 [aR 41, aL v] m Q := by
  have h0 := hO.1
  have wl := s_wb_b hw
  obtain ⟨vb, dg⟩ := s_dgi hw
  rw [← e] at vb dg
  refine am_in rfl hd (fun d hd => ?_)
  have K34 : ∀ (N : Nat), ∀ (q : Nat) (t : Int), ∀ (m2 : aM), ((q : Int)).toNat = N → (q ≤ (s_wb w).length ∧ t = (if q = 0 then 0 else s_p (q - 1))) → (fr_V m m2) → (mOut m2 (l ++ (if l.length = 0 then [] else [32]) ++ (s_wb w).take ((s_wb w).length - q))) → am_WP am_G (am_wpc am_G am_T d) [] cd_228 Q 34 [aR 41, aL v, aU, aL t, aU] [] m2 := by
    intro N
    induction N using Nat.strongRecOn with
    | _ N ih34 =>
      intro q t m2 hN i0 fr ho
      refine am_go 400 [34, 15] (am_wpc_cm _ _ _) wf_228 ?_
      refine And.intro (fun h1 => ?_) (fun h1 => ?_)
      · replace h1 := am_lc_le.mp h1
        have q0 : q = 0 := by
          by_cases z : q = 0
          · exact z
          · rw [if_neg z] at i0
            have pb := s_pw_b (q - 1) (by omega)
            omega
        exact hQ _ fr (by rw [q0, Nat.sub_zero, List.take_length] at ho; exact ho)
      · replace h1 := am_lc_gt.mp h1
        have q0 : q ≠ 0 := by intro z; rw [z] at i0; simp at i0; omega
        have i1 : t = s_p (q - 1) := by rw [if_neg q0] at i0; exact i0.2
        have pb := s_pw_b (q - 1) (by omega)
        have dg1 := (dg (q - 1) (by omega)).1 (by omega)
        rw [← i1] at dg1
        have d1 : 0 ≤ v / t := Int.ediv_nonneg (by omega) (by omega)
        have d2 : v / t ≤ v := Int.ediv_le_self t (by omega)
        have eb : am_l2i (am_lrem (am_ldiv v t) 27) + 96 = (s_wb w).getD ((s_wb w).length - q) 0 := by
          rw [am_ldiv_eq (by omega) (by omega), am_lrem_eq (by omega) (by omega), am_l2i_eq (by omega), dg1, show (s_wb w).length - 1 - (q - 1) = (s_wb w).length - q by omega]
        have el : am_l2i (am_lrem (am_ldiv v t) 27) = v / t % 27 := by rw [am_ldiv_eq (by omega) (by omega), am_lrem_eq (by omega) (by omega), am_l2i_eq (by omega)]
        refine And.intro (fun _ => ?_) (fun h => absurd h (by omega))
        refine And.intro (show 27 ≠ 0 by first | omega | (simp only [mS_iff, eq_self, Int.reduceEq, true_and, and_true, false_and, and_false, and_self, ↓reduceIte]; omega) | (simp only [mS_iff, eq_self, Int.reduceEq, true_and, and_true, false_and, and_false, and_self, ↓reduceIte] at *; omega)) ?_
        refine And.intro (show -2147483648 ≤ (am_l2i (am_lrem (am_ldiv v t) 27)) + 96 ∧ (am_l2i (am_lrem (am_ldiv v t) 27)) + 96 ≤ 2147483647 by first | omega | (simp only [mS_iff, eq_self, Int.reduceEq, true_and, and_true, false_and, and_false, and_self, ↓reduceIte]; omega) | (simp only [mS_iff, eq_self, Int.reduceEq, true_and, and_true, false_and, and_false, and_self, ↓reduceIte] at *; omega)) ?_
        refine And.intro (rfl) ?_
        refine ct_229 (by omega) ho (by rw [List.length_append, List.length_append, List.length_take]; split <;> simp <;> omega) (fun mw2 h3 h4 => ?_)
        have fz := h3
        have oz := h4
        refine And.intro (fun _ => ?_) (fun h => absurd h (by omega))
        refine ih34 _ ?_ (q - 1) _ _ (Eq.refl _) ?_ ?_ ?_
        · omega
        · exact ⟨by omega, by
            rw [am_ldiv_eq (by omega) (by omega)]
            by_cases z : q = 1
            · subst z; rw [if_pos rfl]; rw [if_neg (by omega)] at i0; rw [i0.2]; rfl
            · rw [if_neg (by omega)]; rw [if_neg (by omega)] at i0; have hq : s_p (q - 1) = 27 * s_p (q - 1 - 1) := by rw [← s_pw_s]; congr 1; omega
              rw [i0.2, hq]; omega⟩
        · exact fr.trans fz
        · have tk := q_take_s (l := s_wb w) (k := ((s_wb w).length - q : Nat)) (by omega) (by omega)
          rw [show (((s_wb w).length - q : Nat) + 1 : Int).toNat = (s_wb w).length - (q - 1) by omega, show (((s_wb w).length - q : Nat) : Int).toNat = (s_wb w).length - q by omega] at tk
          rw [tk, ← List.append_assoc, ← eb]
          exact oz
  have K15 : ∀ (N : Nat), ∀ (i : Nat) (t : Int), ∀ (m2 : aM), (((s_wb w).length : Int) - i).toNat = N → (i + 1 ≤ (s_wb w).length ∧ t = s_p i) → (fr_V m m2) → (mOut m2 (l ++ (if l.length = 0 then [] else [32]))) → am_WP am_G (am_wpc am_G am_T d) [] cd_228 Q 15 [aR 41, aL v, aU, aL t, aU] [] m2 := by
    intro N
    induction N using Nat.strongRecOn with
    | _ N ih15 =>
      intro i t m2 hN i0 fr ho
      have pb := s_pw_b i (by omega)
      have ed : am_ldiv v t = v / t := am_ldiv_eq (by omega) (by omega)
      have dg1 := dg i (by omega)
      rw [← i0.2] at dg1
      refine am_go 400 [34, 15] (am_wpc_cm _ _ _) wf_228 ?_
      refine And.intro (fun _ => ?_) (fun h => absurd h (by omega))
      refine And.intro (fun h5 => ?_) (fun h5 => ?_)
      · replace h5 := am_lc_lt.mp h5
        refine K34 _ ((s_wb w).length) _ _ (Eq.refl _) ?_ ?_ ?_
        · exact ⟨Nat.le_refl _, by rw [if_neg (by omega), i0.2, show i = (s_wb w).length - 1 by omega]⟩
        · exact fr
        · rw [Nat.sub_self, List.take_zero, List.append_nil]; exact ho
      · replace h5 := am_lc_ge.mp h5
        rw [ed] at h5
        refine ih15 _ ?_ (i + 1) _ _ (Eq.refl _) ?_ ?_ ?_
        · omega
        · exact ⟨by have := (dg i (by omega)).2.2; omega, by rw [am_lmul_eq (by omega) (by omega) (by omega), i0.2, s_pw_s, Int.mul_comm]⟩
        · exact fr
        · exact ho
  refine am_go 400 [34, 15] (am_wpc_cm _ _ _) wf_228 ?_
  refine And.intro (rfl) ?_
  refine And.intro (fun h6 => ?_) (fun h6 => ?_)
  · refine K15 _ (0) _ _ (Eq.refl _) ?_ ?_ ?_
    · exact ⟨by omega, rfl⟩
    · exact fr_V.rfl m
    · rw [if_pos (by omega), List.append_nil]; exact hO
  · refine And.intro (rfl) ?_
    refine ct_229 (by omega) hO (by omega) (fun mw7 h8 h9 => ?_)
    have fz := h8
    have oz := h9
    refine K15 _ (0) _ _ (Eq.refl _) ?_ ?_ ?_
    · exact ⟨by omega, rfl⟩
    · exact fz
    · rw [if_neg (by omega)]; exact oz
theorem ct_230 {d : Nat} {m : aM} {Q : aO → aM → Prop} {n n' : Int} {l : List Int} (e : n' = n) (hd : 3 ≤ d) (hW : mWd m) (hO : mOut m l) (hn : 0 ≤ n ∧ n ≤ 2) (hl : l.length + 10 ≤ 2000) (hQ : ∀ m', fr_V m m' → mOut m' (o_ln l n) → Q (.inl none) m') : am_wpc am_G am_T d 230 [aR 41, aI n'] m Q := by
  subst e
  have fr := fr_V.rfl m
  refine am_in rfl hd (fun d hd => ?_)
  refine am_go 400 [] (am_wpc_cm _ _ _) wf_230 ?_
  refine And.intro (fun h1 => ?_) (fun h1 => ?_)
  · exact hQ _ fr (by unfold o_ln; first | (rw [if_pos (by omega)]; exact hO) | (rw [if_neg (by omega)]; exact hO))
  · refine And.intro (fun h2 => ?_) (fun h2 => ?_)
    · refine And.intro (rfl) ?_
      refine ct_228 (w := 41 + n' - 1) (l := l) (by rw [show 41 + n' - 1 = 42 by omega]; decide) (by omega) (by omega) hO (by omega) (fun mw3 h4 h5 => ?_)
      have fr := fr.trans h4
      have hW := h4.Wd hW
      have hO := h5
      have h6 := o_w_a (l := l) (w := 41 + n' - 1) (by omega)
      skip
      exact hQ _ fr (by unfold o_ln; first | (rw [if_pos (by omega)]; exact hO) | (rw [if_neg (by omega)]; exact hO))
    · refine And.intro (rfl) ?_
      refine ct_228 (w := 41 + n' - 1) (l := l) (by rw [show 41 + n' - 1 = 41 by omega]; decide) (by omega) (by omega) hO (by omega) (fun mw7 h8 h9 => ?_)
      have fr := fr.trans h8
      have hW := h8.Wd hW
      have hO := h9
      have h10 := o_w_a (l := l) (w := 41 + n' - 1) (by omega)
      skip
      exact hQ _ fr (by unfold o_ln; first | (rw [if_pos (by omega)]; exact hO) | (rw [if_neg (by omega)]; exact hO))
theorem ct_231 {d : Nat} {m : aM} {Q : aO → aM → Prop} {n n' : Int} {l : List Int} (e : n' = n) (hd : 2 ≤ d) (hW : mWd m) (hO : mOut m l) (hn : 0 ≤ n ∧ n ≤ 99) (hl : l.length + 3 ≤ 2000) (hQ : ∀ m', fr_V m m' → mOut m' (o_n l n) → Q (.inl none) m') : am_wpc am_G am_T d 231 [aR 41, aI n'] m Q := by
  subst e
  have fr := fr_V.rfl m
  have t1 := Int.tdiv_eq_ediv_of_nonneg (b := 10) hn.1
  have t2 := Int.tmod_eq_emod_of_nonneg (b := 10) hn.1
  refine am_in rfl hd (fun d hd => ?_)
  refine am_go 400 [] (am_wpc_cm _ _ _) wf_231 ?_
  refine And.intro (rfl) ?_
  refine ct_229 (b := _) (l := l) (by omega) hO (by omega) (fun mw1 h2 h3 => ?_)
  have fr := fr.trans h2
  have hO := h3
  have h4 : (l ++ [32]).length = (l).length + 1 := List.length_append
  refine And.intro (fun h5 => ?_) (fun h5 => ?_)
  · refine And.intro (show 0 < 10 by first | omega | (simp only [mS_iff, eq_self, Int.reduceEq, true_and, and_true, false_and, and_false, and_self, ↓reduceIte]; omega) | (simp only [mS_iff, eq_self, Int.reduceEq, true_and, and_true, false_and, and_false, and_self, ↓reduceIte] at *; omega)) ?_
    refine And.intro (show -2147483648 ≤ 48 + (n'.tmod 10) ∧ 48 + (n'.tmod 10) ≤ 2147483647 by first | omega | (simp only [mS_iff, eq_self, Int.reduceEq, true_and, and_true, false_and, and_false, and_self, ↓reduceIte]; omega) | (simp only [mS_iff, eq_self, Int.reduceEq, true_and, and_true, false_and, and_false, and_self, ↓reduceIte] at *; omega)) ?_
    refine And.intro (rfl) ?_
    refine ct_229 (b := _) (l := (l ++ [32])) (by omega) hO (by omega) (fun mw6 h7 h8 => ?_)
    have fr := fr.trans h7
    have hO := h8
    rw [t2] at hO
    have h9 : ((l ++ [32]) ++ [48 + n' % 10]).length = ((l ++ [32])).length + 1 := List.length_append
    exact hQ _ fr (by unfold o_n; first | (rw [if_pos (by omega)]; exact hO) | (rw [if_neg (by omega), List.append_nil]; exact hO))
  · refine And.intro (show 0 < 10 by first | omega | (simp only [mS_iff, eq_self, Int.reduceEq, true_and, and_true, false_and, and_false, and_self, ↓reduceIte]; omega) | (simp only [mS_iff, eq_self, Int.reduceEq, true_and, and_true, false_and, and_false, and_self, ↓reduceIte] at *; omega)) ?_
    refine And.intro (show -2147483648 ≤ 48 + (n'.tdiv 10) ∧ 48 + (n'.tdiv 10) ≤ 2147483647 by first | omega | (simp only [mS_iff, eq_self, Int.reduceEq, true_and, and_true, false_and, and_false, and_self, ↓reduceIte]; omega) | (simp only [mS_iff, eq_self, Int.reduceEq, true_and, and_true, false_and, and_false, and_self, ↓reduceIte] at *; omega)) ?_
    refine And.intro (rfl) ?_
    refine ct_229 (b := _) (l := (l ++ [32])) (by omega) hO (by omega) (fun mw10 h11 h12 => ?_)
    have fr := fr.trans h11
    have hO := h12
    rw [t1] at hO
    have h13 : ((l ++ [32]) ++ [48 + n' / 10]).length = ((l ++ [32])).length + 1 := List.length_append
    refine And.intro (show 0 < 10 by first | omega | (simp only [mS_iff, eq_self, Int.reduceEq, true_and, and_true, false_and, and_false, and_self, ↓reduceIte]; omega) | (simp only [mS_iff, eq_self, Int.reduceEq, true_and, and_true, false_and, and_false, and_self, ↓reduceIte] at *; omega)) ?_
    refine And.intro (show -2147483648 ≤ 48 + (n'.tmod 10) ∧ 48 + (n'.tmod 10) ≤ 2147483647 by first | omega | (simp only [mS_iff, eq_self, Int.reduceEq, true_and, and_true, false_and, and_false, and_self, ↓reduceIte]; omega) | (simp only [mS_iff, eq_self, Int.reduceEq, true_and, and_true, false_and, and_false, and_self, ↓reduceIte] at *; omega)) ?_
    refine And.intro (rfl) ?_
    refine ct_229 (b := _) (l := ((l ++ [32]) ++ [48 + n' / 10])) (by omega) hO (by omega) (fun mw14 h15 h16 => ?_)
    have fr := fr.trans h15
    have hO := h16
    rw [t2] at hO
    have h17 : (((l ++ [32]) ++ [48 + n' / 10]) ++ [48 + n' % 10]).length = (((l ++ [32]) ++ [48 + n' / 10])).length + 1 := List.length_append
    exact hQ _ fr (by unfold o_n; first | (rw [if_pos (by omega)]; exact hO) | (rw [if_neg (by omega), List.append_nil]; exact hO))
theorem ct_232 {d : Nat} {m : aM} {Q : aO → aM → Prop} {a y : Int} {w : Int → Int} {l : List Int} (hd : 4 ≤ d) (hW : mWd m) (hO : mOut m l) (hR : mRow m a w) (hy : 0 ≤ y ∧ y < 6) (hk : okGrp w (6 + 10 * y)) (hl : l.length + 40 ≤ 2000) (hQ : ∀ m', fr_V m m' → mOut m' (o_grp w (6 + 10 * y) l) → Q (.inl none) m') : am_wpc am_G am_T d 232 [aR 41, aI a, aI y] m Q := by
  have fr := fr_V.rfl m
  have hA := hR
  have hW0 := hW
  obtain ⟨k1, k2, k3, k4, k5, k6, k7, k8, k9, k10, k11, k12, k13⟩ := hk
  refine am_in rfl hd (fun d hd => ?_)
  have K81 : ∀ (t : Int), ∀ (m3 : aM), (fr_V m m3) → (mOut m3 (o_at (o_w (o_nb l (w (6 + 10 * y + 5))) (9 + w (6 + 10 * y + 6))) (w (6 + 10 * y + 6)) (w (6 + 10 * y + 7)))) → am_WP am_G (am_wpc am_G am_T d) [] cd_232 Q 81 [aR 41, aI a, aI y, aI t] [] m3 := by
    intro t m3 fr hO
    have hW := fr.Wd hW0
    have hA := fr.row hR
    have n1 := o_nb_l (l := l) (n := w (6 + 10 * y + 5))
    have n2 := o_w_a (l := (o_nb l (w (6 + 10 * y + 5)))) (w := 9 + w (6 + 10 * y + 6)) (by omega)
    have n3 := o_at_l (l := (o_w (o_nb l (w (6 + 10 * y + 5))) (9 + w (6 + 10 * y + 6)))) (t := w (6 + 10 * y + 6)) (a := w (6 + 10 * y + 7)) (by omega)
    refine am_go 400 [81, 30] (am_wpc_cm _ _ _) wf_232 ?_
    refine And.intro (rfl) ?_
    refine And.intro (rfl) ?_
    refine ct_188 (by omega) hA (by omega) (by omega) (fun v1 h2 => ?_)
    replace h2 : v1 = w (6 + 10 * y + 8) := h2
    refine And.intro (⟨rfl, by first | omega | (simp only [mS_iff, eq_self, Int.reduceEq, true_and, and_true, false_and, and_false, and_self, ↓reduceIte]; omega) | (simp only [mS_iff, eq_self, Int.reduceEq, true_and, and_true, false_and, and_false, and_self, ↓reduceIte] at *; omega)⟩) ?_
    refine And.intro (rfl) ?_
    refine ct_228 (w := w (6 + 10 * y + 8)) (l := (o_at (o_w (o_nb l (w (6 + 10 * y + 5))) (9 + w (6 + 10 * y + 6))) (w (6 + 10 * y + 6)) (w (6 + 10 * y + 7)))) (by rw [h2]; exact hW.1 (w (6 + 10 * y + 8)) (by omega) (by omega)) (by omega) (by omega) hO (by omega) (fun mw3 h4 h5 => ?_)
    have fr := fr.trans h4
    have hW := h4.Wd hW
    have hO := h5
    have h6 := o_w_a (l := (o_at (o_w (o_nb l (w (6 + 10 * y + 5))) (9 + w (6 + 10 * y + 6))) (w (6 + 10 * y + 6)) (w (6 + 10 * y + 7)))) (w := w (6 + 10 * y + 8)) (by omega)
    have hA := h4.row hA
    exact hQ _ fr hO
  have K30 : ∀ (m3 : aM), (fr_V m m3) → (mOut m3 (o_nb l (w (6 + 10 * y + 5)))) → am_WP am_G (am_wpc am_G am_T d) [] cd_232 Q 30 [aR 41, aI a, aI y, aU] [] m3 := by
    intro m3 fr hO
    have hW := fr.Wd hW0
    have hA := fr.row hR
    have n1 := o_nb_l (l := l) (n := w (6 + 10 * y + 5))
    refine am_go 400 [81, 30] (am_wpc_cm _ _ _) wf_232 ?_
    refine And.intro (rfl) ?_
    refine ct_188 (by omega) hA (by omega) (by omega) (fun v7 h8 => ?_)
    replace h8 : v7 = w (6 + 10 * y + 6) := h8
    refine And.intro (rfl) ?_
    refine And.intro (⟨rfl, by first | omega | (simp only [mS_iff, eq_self, Int.reduceEq, true_and, and_true, false_and, and_false, and_self, ↓reduceIte]; omega) | (simp only [mS_iff, eq_self, Int.reduceEq, true_and, and_true, false_and, and_false, and_self, ↓reduceIte] at *; omega)⟩) ?_
    refine And.intro (rfl) ?_
    refine ct_228 (w := 9 + w (6 + 10 * y + 6)) (l := (o_nb l (w (6 + 10 * y + 5)))) (by rw [h8]; exact hW.2.1 (w (6 + 10 * y + 6)) (by omega) (by omega)) (by omega) (by omega) hO (by omega) (fun mw9 h10 h11 => ?_)
    have fr := fr.trans h10
    have hW := h10.Wd hW
    have hO := h11
    have h12 := o_w_a (l := (o_nb l (w (6 + 10 * y + 5)))) (w := 9 + w (6 + 10 * y + 6)) (by omega)
    have hA := h10.row hA
    refine And.intro (rfl) ?_
    refine ct_188 (by omega) hA (by omega) (by omega) (fun v13 h14 => ?_)
    replace h14 : v13 = w (6 + 10 * y + 7) := h14
    refine ct_212 (by omega) (fun v15 h16 => ?_)
    rw [h8] at h16
    refine And.intro (fun h17 => ?_) (fun h17 => ?_)
    · refine K81 _ _ ?_ ?_
      · exact fr
      · unfold o_at; first | (rw [if_pos (by omega)]; exact hO) | (rw [if_neg (by omega)]; exact hO)
    · refine And.intro (rfl) ?_
      refine And.intro (rfl) ?_
      refine ct_188 (by omega) hA (by omega) (by omega) (fun v18 h19 => ?_)
      replace h19 : v18 = w (6 + 10 * y + 7) := h19
      refine And.intro (⟨rfl, by first | omega | (simp only [mS_iff, eq_self, Int.reduceEq, true_and, and_true, false_and, and_false, and_self, ↓reduceIte]; omega) | (simp only [mS_iff, eq_self, Int.reduceEq, true_and, and_true, false_and, and_false, and_self, ↓reduceIte] at *; omega)⟩) ?_
      refine And.intro (rfl) ?_
      refine ct_228 (w := 21 + w (6 + 10 * y + 7) - 1) (l := (o_w (o_nb l (w (6 + 10 * y + 5))) (9 + w (6 + 10 * y + 6)))) (by rw [h19]; exact hW.2.2.1 (w (6 + 10 * y + 7)) (by omega) (by omega)) (by omega) (by omega) hO (by omega) (fun mw20 h21 h22 => ?_)
      have fr := fr.trans h21
      have hW := h21.Wd hW
      have hO := h22
      have h23 := o_w_a (l := (o_w (o_nb l (w (6 + 10 * y + 5))) (9 + w (6 + 10 * y + 6)))) (w := 21 + w (6 + 10 * y + 7) - 1) (by omega)
      have hA := h21.row hA
      refine K81 _ _ ?_ ?_
      · exact fr
      · unfold o_at; first | (rw [if_pos (by omega)]; exact hO) | (rw [if_neg (by omega)]; exact hO)
  refine am_go 400 [81, 30] (am_wpc_cm _ _ _) wf_232 ?_
  refine And.intro (rfl) ?_
  refine ct_188 (by omega) hA (by omega) (by omega) (fun v24 h25 => ?_)
  replace h25 : v24 = w (6 + 10 * y + 5) := h25
  refine And.intro (fun h26 => ?_) (fun h26 => ?_)
  · refine And.intro (rfl) ?_
    refine ct_188 (by omega) hA (by omega) (by omega) (fun v27 h28 => ?_)
    replace h28 : v27 = w (6 + 10 * y + 5) := h28
    refine And.intro (rfl) ?_
    refine ct_231 (n := w (6 + 10 * y + 5)) (l := l) (by omega) (by omega) hW hO (by omega) (by omega) (fun mw29 h30 h31 => ?_)
    have fr := fr.trans h30
    have hW := h30.Wd hW
    have hO := h31
    have h32 := o_n_l l (w (6 + 10 * y + 5))
    have hA := h30.row hA
    refine K30 _ ?_ ?_
    · exact fr
    · unfold o_nb; first | (rw [if_pos (by omega)]; exact hO) | (rw [if_neg (by omega)]; exact hO)
  · refine And.intro (rfl) ?_
    refine ct_228 (w := 43) (l := l) (by decide) (by omega) (by omega) hO (by omega) (fun mw33 h34 h35 => ?_)
    have fr := fr.trans h34
    have hW := h34.Wd hW
    have hO := h35
    have h36 := o_w_a (l := l) (w := 43) (by omega)
    have hA := h34.row hA
    refine K30 _ ?_ ?_
    · exact fr
    · unfold o_nb; first | (rw [if_pos (by omega)]; exact hO) | (rw [if_neg (by omega)]; exact hO)
theorem ct_227 {d : Nat} {m : aM} {Q : aO → aM → Prop} {a : Int} {w : Int → Int} {l : List Int} (hd : 4 ≤ d) (hW : mWd m) (hO : mOut m []) (hR : mRow m a w) (hk : okRow w) (hQ : ∀ m', fr_V m m' → mOut m' (o_fld w) → Q (.inl none) m') : am_wpc am_G am_T d 227 [aR 41, aI a] m Q := by
  have fr := fr_V.rfl m
  have hA := hR
  have hW0 := hW
  obtain ⟨r0, r1, r2, r3, r4, r5, -⟩ := id hk
  have n1 := o_f1_l hk
  have n0 : ([] : List Int).length = 0 := rfl
  refine am_in rfl hd (fun d hd => ?_)
  have K139 : ∀ (s : Int), ∀ (m3 : aM), (fr_V m m3) → (mOut m3 (o_f1 w)) → (1 ≤ w 0) → am_WP am_G (am_wpc am_G am_T d) [] cd_227 Q 139 [aR 41, aI a, aI s] [] m3 := by
    intro s m3 fr hO s1
    have hW := fr.Wd hW0
    have hA := fr.row hR
    refine am_go 400 [139] (am_wpc_cm _ _ _) wf_227 ?_
    refine And.intro (rfl) ?_
    refine And.intro (rfl) ?_
    refine ct_186 (by omega) hA (by omega) (fun v1 h2 => ?_)
    replace h2 : v1 = w 3 := h2
    refine And.intro (⟨rfl, by first | omega | (simp only [mS_iff, eq_self, Int.reduceEq, true_and, and_true, false_and, and_false, and_self, ↓reduceIte]; omega) | (simp only [mS_iff, eq_self, Int.reduceEq, true_and, and_true, false_and, and_false, and_self, ↓reduceIte] at *; omega)⟩) ?_
    refine And.intro (rfl) ?_
    refine ct_228 (w := w 3) (l := (o_f1 w)) (by rw [h2]; exact hW.1 (w 3) (by omega) (by omega)) (by omega) (by omega) hO (by omega) (fun mw3 h4 h5 => ?_)
    have fr := fr.trans h4
    have hW := h4.Wd hW
    have hO := h5
    have h6 := o_w_a (l := (o_f1 w)) (w := w 3) (by omega)
    have hA := h4.row hA
    refine And.intro (rfl) ?_
    refine ct_228 (w := 34) (l := (o_w (o_f1 w) (w 3))) (by decide) (by omega) (by omega) hO (by omega) (fun mw7 h8 h9 => ?_)
    have fr := fr.trans h8
    have hW := h8.Wd hW
    have hO := h9
    have h10 := o_w_a (l := (o_w (o_f1 w) (w 3))) (w := 34) (by omega)
    have hA := h8.row hA
    refine And.intro (rfl) ?_
    refine And.intro (rfl) ?_
    refine ct_186 (by omega) hA (by omega) (fun v11 h12 => ?_)
    replace h12 : v11 = w 4 := h12
    refine And.intro (⟨rfl, by first | omega | (simp only [mS_iff, eq_self, Int.reduceEq, true_and, and_true, false_and, and_false, and_self, ↓reduceIte]; omega) | (simp only [mS_iff, eq_self, Int.reduceEq, true_and, and_true, false_and, and_false, and_self, ↓reduceIte] at *; omega)⟩) ?_
    refine And.intro (rfl) ?_
    refine ct_228 (w := w 4) (l := (o_w (o_w (o_f1 w) (w 3)) 34)) (by rw [h12]; exact hW.1 (w 4) (by omega) (by omega)) (by omega) (by omega) hO (by omega) (fun mw13 h14 h15 => ?_)
    have fr := fr.trans h14
    have hW := h14.Wd hW
    have hO := h15
    have h16 := o_w_a (l := (o_w (o_w (o_f1 w) (w 3)) 34)) (w := w 4) (by omega)
    have hA := h14.row hA
    exact hQ _ fr (by unfold o_fld; rw [if_neg (by omega)]; exact hO)
  refine am_go 400 [139] (am_wpc_cm _ _ _) wf_227 ?_
  refine And.intro (rfl) ?_
  refine ct_186 (by omega) hA (by omega) (fun v17 h18 => ?_)
  replace h18 : v17 = w 0 := h18
  have s0 := h18
  refine And.intro (fun h19 => ?_) (fun h19 => ?_)
  · refine And.intro (rfl) ?_
    refine And.intro (rfl) ?_
    refine ct_186 (by omega) hA (by omega) (fun v20 h21 => ?_)
    replace h21 : v20 = w 3 := h21
    refine And.intro (⟨rfl, by first | omega | (simp only [mS_iff, eq_self, Int.reduceEq, true_and, and_true, false_and, and_false, and_self, ↓reduceIte]; omega) | (simp only [mS_iff, eq_self, Int.reduceEq, true_and, and_true, false_and, and_false, and_self, ↓reduceIte] at *; omega)⟩) ?_
    refine And.intro (rfl) ?_
    refine ct_228 (w := w 3) (l := ([] : List Int)) (by rw [h21]; exact hW.1 (w 3) (by omega) (by omega)) (by omega) (by omega) hO (by omega) (fun mw22 h23 h24 => ?_)
    have fr := fr.trans h23
    have hW := h23.Wd hW
    have hO := h24
    have h25 := o_w_a (l := ([] : List Int)) (w := w 3) (by omega)
    have hA := h23.row hA
    exact hQ _ fr (by unfold o_fld o_f1; rw [if_pos (by omega), if_pos (by omega)]; exact hO)
  · refine And.intro (fun h26 => ?_) (fun h26 => ?_)
    · refine And.intro (fun h27 => ?_) (fun h27 => ?_)
      · refine And.intro (fun h28 => ?_) (fun h28 => ?_)
        · refine And.intro (fun h29 => ?_) (fun h29 => ?_)
          · refine And.intro (fun h30 => ?_) (fun h30 => ?_)
            · refine And.intro (rfl) ?_
              refine ct_228 (w := if w 0 = 5 then 35 else 36 + w 0 - 6) (l := ([] : List Int)) (by rw [show (if w 0 = 5 then (35 : Int) else 36 + w 0 - 6) = 39 by omega]; decide) (by omega) (by omega) hO (by omega) (fun mw31 h32 h33 => ?_)
              have fr := fr.trans h32
              have hW := h32.Wd hW
              have hO := h33
              have h34 := o_w_a (l := ([] : List Int)) (w := if w 0 = 5 then 35 else 36 + w 0 - 6) (by omega)
              have hA := h32.row hA
              refine And.intro (rfl) ?_
              refine ct_186 (by omega) hA (by omega) (fun v35 h36 => ?_)
              replace h36 : v35 = w 2 := h36
              refine And.intro (fun h37 => ?_) (fun h37 => ?_)
              · refine K139 _ _ ?_ ?_ ?_
                · exact fr
                · unfold o_f1; first | (rw [if_pos (by omega)]; exact hO) | (rw [if_neg (by omega), if_pos (by omega)]; exact hO) | (rw [if_neg (by omega), if_neg (by omega)]; unfold o_nm; first | (rw [if_pos (by omega)]; exact hO) | (rw [if_neg (by omega)]; exact hO)) | omega
                · omega
              · refine And.intro (rfl) ?_
                refine ct_186 (by omega) hA (by omega) (fun v38 h39 => ?_)
                replace h39 : v38 = w 2 := h39
                refine And.intro (fun h40 => ?_) (fun h40 => ?_)
                · refine K139 _ _ ?_ ?_ ?_
                  · exact fr
                  · unfold o_f1; first | (rw [if_pos (by omega)]; exact hO) | (rw [if_neg (by omega), if_pos (by omega)]; exact hO) | (rw [if_neg (by omega), if_neg (by omega)]; unfold o_nm; first | (rw [if_pos (by omega)]; exact hO) | (rw [if_neg (by omega)]; exact hO)) | omega
                  · omega
                · refine And.intro (rfl) ?_
                  refine ct_228 (w := 40) (l := (o_w ([] : List Int) (if w 0 = 5 then 35 else 36 + w 0 - 6))) (by decide) (by omega) (by omega) hO (by omega) (fun mw41 h42 h43 => ?_)
                  have fr := fr.trans h42
                  have hW := h42.Wd hW
                  have hO := h43
                  have h44 := o_w_a (l := (o_w ([] : List Int) (if w 0 = 5 then 35 else 36 + w 0 - 6))) (w := 40) (by omega)
                  have hA := h42.row hA
                  refine And.intro (rfl) ?_
                  refine ct_186 (by omega) hA (by omega) (fun v45 h46 => ?_)
                  replace h46 : v45 = w 2 := h46
                  refine And.intro (rfl) ?_
                  refine ct_231 (n := w 2) (l := (o_w (o_w ([] : List Int) (if w 0 = 5 then 35 else 36 + w 0 - 6)) 40)) (by omega) (by omega) hW hO (by omega) (by omega) (fun mw47 h48 h49 => ?_)
                  have fr := fr.trans h48
                  have hW := h48.Wd hW
                  have hO := h49
                  have h50 := o_n_l (o_w (o_w ([] : List Int) (if w 0 = 5 then 35 else 36 + w 0 - 6)) 40) (w 2)
                  have hA := h48.row hA
                  refine K139 _ _ ?_ ?_ ?_
                  · exact fr
                  · unfold o_f1; first | (rw [if_pos (by omega)]; exact hO) | (rw [if_neg (by omega), if_pos (by omega)]; exact hO) | (rw [if_neg (by omega), if_neg (by omega)]; unfold o_nm; first | (rw [if_pos (by omega)]; exact hO) | (rw [if_neg (by omega)]; exact hO)) | omega
                  · omega
            · refine And.intro (rfl) ?_
              refine ct_228 (w := if w 0 = 5 then 35 else 36 + w 0 - 6) (l := ([] : List Int)) (by rw [show (if w 0 = 5 then (35 : Int) else 36 + w 0 - 6) = 38 by omega]; decide) (by omega) (by omega) hO (by omega) (fun mw51 h52 h53 => ?_)
              have fr := fr.trans h52
              have hW := h52.Wd hW
              have hO := h53
              have h54 := o_w_a (l := ([] : List Int)) (w := if w 0 = 5 then 35 else 36 + w 0 - 6) (by omega)
              have hA := h52.row hA
              refine And.intro (rfl) ?_
              refine ct_186 (by omega) hA (by omega) (fun v55 h56 => ?_)
              replace h56 : v55 = w 2 := h56
              refine And.intro (fun h57 => ?_) (fun h57 => ?_)
              · refine K139 _ _ ?_ ?_ ?_
                · exact fr
                · unfold o_f1; first | (rw [if_pos (by omega)]; exact hO) | (rw [if_neg (by omega), if_pos (by omega)]; exact hO) | (rw [if_neg (by omega), if_neg (by omega)]; unfold o_nm; first | (rw [if_pos (by omega)]; exact hO) | (rw [if_neg (by omega)]; exact hO)) | omega
                · omega
              · refine And.intro (rfl) ?_
                refine ct_186 (by omega) hA (by omega) (fun v58 h59 => ?_)
                replace h59 : v58 = w 2 := h59
                refine And.intro (fun h60 => ?_) (fun h60 => ?_)
                · refine K139 _ _ ?_ ?_ ?_
                  · exact fr
                  · unfold o_f1; first | (rw [if_pos (by omega)]; exact hO) | (rw [if_neg (by omega), if_pos (by omega)]; exact hO) | (rw [if_neg (by omega), if_neg (by omega)]; unfold o_nm; first | (rw [if_pos (by omega)]; exact hO) | (rw [if_neg (by omega)]; exact hO)) | omega
                  · omega
                · refine And.intro (rfl) ?_
                  refine ct_228 (w := 40) (l := (o_w ([] : List Int) (if w 0 = 5 then 35 else 36 + w 0 - 6))) (by decide) (by omega) (by omega) hO (by omega) (fun mw61 h62 h63 => ?_)
                  have fr := fr.trans h62
                  have hW := h62.Wd hW
                  have hO := h63
                  have h64 := o_w_a (l := (o_w ([] : List Int) (if w 0 = 5 then 35 else 36 + w 0 - 6))) (w := 40) (by omega)
                  have hA := h62.row hA
                  refine And.intro (rfl) ?_
                  refine ct_186 (by omega) hA (by omega) (fun v65 h66 => ?_)
                  replace h66 : v65 = w 2 := h66
                  refine And.intro (rfl) ?_
                  refine ct_231 (n := w 2) (l := (o_w (o_w ([] : List Int) (if w 0 = 5 then 35 else 36 + w 0 - 6)) 40)) (by omega) (by omega) hW hO (by omega) (by omega) (fun mw67 h68 h69 => ?_)
                  have fr := fr.trans h68
                  have hW := h68.Wd hW
                  have hO := h69
                  have h70 := o_n_l (o_w (o_w ([] : List Int) (if w 0 = 5 then 35 else 36 + w 0 - 6)) 40) (w 2)
                  have hA := h68.row hA
                  refine K139 _ _ ?_ ?_ ?_
                  · exact fr
                  · unfold o_f1; first | (rw [if_pos (by omega)]; exact hO) | (rw [if_neg (by omega), if_pos (by omega)]; exact hO) | (rw [if_neg (by omega), if_neg (by omega)]; unfold o_nm; first | (rw [if_pos (by omega)]; exact hO) | (rw [if_neg (by omega)]; exact hO)) | omega
                  · omega
          · refine And.intro (rfl) ?_
            refine ct_228 (w := if w 0 = 5 then 35 else 36 + w 0 - 6) (l := ([] : List Int)) (by rw [show (if w 0 = 5 then (35 : Int) else 36 + w 0 - 6) = 37 by omega]; decide) (by omega) (by omega) hO (by omega) (fun mw71 h72 h73 => ?_)
            have fr := fr.trans h72
            have hW := h72.Wd hW
            have hO := h73
            have h74 := o_w_a (l := ([] : List Int)) (w := if w 0 = 5 then 35 else 36 + w 0 - 6) (by omega)
            have hA := h72.row hA
            refine And.intro (rfl) ?_
            refine ct_186 (by omega) hA (by omega) (fun v75 h76 => ?_)
            replace h76 : v75 = w 2 := h76
            refine And.intro (fun h77 => ?_) (fun h77 => ?_)
            · refine K139 _ _ ?_ ?_ ?_
              · exact fr
              · unfold o_f1; first | (rw [if_pos (by omega)]; exact hO) | (rw [if_neg (by omega), if_pos (by omega)]; exact hO) | (rw [if_neg (by omega), if_neg (by omega)]; unfold o_nm; first | (rw [if_pos (by omega)]; exact hO) | (rw [if_neg (by omega)]; exact hO)) | omega
              · omega
            · refine And.intro (rfl) ?_
              refine ct_186 (by omega) hA (by omega) (fun v78 h79 => ?_)
              replace h79 : v78 = w 2 := h79
              refine And.intro (fun h80 => ?_) (fun h80 => ?_)
              · refine K139 _ _ ?_ ?_ ?_
                · exact fr
                · unfold o_f1; first | (rw [if_pos (by omega)]; exact hO) | (rw [if_neg (by omega), if_pos (by omega)]; exact hO) | (rw [if_neg (by omega), if_neg (by omega)]; unfold o_nm; first | (rw [if_pos (by omega)]; exact hO) | (rw [if_neg (by omega)]; exact hO)) | omega
                · omega
              · refine And.intro (rfl) ?_
                refine ct_228 (w := 40) (l := (o_w ([] : List Int) (if w 0 = 5 then 35 else 36 + w 0 - 6))) (by decide) (by omega) (by omega) hO (by omega) (fun mw81 h82 h83 => ?_)
                have fr := fr.trans h82
                have hW := h82.Wd hW
                have hO := h83
                have h84 := o_w_a (l := (o_w ([] : List Int) (if w 0 = 5 then 35 else 36 + w 0 - 6))) (w := 40) (by omega)
                have hA := h82.row hA
                refine And.intro (rfl) ?_
                refine ct_186 (by omega) hA (by omega) (fun v85 h86 => ?_)
                replace h86 : v85 = w 2 := h86
                refine And.intro (rfl) ?_
                refine ct_231 (n := w 2) (l := (o_w (o_w ([] : List Int) (if w 0 = 5 then 35 else 36 + w 0 - 6)) 40)) (by omega) (by omega) hW hO (by omega) (by omega) (fun mw87 h88 h89 => ?_)
                have fr := fr.trans h88
                have hW := h88.Wd hW
                have hO := h89
                have h90 := o_n_l (o_w (o_w ([] : List Int) (if w 0 = 5 then 35 else 36 + w 0 - 6)) 40) (w 2)
                have hA := h88.row hA
                refine K139 _ _ ?_ ?_ ?_
                · exact fr
                · unfold o_f1; first | (rw [if_pos (by omega)]; exact hO) | (rw [if_neg (by omega), if_pos (by omega)]; exact hO) | (rw [if_neg (by omega), if_neg (by omega)]; unfold o_nm; first | (rw [if_pos (by omega)]; exact hO) | (rw [if_neg (by omega)]; exact hO)) | omega
                · omega
        · refine And.intro (rfl) ?_
          refine ct_228 (w := if w 0 = 5 then 35 else 36 + w 0 - 6) (l := ([] : List Int)) (by rw [show (if w 0 = 5 then (35 : Int) else 36 + w 0 - 6) = 36 by omega]; decide) (by omega) (by omega) hO (by omega) (fun mw91 h92 h93 => ?_)
          have fr := fr.trans h92
          have hW := h92.Wd hW
          have hO := h93
          have h94 := o_w_a (l := ([] : List Int)) (w := if w 0 = 5 then 35 else 36 + w 0 - 6) (by omega)
          have hA := h92.row hA
          refine And.intro (rfl) ?_
          refine ct_186 (by omega) hA (by omega) (fun v95 h96 => ?_)
          replace h96 : v95 = w 2 := h96
          refine And.intro (fun h97 => ?_) (fun h97 => ?_)
          · refine K139 _ _ ?_ ?_ ?_
            · exact fr
            · unfold o_f1; first | (rw [if_pos (by omega)]; exact hO) | (rw [if_neg (by omega), if_pos (by omega)]; exact hO) | (rw [if_neg (by omega), if_neg (by omega)]; unfold o_nm; first | (rw [if_pos (by omega)]; exact hO) | (rw [if_neg (by omega)]; exact hO)) | omega
            · omega
          · refine And.intro (rfl) ?_
            refine ct_186 (by omega) hA (by omega) (fun v98 h99 => ?_)
            replace h99 : v98 = w 2 := h99
            refine And.intro (fun h100 => ?_) (fun h100 => ?_)
            · refine K139 _ _ ?_ ?_ ?_
              · exact fr
              · unfold o_f1; first | (rw [if_pos (by omega)]; exact hO) | (rw [if_neg (by omega), if_pos (by omega)]; exact hO) | (rw [if_neg (by omega), if_neg (by omega)]; unfold o_nm; first | (rw [if_pos (by omega)]; exact hO) | (rw [if_neg (by omega)]; exact hO)) | omega
              · omega
            · refine And.intro (rfl) ?_
              refine ct_228 (w := 40) (l := (o_w ([] : List Int) (if w 0 = 5 then 35 else 36 + w 0 - 6))) (by decide) (by omega) (by omega) hO (by omega) (fun mw101 h102 h103 => ?_)
              have fr := fr.trans h102
              have hW := h102.Wd hW
              have hO := h103
              have h104 := o_w_a (l := (o_w ([] : List Int) (if w 0 = 5 then 35 else 36 + w 0 - 6))) (w := 40) (by omega)
              have hA := h102.row hA
              refine And.intro (rfl) ?_
              refine ct_186 (by omega) hA (by omega) (fun v105 h106 => ?_)
              replace h106 : v105 = w 2 := h106
              refine And.intro (rfl) ?_
              refine ct_231 (n := w 2) (l := (o_w (o_w ([] : List Int) (if w 0 = 5 then 35 else 36 + w 0 - 6)) 40)) (by omega) (by omega) hW hO (by omega) (by omega) (fun mw107 h108 h109 => ?_)
              have fr := fr.trans h108
              have hW := h108.Wd hW
              have hO := h109
              have h110 := o_n_l (o_w (o_w ([] : List Int) (if w 0 = 5 then 35 else 36 + w 0 - 6)) 40) (w 2)
              have hA := h108.row hA
              refine K139 _ _ ?_ ?_ ?_
              · exact fr
              · unfold o_f1; first | (rw [if_pos (by omega)]; exact hO) | (rw [if_neg (by omega), if_pos (by omega)]; exact hO) | (rw [if_neg (by omega), if_neg (by omega)]; unfold o_nm; first | (rw [if_pos (by omega)]; exact hO) | (rw [if_neg (by omega)]; exact hO)) | omega
              · omega
      · refine And.intro (rfl) ?_
        refine ct_228 (w := if w 0 = 5 then 35 else 36 + w 0 - 6) (l := ([] : List Int)) (by rw [show (if w 0 = 5 then (35 : Int) else 36 + w 0 - 6) = 35 by omega]; decide) (by omega) (by omega) hO (by omega) (fun mw111 h112 h113 => ?_)
        have fr := fr.trans h112
        have hW := h112.Wd hW
        have hO := h113
        have h114 := o_w_a (l := ([] : List Int)) (w := if w 0 = 5 then 35 else 36 + w 0 - 6) (by omega)
        have hA := h112.row hA
        refine And.intro (rfl) ?_
        refine ct_186 (by omega) hA (by omega) (fun v115 h116 => ?_)
        replace h116 : v115 = w 2 := h116
        refine And.intro (fun h117 => ?_) (fun h117 => ?_)
        · refine K139 _ _ ?_ ?_ ?_
          · exact fr
          · unfold o_f1; first | (rw [if_pos (by omega)]; exact hO) | (rw [if_neg (by omega), if_pos (by omega)]; exact hO) | (rw [if_neg (by omega), if_neg (by omega)]; unfold o_nm; first | (rw [if_pos (by omega)]; exact hO) | (rw [if_neg (by omega)]; exact hO)) | omega
          · omega
        · refine And.intro (rfl) ?_
          refine ct_186 (by omega) hA (by omega) (fun v118 h119 => ?_)
          replace h119 : v118 = w 2 := h119
          refine And.intro (fun h120 => ?_) (fun h120 => ?_)
          · refine K139 _ _ ?_ ?_ ?_
            · exact fr
            · unfold o_f1; first | (rw [if_pos (by omega)]; exact hO) | (rw [if_neg (by omega), if_pos (by omega)]; exact hO) | (rw [if_neg (by omega), if_neg (by omega)]; unfold o_nm; first | (rw [if_pos (by omega)]; exact hO) | (rw [if_neg (by omega)]; exact hO)) | omega
            · omega
          · refine And.intro (rfl) ?_
            refine ct_228 (w := 40) (l := (o_w ([] : List Int) (if w 0 = 5 then 35 else 36 + w 0 - 6))) (by decide) (by omega) (by omega) hO (by omega) (fun mw121 h122 h123 => ?_)
            have fr := fr.trans h122
            have hW := h122.Wd hW
            have hO := h123
            have h124 := o_w_a (l := (o_w ([] : List Int) (if w 0 = 5 then 35 else 36 + w 0 - 6))) (w := 40) (by omega)
            have hA := h122.row hA
            refine And.intro (rfl) ?_
            refine ct_186 (by omega) hA (by omega) (fun v125 h126 => ?_)
            replace h126 : v125 = w 2 := h126
            refine And.intro (rfl) ?_
            refine ct_231 (n := w 2) (l := (o_w (o_w ([] : List Int) (if w 0 = 5 then 35 else 36 + w 0 - 6)) 40)) (by omega) (by omega) hW hO (by omega) (by omega) (fun mw127 h128 h129 => ?_)
            have fr := fr.trans h128
            have hW := h128.Wd hW
            have hO := h129
            have h130 := o_n_l (o_w (o_w ([] : List Int) (if w 0 = 5 then 35 else 36 + w 0 - 6)) 40) (w 2)
            have hA := h128.row hA
            refine K139 _ _ ?_ ?_ ?_
            · exact fr
            · unfold o_f1; first | (rw [if_pos (by omega)]; exact hO) | (rw [if_neg (by omega), if_pos (by omega)]; exact hO) | (rw [if_neg (by omega), if_neg (by omega)]; unfold o_nm; first | (rw [if_pos (by omega)]; exact hO) | (rw [if_neg (by omega)]; exact hO)) | omega
            · omega
    · refine And.intro (rfl) ?_
      refine ct_228 (w := 33) (l := ([] : List Int)) (by decide) (by omega) (by omega) hO (by omega) (fun mw131 h132 h133 => ?_)
      have fr := fr.trans h132
      have hW := h132.Wd hW
      have hO := h133
      have h134 := o_w_a (l := ([] : List Int)) (w := 33) (by omega)
      have hA := h132.row hA
      refine And.intro (rfl) ?_
      refine And.intro (show -2147483648 ≤ v17 - 1 ∧ v17 - 1 ≤ 2147483647 by first | omega | (simp only [mS_iff, eq_self, Int.reduceEq, true_and, and_true, false_and, and_false, and_self, ↓reduceIte]; omega) | (simp only [mS_iff, eq_self, Int.reduceEq, true_and, and_true, false_and, and_false, and_self, ↓reduceIte] at *; omega)) ?_
      refine And.intro (⟨rfl, by first | omega | (simp only [mS_iff, eq_self, Int.reduceEq, true_and, and_true, false_and, and_false, and_self, ↓reduceIte]; omega) | (simp only [mS_iff, eq_self, Int.reduceEq, true_and, and_true, false_and, and_false, and_self, ↓reduceIte] at *; omega)⟩) ?_
      refine And.intro (rfl) ?_
      refine ct_228 (w := 25 + w 0 - 1) (l := (o_w ([] : List Int) 33)) (by have q := hW.2.2.2.1 (w 0 - 1) (by omega) (by omega); rw [show 25 + (w 0 - 1) = 25 + w 0 - 1 by omega] at q; rw [s0]; exact q) (by omega) (by omega) hO (by omega) (fun mw135 h136 h137 => ?_)
      have fr := fr.trans h136
      have hW := h136.Wd hW
      have hO := h137
      have h138 := o_w_a (l := (o_w ([] : List Int) 33)) (w := 25 + w 0 - 1) (by omega)
      have hA := h136.row hA
      refine And.intro (rfl) ?_
      refine ct_186 (by omega) hA (by omega) (fun v139 h140 => ?_)
      replace h140 : v139 = w 1 := h140
      refine And.intro (rfl) ?_
      refine ct_230 (n := w 1) (l := (o_w (o_w ([] : List Int) 33) (25 + w 0 - 1))) (by omega) (by omega) hW hO (by omega) (by omega) (fun mw141 h142 h143 => ?_)
      have fr := fr.trans h142
      have hW := h142.Wd hW
      have hO := h143
      have h144 := o_ln_l (l := (o_w (o_w ([] : List Int) 33) (25 + w 0 - 1))) (n := w 1) (by omega)
      have hA := h142.row hA
      refine And.intro (rfl) ?_
      refine ct_186 (by omega) hA (by omega) (fun v145 h146 => ?_)
      replace h146 : v145 = w 2 := h146
      refine And.intro (fun h147 => ?_) (fun h147 => ?_)
      · refine K139 _ _ ?_ ?_ ?_
        · exact fr
        · unfold o_f1; first | (rw [if_pos (by omega)]; exact hO) | (rw [if_neg (by omega), if_pos (by omega)]; exact hO) | (rw [if_neg (by omega), if_neg (by omega)]; unfold o_nm; first | (rw [if_pos (by omega)]; exact hO) | (rw [if_neg (by omega)]; exact hO)) | omega
        · omega
      · refine And.intro (rfl) ?_
        refine ct_186 (by omega) hA (by omega) (fun v148 h149 => ?_)
        replace h149 : v148 = w 2 := h149
        refine And.intro (fun h150 => ?_) (fun h150 => ?_)
        · refine K139 _ _ ?_ ?_ ?_
          · exact fr
          · unfold o_f1; first | (rw [if_pos (by omega)]; exact hO) | (rw [if_neg (by omega), if_pos (by omega)]; exact hO) | (rw [if_neg (by omega), if_neg (by omega)]; unfold o_nm; first | (rw [if_pos (by omega)]; exact hO) | (rw [if_neg (by omega)]; exact hO)) | omega
          · omega
        · refine And.intro (rfl) ?_
          refine ct_228 (w := 40) (l := (o_ln (o_w (o_w ([] : List Int) 33) (25 + w 0 - 1)) (w 1))) (by decide) (by omega) (by omega) hO (by omega) (fun mw151 h152 h153 => ?_)
          have fr := fr.trans h152
          have hW := h152.Wd hW
          have hO := h153
          have h154 := o_w_a (l := (o_ln (o_w (o_w ([] : List Int) 33) (25 + w 0 - 1)) (w 1))) (w := 40) (by omega)
          have hA := h152.row hA
          refine And.intro (rfl) ?_
          refine ct_186 (by omega) hA (by omega) (fun v155 h156 => ?_)
          replace h156 : v155 = w 2 := h156
          refine And.intro (rfl) ?_
          refine ct_231 (n := w 2) (l := (o_w (o_ln (o_w (o_w ([] : List Int) 33) (25 + w 0 - 1)) (w 1)) 40)) (by omega) (by omega) hW hO (by omega) (by omega) (fun mw157 h158 h159 => ?_)
          have fr := fr.trans h158
          have hW := h158.Wd hW
          have hO := h159
          have h160 := o_n_l (o_w (o_ln (o_w (o_w ([] : List Int) 33) (25 + w 0 - 1)) (w 1)) 40) (w 2)
          have hA := h158.row hA
          refine K139 _ _ ?_ ?_ ?_
          · exact fr
          · unfold o_f1; first | (rw [if_pos (by omega)]; exact hO) | (rw [if_neg (by omega), if_pos (by omega)]; exact hO) | (rw [if_neg (by omega), if_neg (by omega)]; unfold o_nm; first | (rw [if_pos (by omega)]; exact hO) | (rw [if_neg (by omega)]; exact hO)) | omega
          · omega
