/-! needs: c00 -/
/-! CALLS that look at arms, house; by tools/genc1.py -/
set_option maxRecDepth 100000
set_option maxHeartbeats 8000000
theorem ct_60 {d : Nat} {m : aM} {Q : aO → aM → Prop} {S : aM} {F : Int → aD} {lo hi cl ch : Int → Int} {a : Int} (hd : 1 ≤ d) (h : hI S F lo hi cl ch m) (hr : m 0 0 + 3 ≤ amC ∧ m 0 1 + 1000 ≤ amS ∧ 0 ≤ m 0 1) (hQ1 : (0 ≤ a ∧ a < S 0 3) → Q (.inl (some (aR (m 19 a)))) m) (hQ0 : ¬ (0 ≤ a ∧ a < S 0 3) → ∀ m', hFr 3 m m' → Q (.inl (some (aR 0))) m') : am_wpc am_G am_T d 60 [aR 1, aI a] m Q := by
  have hS := h.2.2.2.1
  have h0 := h.1
  have s1 := hS.1
  have s2 := hS.2.1
  refine am_in rfl hd (fun d hd => ?_)
  refine am_go 400 [] (am_wpc_cm _ _ _) wf_60 ?_
  refine And.intro (rfl) ?_
  refine And.intro (rfl) ?_
  refine And.intro (fun h1 => ?_) (fun h1 => ?_)
  · by_cases k : a < S 0 3
    · exact hQ1 (by omega)
    · rw [hS.2.2.2.1 a (by omega) (by omega)]
      exact hQ0 (by omega) _ ((hFr.rfl m).wd (by omega))
  · refine And.intro (by first | omega | (simp only [mS_iff, eq_self, Int.reduceEq, true_and, and_true, false_and, and_false, and_self, ↓reduceIte]; omega) | (simp only [mS_iff, eq_self, Int.reduceEq, true_and, and_true, false_and, and_false, and_self, ↓reduceIte] at *; omega)) ?_
    generalize h3 : mX m 61 3 1000 = mw2
    have fx := hFr.X (m := m) (t := 61) (k := 3) (by omega) (by omega)
    rw [h3] at fx
    exact hQ0 (by omega) _ fx
theorem ct_59 {d : Nat} {m : aM} {Q : aO → aM → Prop} {S : aM} {F : Int → aD} {lo hi cl ch : Int → Int} {a : Int} (hd : 2 ≤ d) (h : hI S F lo hi cl ch m) (hr : m 0 0 + 3 ≤ amC ∧ m 0 1 + 1000 ≤ amS ∧ 0 ≤ m 0 1) (hQ1 : (0 ≤ a ∧ a < S 0 3) → Q (.inl (some (aI 1))) m) (hQ0 : ¬ (0 ≤ a ∧ a < S 0 3) → ∀ m', hFr 3 m m' → Q (.inl (some (aI 0))) m') : am_wpc am_G am_T d 59 [aR 1, aI a] m Q := by
  have hS := h.2.2.2.1
  refine am_in rfl hd (fun d hd => ?_)
  refine am_go 400 [] (am_wpc_cm _ _ _) wf_59 ?_
  refine And.intro (rfl) ?_
  refine ct_60 (by omega) h hr (fun k => ?_) (fun k m1 fx => ?_)
  · have hb := (hS.2.2.1 a k.1 k.2).basic
    have nn : m 19 a ≠ 0 := by omega
    refine And.intro (show (m 19 a) ≠ -9 by first | omega | (simp only [mS_iff, eq_self, Int.reduceEq, true_and, and_true, false_and, and_false, and_self, ↓reduceIte]; omega) | (simp only [mS_iff, eq_self, Int.reduceEq, true_and, and_true, false_and, and_false, and_self, ↓reduceIte] at *; omega)) ?_
    refine And.intro (fun h1 => ?_) (fun h1 => ?_)
    · refine And.intro (by first | omega | (simp only [mS_iff, eq_self, Int.reduceEq, true_and, and_true, false_and, and_false, and_self, ↓reduceIte]; omega) | (simp only [mS_iff, eq_self, Int.reduceEq, true_and, and_true, false_and, and_false, and_self, ↓reduceIte] at *; omega)) ?_
      exact absurd (by omega) nn
    · refine And.intro (by first | omega | (simp only [mS_iff, eq_self, Int.reduceEq, true_and, and_true, false_and, and_false, and_self, ↓reduceIte]; omega) | (simp only [mS_iff, eq_self, Int.reduceEq, true_and, and_true, false_and, and_false, and_self, ↓reduceIte] at *; omega)) ?_
      exact hQ1 k
  · refine And.intro (by decide) ?_
    refine And.intro (fun _ => ?_) (fun h => absurd h (by decide))
    refine And.intro (by first | omega | (simp only [mS_iff, eq_self, Int.reduceEq, true_and, and_true, false_and, and_false, and_self, ↓reduceIte]; omega) | (simp only [mS_iff, eq_self, Int.reduceEq, true_and, and_true, false_and, and_false, and_self, ↓reduceIte] at *; omega)) ?_
    exact hQ0 k _ fx
/-- what the calls tell -/
abbrev v_has (S : aM) (a : Int) : Prop := 0 ≤ a ∧ a < S 0 3
abbrev v_day (d : Int) : Prop := 0 ≤ d ∧ d ≤ 9999
noncomputable def c_one (S : aM) (a b : Int) : Int := if v_has S a ∧ v_has S b then (if s_pt (S (100 + a)) (S (100 + b)) = 0 then 1 else 0) else -2
noncomputable def c_pts (S : aM) (a b : Int) : Int := if v_has S a ∧ v_has S b then s_pt (S (100 + a)) (S (100 + b)) else -2
noncomputable def c_lay (S : aM) (a : Int) : Int := if v_has S a then S (100 + a) 5 else -2
noncomputable def c_mean (S : aM) (a l w : Int) : Int := if v_has S a ∧ -1 ≤ l ∧ l < S (100 + a) 5 then (if 0 ≤ w ∧ w ≤ (if l = -1 then 4 else 9) then (if l = -1 then S (100 + a) w else S (100 + a) (6 + 10 * l + w)) else -3) else -2
noncomputable def c_brs (S : aM) (a : Int) : Int := if v_has S a then s_bt (S (100 + a)) else -2
noncomputable def c_dot (S : aM) (a x y : Int) : Int := if v_has S a then (if (0 ≤ x ∧ x ≤ 47) ∧ 0 ≤ y ∧ y ≤ 59 then s_dot (S (100 + a)) (48 * y + x) else -3) else -2
noncomputable def c_dots (S : aM) (a t : Int) : Int := if v_has S a then (if 0 ≤ t ∧ t ≤ 8 then s_sum (fun i => if s_dot (S (100 + a)) i = t then 1 else 0) 2880 else -3) else -2
noncomputable def c_size (S : aM) (a l : Int) : Int := if v_has S a ∧ 0 ≤ l ∧ l < S (100 + a) 5 then (if S (100 + a) (6 + 10 * l + 4) = 0 then -4 else s_szl (S (100 + a)) l) else -2
noncomputable def c_cfs (S : aM) (a day : Int) : Int := if v_has S a then (if v_day day then s_sum (s_cf S (S (100 + a)) day) (S 0 5).toNat else -3) else -2
theorem hs_57 {d : Nat} {m : aM} {Q : aO → aM → Prop} {S : aM} {F : Int → aD} {lo hi cl ch : Int → Int} (hd : 1 ≤ d) (h : hI S F lo hi cl ch m) (hQ : Q (.inl (some (aI (S 0 2)))) m) : am_wpc am_G am_T d 57 [aR 1] m Q := by
  obtain ⟨n1, n2, n3, n4, n5, n6, n7, n8, n9⟩ := h.2.2.1
  refine am_in rfl hd (fun d hd => ?_)
  refine am_go 400 [] (am_wpc_cm _ _ _) wf_57 ?_
  refine And.intro (rfl) ?_
  rw [n5]
  exact hQ
theorem hs_136 {d : Nat} {m : aM} {Q : aO → aM → Prop} {S : aM} {F : Int → aD} {lo hi cl ch : Int → Int} (hd : 1 ≤ d) (h : hI S F lo hi cl ch m) (hQ : Q (.inl (some (aI (S 0 8)))) m) : am_wpc am_G am_T d 136 [aR 1] m Q := by
  obtain ⟨n1, n2, n3, n4, n5, n6, n7, n8, n9⟩ := h.2.2.1
  refine am_in rfl hd (fun d hd => ?_)
  refine am_go 400 [] (am_wpc_cm _ _ _) wf_136 ?_
  refine And.intro (rfl) ?_
  rw [n7]
  exact hQ
theorem hs_145 {d : Nat} {m : aM} {Q : aO → aM → Prop} {S : aM} {F : Int → aD} {lo hi cl ch : Int → Int} (hd : 1 ≤ d) (h : hI S F lo hi cl ch m) (hQ : Q (.inl (some (aI (S 0 9)))) m) : am_wpc am_G am_T d 145 [aR 1] m Q := by
  obtain ⟨n1, n2, n3, n4, n5, n6, n7, n8, n9⟩ := h.2.2.1
  refine am_in rfl hd (fun d hd => ?_)
  refine am_go 400 [] (am_wpc_cm _ _ _) wf_145 ?_
  refine And.intro (rfl) ?_
  rw [n8]
  exact hQ
theorem hs_135 {d : Nat} {m : aM} {Q : aO → aM → Prop} {S : aM} {F : Int → aD} {lo hi cl ch : Int → Int} (hd : 1 ≤ d) (h : hI S F lo hi cl ch m) (hQ : Q (.inl (some (aL (S 0 7)))) m) : am_wpc am_G am_T d 135 [aR 1] m Q := by
  obtain ⟨n1, n2, n3, n4, n5, n6, n7, n8, n9⟩ := h.2.2.1
  refine am_in rfl hd (fun d hd => ?_)
  refine am_go 400 [] (am_wpc_cm _ _ _) wf_135 ?_
  refine And.intro (rfl) ?_
  rw [n6]
  exact hQ
theorem hs_58 {d : Nat} {m : aM} {Q : aO → aM → Prop} {S : aM} {F : Int → aD} {lo hi cl ch : Int → Int} {a b : Int} (hd : 60 ≤ d) (h : hI S F lo hi cl ch m) (hr : hRo 1 m)  (hQ : ∀ m', hFr 90 m m' → Q (.inl (some (aI (c_one S a b)))) m') : am_wpc am_G am_T d 58 [aR 1, aI a, aI b] m Q := by
  have fr := hFr.rfl m
  obtain ⟨r1, r2, r3, r4, r5⟩ := id hr
  have hS := h.2.2.2.1
  have h0 := h.1
  have s1 := hS.1
  obtain ⟨dk, hdk⟩ : ∃ k, d = k + 1 := ⟨d - 1, by omega⟩
  refine am_in (k := dk) rfl (by omega) (fun d hd => ?_)
  refine am_go 400 [] (am_wpc_cm _ _ _) wf_58 ?_
  refine And.intro (rfl) ?_
  refine ct_59 (by omega) h (by omega) (fun t1 => ?_) (fun t1 mw1 fx => ?_)
  · have hA1 := hS.2.2.1 a t1.1 t1.2
    have hB1 := hA1.basic
    refine And.intro (fun h => absurd h (by decide)) (fun _ => ?_)
    refine And.intro (rfl) ?_
    refine ct_59 (by omega) h (by omega) (fun t2 => ?_) (fun t2 mw2 fx => ?_)
    · have hA2 := hS.2.2.1 b t2.1 t2.2
      have hB2 := hA2.basic
      refine And.intro (fun _ => ?_) (fun h => absurd h (by decide))
      refine And.intro (rfl) ?_
      refine And.intro (⟨rfl, by first | omega | (simp only [mS_iff, eq_self, Int.reduceEq, true_and, and_true, false_and, and_false, and_self, ↓reduceIte]; omega) | (simp only [mS_iff, eq_self, Int.reduceEq, true_and, and_true, false_and, and_false, and_self, ↓reduceIte] at *; omega)⟩) ?_
      refine And.intro (rfl) ?_
      refine And.intro (⟨rfl, by first | omega | (simp only [mS_iff, eq_self, Int.reduceEq, true_and, and_true, false_and, and_false, and_self, ↓reduceIte]; omega) | (simp only [mS_iff, eq_self, Int.reduceEq, true_and, and_true, false_and, and_false, and_self, ↓reduceIte] at *; omega)⟩) ?_
      refine ct_61 (by omega) hA1 hA2 (fun v3 h4 => ?_)
      refine And.intro (fun h5 => ?_) (fun h5 => ?_)
      · have ev0 : c_one S a b = 0 := by
          unfold c_one
          repeat' split
          all_goals omega
        have hz := hQ m (fr.wd (by omega))
        rw [ev0] at hz
        exact hz
      · have ev0 : c_one S a b = 1 := by
          unfold c_one
          repeat' split
          all_goals omega
        have hz := hQ m (fr.wd (by omega))
        rw [ev0] at hz
        exact hz
    · have fr := fr.trans fx
      have cn := fr.1
      have cs := fr.2.1
      refine And.intro (fun h => absurd h (by decide)) (fun _ => ?_)
      have ev0 : c_one S a b = (-2) := by
        unfold c_one
        repeat' split
        all_goals omega
      have hz := hQ mw2 (fr.wd (by omega))
      rw [ev0] at hz
      exact hz
  · have fr := fr.trans fx
    have cn := fr.1
    have cs := fr.2.1
    refine And.intro (fun _ => ?_) (fun h => absurd h (by decide))
    have ev0 : c_one S a b = (-2) := by
      unfold c_one
      repeat' split
      all_goals omega
    have hz := hQ mw1 (fr.wd (by omega))
    rw [ev0] at hz
    exact hz
theorem hs_111 {d : Nat} {m : aM} {Q : aO → aM → Prop} {S : aM} {F : Int → aD} {lo hi cl ch : Int → Int} {a b : Int} (hd : 60 ≤ d) (h : hI S F lo hi cl ch m) (hr : hRo 1 m)  (hQ : ∀ m', hFr 90 m m' → Q (.inl (some (aI (c_pts S a b)))) m') : am_wpc am_G am_T d 111 [aR 1, aI a, aI b] m Q := by
  have fr := hFr.rfl m
  obtain ⟨r1, r2, r3, r4, r5⟩ := id hr
  have hS := h.2.2.2.1
  have h0 := h.1
  have s1 := hS.1
  obtain ⟨dk, hdk⟩ : ∃ k, d = k + 1 := ⟨d - 1, by omega⟩
  refine am_in (k := dk) rfl (by omega) (fun d hd => ?_)
  refine am_go 400 [] (am_wpc_cm _ _ _) wf_111 ?_
  refine And.intro (rfl) ?_
  refine ct_59 (by omega) h (by omega) (fun t1 => ?_) (fun t1 mw1 fx => ?_)
  · have hA1 := hS.2.2.1 a t1.1 t1.2
    have hB1 := hA1.basic
    refine And.intro (fun h => absurd h (by decide)) (fun _ => ?_)
    refine And.intro (rfl) ?_
    refine ct_59 (by omega) h (by omega) (fun t2 => ?_) (fun t2 mw2 fx => ?_)
    · have hA2 := hS.2.2.1 b t2.1 t2.2
      have hB2 := hA2.basic
      refine And.intro (fun h => absurd h (by decide)) (fun _ => ?_)
      refine And.intro (rfl) ?_
      refine And.intro (⟨rfl, by first | omega | (simp only [mS_iff, eq_self, Int.reduceEq, true_and, and_true, false_and, and_false, and_self, ↓reduceIte]; omega) | (simp only [mS_iff, eq_self, Int.reduceEq, true_and, and_true, false_and, and_false, and_self, ↓reduceIte] at *; omega)⟩) ?_
      refine And.intro (rfl) ?_
      refine And.intro (⟨rfl, by first | omega | (simp only [mS_iff, eq_self, Int.reduceEq, true_and, and_true, false_and, and_false, and_self, ↓reduceIte]; omega) | (simp only [mS_iff, eq_self, Int.reduceEq, true_and, and_true, false_and, and_false, and_self, ↓reduceIte] at *; omega)⟩) ?_
      refine ct_61 (by omega) hA1 hA2 (fun v3 h4 => ?_)
      have ev0 : c_pts S a b = v3 := by
        unfold c_pts
        repeat' split
        all_goals omega
      have hz := hQ m (fr.wd (by omega))
      rw [ev0] at hz
      exact hz
    · have fr := fr.trans fx
      have cn := fr.1
      have cs := fr.2.1
      refine And.intro (fun _ => ?_) (fun h => absurd h (by decide))
      have ev0 : c_pts S a b = (-2) := by
        unfold c_pts
        repeat' split
        all_goals omega
      have hz := hQ mw2 (fr.wd (by omega))
      rw [ev0] at hz
      exact hz
  · have fr := fr.trans fx
    have cn := fr.1
    have cs := fr.2.1
    refine And.intro (fun _ => ?_) (fun h => absurd h (by decide))
    have ev0 : c_pts S a b = (-2) := by
      unfold c_pts
      repeat' split
      all_goals omega
    have hz := hQ mw1 (fr.wd (by omega))
    rw [ev0] at hz
    exact hz
theorem hs_76 {d : Nat} {m : aM} {Q : aO → aM → Prop} {S : aM} {F : Int → aD} {lo hi cl ch : Int → Int} {a : Int} (hd : 60 ≤ d) (h : hI S F lo hi cl ch m) (hr : hRo 1 m)  (hQ : ∀ m', hFr 90 m m' → Q (.inl (some (aI (c_brs S a)))) m') : am_wpc am_G am_T d 76 [aR 1, aI a] m Q := by
  have fr := hFr.rfl m
  obtain ⟨r1, r2, r3, r4, r5⟩ := id hr
  have hS := h.2.2.2.1
  have h0 := h.1
  have s1 := hS.1
  obtain ⟨dk, hdk⟩ : ∃ k, d = k + 1 := ⟨d - 1, by omega⟩
  refine am_in (k := dk) rfl (by omega) (fun d hd => ?_)
  refine am_go 400 [] (am_wpc_cm _ _ _) wf_76 ?_
  refine And.intro (rfl) ?_
  refine ct_59 (by omega) h (by omega) (fun t1 => ?_) (fun t1 mw1 fx => ?_)
  · have hA1 := hS.2.2.1 a t1.1 t1.2
    have hB1 := hA1.basic
    refine And.intro (fun _ => ?_) (fun h => absurd h (by decide))
    refine And.intro (rfl) ?_
    refine And.intro (⟨rfl, by first | omega | (simp only [mS_iff, eq_self, Int.reduceEq, true_and, and_true, false_and, and_false, and_self, ↓reduceIte]; omega) | (simp only [mS_iff, eq_self, Int.reduceEq, true_and, and_true, false_and, and_false, and_self, ↓reduceIte] at *; omega)⟩) ?_
    refine And.intro (rfl) ?_
    refine ct_35 (by omega) hA1 (fun mj fj bj bi => ?_)
    have fr := fr.trans fj.H
    refine And.intro (rfl) ?_
    have ev0 : c_brs S a = (mj 1 5) := by
      unfold c_brs
      repeat' split
      all_goals omega
    have hz := hQ mj (fr.wd (by omega))
    rw [ev0] at hz
    exact hz
  · have fr := fr.trans fx
    have cn := fr.1
    have cs := fr.2.1
    refine And.intro (fun h => absurd h (by decide)) (fun _ => ?_)
    have ev0 : c_brs S a = (-2) := by
      unfold c_brs
      repeat' split
      all_goals omega
    have hz := hQ mw1 (fr.wd (by omega))
    rw [ev0] at hz
    exact hz
theorem hs_64 {d : Nat} {m : aM} {Q : aO → aM → Prop} {S : aM} {F : Int → aD} {lo hi cl ch : Int → Int} {a : Int} (hd : 60 ≤ d) (h : hI S F lo hi cl ch m) (hr : hRo 1 m)  (hQ : ∀ m', hFr 90 m m' → Q (.inl (some (aI (c_lay S a)))) m') : am_wpc am_G am_T d 64 [aR 1, aI a] m Q := by
  have fr := hFr.rfl m
  obtain ⟨r1, r2, r3, r4, r5⟩ := id hr
  have hS := h.2.2.2.1
  have h0 := h.1
  have s1 := hS.1
  obtain ⟨dk, hdk⟩ : ∃ k, d = k + 1 := ⟨d - 1, by omega⟩
  refine am_in (k := dk) rfl (by omega) (fun d hd => ?_)
  refine am_go 400 [] (am_wpc_cm _ _ _) wf_64 ?_
  refine And.intro (rfl) ?_
  refine ct_60 (by omega) h (by omega) (fun t1 => ?_) (fun t1 mw1 fx => ?_)
  · have hA1 := hS.2.2.1 a t1.1 t1.2
    have hB1 := hA1.basic
    have nn : m 19 a ≠ 0 := by omega
    refine And.intro (fun _ => And.intro (hB1.2.2.2.2.1) ?_) (fun h => absurd h (by omega))
    refine And.intro (by have := hB1.2.2.2.2.2.2.1; omega) ?_
    have hl := hB1.2.2.2.2.2.2.2.1
    have ev0 : c_lay S a = (m (m (m 19 a) 1) (-2)) := by
      unfold c_lay
      repeat' split
      all_goals omega
    have hz := hQ m (fr.wd (by omega))
    rw [ev0] at hz
    exact hz
  · have fr := fr.trans fx
    have cn := fr.1
    have cs := fr.2.1
    refine And.intro (fun h => absurd (rfl) h) (fun _ => ?_)
    refine And.intro (by first | omega | (simp only [mS_iff, eq_self, Int.reduceEq, true_and, and_true, false_and, and_false, and_self, ↓reduceIte]; omega) | (simp only [mS_iff, eq_self, Int.reduceEq, true_and, and_true, false_and, and_false, and_self, ↓reduceIte] at *; omega)) ?_
    generalize h3 : mX mw1 62 1 1000 = mw2
    have fx2 := hFr.X (m := mw1) (t := 62) (k := 1) (by have := fr.1; omega) (by omega)
    rw [h3] at fx2
    have fr := fr.trans fx2
    have ev0 : c_lay S a = (-2) := by
      unfold c_lay
      repeat' split
      all_goals omega
    have hz := hQ mw2 (fr.wd (by omega))
    rw [ev0] at hz
    exact hz
