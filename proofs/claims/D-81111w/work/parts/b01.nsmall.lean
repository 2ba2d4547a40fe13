/-! needs: b00 -/
/-! CONTRACTS: small ones of nodes; by tools/genb1.py -/
set_option maxRecDepth 100000
theorem am_l2i_b (v : Int) : -2147483648 ≤ am_l2i v ∧ am_l2i v ≤ 2147483647 := by
  have a := Int32.le_toInt (Int64.ofInt v).toInt32
  have b := Int32.toInt_lt (Int64.ofInt v).toInt32
  unfold am_l2i
  omega
theorem ct_324 {d : Nat} {m : aM} {Q : aO → aM → Prop} {r v : Int} (hd : 1 ≤ d) (ht : 13 ≤ m r (-1) ∧ m r (-1) ≤ 17) (hr : 0 < r) (hm : 0 < m r 1 ∧ m (m r 1) (-1) = 6) (hQ : Q (.inl (some (aR (m r 1)))) (mS m (m r 1) 0 v)) : am_wpc am_G am_T d 324 [aR r, aL v] m Q := by
  have nr : r ≠ m r 1 := fun e => by rw [← e] at hm; omega
  have e1 : mS m (m r 1) 0 v r 1 = m r 1 := mS_a _ _ _ _ nr
  have e2 : mS m (m r 1) 0 v r (-1) = m r (-1) := mS_a _ _ _ _ nr
  refine am_in rfl hd (fun d hd => ?_)
  refine am_go 400 [] (am_wpc_cm _ _ _) wf_324 ?_
  refine And.intro (show 13 ≤ (m r (-1)) ∧ (m r (-1)) ≤ 17 by first | omega | (simp only [mS_iff, eq_self, Int.reduceEq, true_and, and_true, false_and, and_false, and_self, ↓reduceIte]; omega) | (simp only [mS_iff, eq_self, Int.reduceEq, true_and, and_true, false_and, and_false, and_self, ↓reduceIte] at *; omega)) ?_
  refine And.intro (show 0 < (m r 1) ∧ (m (m r 1) (-1)) = 6 by first | omega | (simp only [mS_iff, eq_self, Int.reduceEq, true_and, and_true, false_and, and_false, and_self, ↓reduceIte]; omega) | (simp only [mS_iff, eq_self, Int.reduceEq, true_and, and_true, false_and, and_false, and_self, ↓reduceIte] at *; omega)) ?_
  refine And.intro (show 13 ≤ ((mS m (m r 1) 0 v) r (-1)) ∧ ((mS m (m r 1) 0 v) r (-1)) ≤ 17 by first | omega | (simp only [mS_iff, eq_self, Int.reduceEq, true_and, and_true, false_and, and_false, and_self, ↓reduceIte]; omega) | (simp only [mS_iff, eq_self, Int.reduceEq, true_and, and_true, false_and, and_false, and_self, ↓reduceIte] at *; omega)) ?_
  rw [e1]; exact hQ
theorem ct_325 {d : Nat} {m : aM} {Q : aO → aM → Prop} {r x : Int} (hd : 1 ≤ d) (hx : 0 < x) (htx : m x (-1) = 5 ∨ m x (-1) = 6 ∨ m x (-1) = 7 ∨ m x (-1) = 10) (hQ1 : m x (-1) = 6 → Q (.inl (some (aL (m x 0)))) m) (hQ0 : m x (-1) ≠ 6 → (m 0 0 + 3 ≤ amC ∧ m 0 1 + 1000 ≤ amS) ∧ Q (.inr (63, m 0 0 + 3)) (mX m 63 3 1000)) : am_wpc am_G am_T d 325 [aR r, aR x] m Q := by
  refine am_in rfl hd (fun d hd => ?_)
  refine am_go 400 [] (am_wpc_cm _ _ _) wf_325 ?_
  refine And.intro (show 0 < x by first | omega | (simp only [mS_iff, eq_self, Int.reduceEq, true_and, and_true, false_and, and_false, and_self, ↓reduceIte]; omega) | (simp only [mS_iff, eq_self, Int.reduceEq, true_and, and_true, false_and, and_false, and_self, ↓reduceIte] at *; omega)) ?_
  refine And.intro (fun h1 => ?_) (fun h1 => And.intro (by first | omega | (simp only [mS_iff, eq_self, Int.reduceEq, true_and, and_true, false_and, and_false, and_self, ↓reduceIte]; omega) | (simp only [mS_iff, eq_self, Int.reduceEq, true_and, and_true, false_and, and_false, and_self, ↓reduceIte] at *; omega)) ?_)
  · refine And.intro (show (m x (-1)) = 6 by first | assumption | omega | (simp only [mS_iff, eq_self, Int.reduceEq, true_and, and_true, false_and, and_false, and_self, ↓reduceIte]; omega) | (simp only [mS_iff, eq_self, Int.reduceEq, true_and, and_true, false_and, and_false, and_self, ↓reduceIte] at *; omega)) ?_
    exact hQ1 (by assumption)
  · refine And.intro (hQ0 (by assumption)).1 ?_
    exact (hQ0 (by assumption)).2
theorem ct_326 {d : Nat} {m : aM} {Q : aO → aM → Prop} {r b : Int} (hd : 2 ≤ d) (ht : 13 ≤ m r (-1) ∧ m r (-1) ≤ 17) (hr : 0 < r) (hm : 0 < m r 1 ∧ m (m r 1) (-1) = 6) (hb : b = 0 ∨ b = 1) (hQ : Q (.inl (some (aR (m r 1)))) (mS m (m r 1) 0 b)) : am_wpc am_G am_T d 326 [aR r, aI b] m Q := by
  refine am_in rfl hd (fun d hd => ?_)
  refine am_go 400 [] (am_wpc_cm _ _ _) wf_326 ?_
  refine And.intro (fun h1 => ?_) (fun h1 => ?_)
  · refine And.intro (by first | assumption | omega | (simp only [mS_iff, eq_self, Int.reduceEq, true_and, and_true, false_and, and_false, and_self, ↓reduceIte]; omega)) ?_
    refine ct_324 (by omega) ht hr hm ?_
    have e : b = 0 := by omega
    rw [e] at hQ; exact hQ
  · refine And.intro (by first | assumption | omega | (simp only [mS_iff, eq_self, Int.reduceEq, true_and, and_true, false_and, and_false, and_self, ↓reduceIte]; omega)) ?_
    refine ct_324 (by omega) ht hr hm ?_
    have e : b = 1 := by omega
    rw [e] at hQ; exact hQ
theorem ct_328 {d : Nat} {m : aM} {Q : aO → aM → Prop} {r v : Int} (hd : 1 ≤ d) (hQ : ∀ i, (0 ≤ v → v ≤ 2147483647 → i = v) → (¬ (0 ≤ v ∧ v ≤ 2147483647) → i < 0) → Q (.inl (some (aI i))) m) : am_wpc am_G am_T d 328 [aR r, aL v] m Q := by
  have lb : -2147483648 ≤ am_l2i v ∧ am_l2i v ≤ 2147483647 := am_l2i_b v
  refine am_in rfl hd (fun d hd => ?_)
  refine am_go 400 [] (am_wpc_cm _ _ _) wf_328 ?_
  refine And.intro (fun h1 => ?_) (fun h1 => ?_)
  · replace h1 := am_lc_ne.mp h1
    exact hQ _ (fun a b => by first | (rw [am_l2i_eq (by omega)]) | (exfalso; have := am_l2i_eq (a := v) (by omega); omega)) (fun a => by omega)
  · replace h1 := am_lc_eq.mp h1
    exact hQ _ (fun a b => by first | (rw [am_l2i_eq (by omega)]) | (exfalso; have := am_l2i_eq (a := v) (by omega); omega)) (fun a => by omega)
