/-! needs: c18 -/
/-! CALLS: at, both (the clean ones of the family: n of them, at g 0, g 1 ..); by tools/genc19.py -/
set_option maxRecDepth 100000
set_option maxHeartbeats 8000000
def c_at (n : Int) (g : Int → Int) (r : Int) : Int := if 0 ≤ r ∧ r < n then g r else -3
theorem hs_138 {d : Nat} {m : aM} {Q : aO → aM → Prop} {n r : Int} {g : Int → Int} (hd : 2 ≤ d) (hn : 0 ≤ n ∧ n ≤ 21681) (hc : m 1 45 = n) (hg : ∀ r, 0 ≤ r → r < n → m 37 r = g r) (hQ : Q (.inl (some (aI (c_at n g r)))) m) : am_wpc am_G am_T d 138 [aR 1, aI r] m Q := by
  refine am_in rfl hd (fun d hd => ?_)
  refine am_go 400 [] (am_wpc_cm _ _ _) wf_138 ?_
  refine And.intro (rfl) ?_
  refine And.intro (show -2147483648 ≤ (m 1 45) - 1 ∧ (m 1 45) - 1 ≤ 2147483647 by first | omega | (simp only [mS_iff, eq_self, Int.reduceEq, true_and, and_true, false_and, and_false, and_self, ↓reduceIte]; omega) | (simp only [mS_iff, eq_self, Int.reduceEq, true_and, and_true, false_and, and_false, and_self, ↓reduceIte] at *; omega)) ?_
  refine ct_39 (by omega) (fun h1 => ?_) (fun h1 => ?_)
  · refine And.intro (fun h => absurd h (by decide)) (fun _ => ?_)
    refine And.intro (rfl) ?_
    refine And.intro (⟨rfl, by first | omega | (simp only [mS_iff, eq_self, Int.reduceEq, true_and, and_true, false_and, and_false, and_self, ↓reduceIte]; omega) | (simp only [mS_iff, eq_self, Int.reduceEq, true_and, and_true, false_and, and_false, and_self, ↓reduceIte] at *; omega)⟩) ?_
    have ev := hg r (by omega) (by omega)
    have ev0 : c_at n g r = (m 37 r) := by
      unfold c_at
      repeat' split
      all_goals omega
    rw [ev0] at hQ
    exact hQ
  · refine And.intro (fun _ => ?_) (fun h => absurd h (by decide))
    have ev0 : c_at n g r = (-3) := by
      unfold c_at
      repeat' split
      all_goals omega
    rw [ev0] at hQ
    exact hQ
theorem ms_309 {d : Nat} {m : aM} {Q : aO → aM → Prop} {n r : Int} {g : Int → Int} (hd : 2 ≤ d) (hn : 0 ≤ n ∧ n ≤ 21681) (hc : m 41 66 = n) (hg : ∀ r, 0 ≤ r → r < n → m 75 r = g r) (hQ : Q (.inl (some (aI (c_at n g r)))) m) : am_wpc am_G am_T d 309 [aR 41, aI r] m Q := by
  refine am_in rfl hd (fun d hd => ?_)
  refine am_go 400 [] (am_wpc_cm _ _ _) wf_309 ?_
  refine And.intro (fun h1 => ?_) (fun h1 => ?_)
  · have ev0 : c_at n g r = (-3) := by
      unfold c_at
      repeat' split
      all_goals omega
    rw [ev0] at hQ
    exact hQ
  · refine And.intro (rfl) ?_
    refine And.intro (fun h2 => ?_) (fun h2 => ?_)
    · refine And.intro (rfl) ?_
      refine And.intro (⟨rfl, by first | omega | (simp only [mS_iff, eq_self, Int.reduceEq, true_and, and_true, false_and, and_false, and_self, ↓reduceIte]; omega) | (simp only [mS_iff, eq_self, Int.reduceEq, true_and, and_true, false_and, and_false, and_self, ↓reduceIte] at *; omega)⟩) ?_
      have ev := hg r (by omega) (by omega)
      have ev0 : c_at n g r = (m 75 r) := by
        unfold c_at
        repeat' split
        all_goals omega
      rw [ev0] at hQ
      exact hQ
    · have ev0 : c_at n g r = (-3) := by
        unfold c_at
        repeat' split
        all_goals omega
      rw [ev0] at hQ
      exact hQ
