/-! needs: 89 -/
/-! CONTRACTS: tokens of the house; by tools/gen90.py -/
set_option maxRecDepth 100000
theorem ct_150 {d : Nat} {m : aM} {Q : aO → aM → Prop} {c : Int} (hd : 1 ≤ d)  (hQ1 : x_lt c → Q (.inl (some (aI 1))) m) (hQ0 : ¬ (x_lt c) → Q (.inl (some (aI 0))) m) : am_wpc am_G am_T d 150 [aR 13, aI c] m Q := by
  refine am_in rfl hd (fun d hd => ?_)
  refine am_go 400 [] (am_wpc_cm _ _ _) wf_150 ?_
  refine And.intro (fun h1 => ?_) (fun h1 => ?_)
  · refine And.intro (by first | omega | (simp only [mS_iff, eq_self, Int.reduceEq, true_and, and_true, false_and, and_false, and_self, ↓reduceIte]; omega) | (simp only [mS_iff, eq_self, Int.reduceEq, true_and, and_true, false_and, and_false, and_self, ↓reduceIte] at *; omega)) ?_
    exact hQ0 (by unfold x_lt; omega)
  · refine And.intro (fun h2 => ?_) (fun h2 => ?_)
    · refine And.intro (by first | omega | (simp only [mS_iff, eq_self, Int.reduceEq, true_and, and_true, false_and, and_false, and_self, ↓reduceIte]; omega) | (simp only [mS_iff, eq_self, Int.reduceEq, true_and, and_true, false_and, and_false, and_self, ↓reduceIte] at *; omega)) ?_
      exact hQ0 (by unfold x_lt; omega)
    · refine And.intro (by first | omega | (simp only [mS_iff, eq_self, Int.reduceEq, true_and, and_true, false_and, and_false, and_self, ↓reduceIte]; omega) | (simp only [mS_iff, eq_self, Int.reduceEq, true_and, and_true, false_and, and_false, and_self, ↓reduceIte] at *; omega)) ?_
      exact hQ1 (by unfold x_lt; omega)
theorem ct_152 {d : Nat} {m : aM} {Q : aO → aM → Prop} {c : Int} (hd : 1 ≤ d)  (hQ1 : x_dg c → Q (.inl (some (aI 1))) m) (hQ0 : ¬ (x_dg c) → Q (.inl (some (aI 0))) m) : am_wpc am_G am_T d 152 [aR 13, aI c] m Q := by
  refine am_in rfl hd (fun d hd => ?_)
  refine am_go 400 [] (am_wpc_cm _ _ _) wf_152 ?_
  refine And.intro (fun h1 => ?_) (fun h1 => ?_)
  · refine And.intro (by first | omega | (simp only [mS_iff, eq_self, Int.reduceEq, true_and, and_true, false_and, and_false, and_self, ↓reduceIte]; omega) | (simp only [mS_iff, eq_self, Int.reduceEq, true_and, and_true, false_and, and_false, and_self, ↓reduceIte] at *; omega)) ?_
    exact hQ0 (by unfold x_dg; omega)
  · refine And.intro (fun h2 => ?_) (fun h2 => ?_)
    · refine And.intro (by first | omega | (simp only [mS_iff, eq_self, Int.reduceEq, true_and, and_true, false_and, and_false, and_self, ↓reduceIte]; omega) | (simp only [mS_iff, eq_self, Int.reduceEq, true_and, and_true, false_and, and_false, and_self, ↓reduceIte] at *; omega)) ?_
      exact hQ0 (by unfold x_dg; omega)
    · refine And.intro (by first | omega | (simp only [mS_iff, eq_self, Int.reduceEq, true_and, and_true, false_and, and_false, and_self, ↓reduceIte]; omega) | (simp only [mS_iff, eq_self, Int.reduceEq, true_and, and_true, false_and, and_false, and_self, ↓reduceIte] at *; omega)) ?_
      exact hQ1 (by unfold x_dg; omega)
theorem ct_151 {d : Nat} {m : aM} {Q : aO → aM → Prop} {j n : Int} (hd : 5 ≤ d) (hW : hWd m) (hj : 0 ≤ j ∧ 0 ≤ n ∧ j + n ≤ 1200) (hQ : ∀ k, x_wd (m 14) j n k → Q (.inl (some (aI k))) m) : am_wpc am_G am_T d 151 [aR 13, aI j, aI n] m Q := by
  refine am_in rfl hd (fun d hd => ?_)
  have K2 : ∀ (N : Nat), ∀ (w : Int) (x4 : aV) (x5 : aV), (67 - w).toNat = N → (0 ≤ w ∧ w ≤ 67) → (∀ u, 0 ≤ u → u < w → ¬ x_mt (m 14) j n u) → am_WP am_G (am_wpc am_G am_T d) [] cd_151 Q 2 [aR 13, aI j, aI n, aI w, x4, x5] [] m := by
    intro N
    induction N using Nat.strongRecOn with
    | _ N ih2 =>
      intro w x4 x5 hN i0 i1
      have K40 : ∀ (N : Nat), ∀ (s : Int) (k : Int), (n - k).toNat = N → (w < 67 ∧ 0 ≤ k ∧ k ≤ n ∧ (s = 0 ∨ s = 1)) → ((s = 1 → ((s_wb w).length : Int) = n ∧ ∀ i, 0 ≤ i → i < k → (s_wb w).getD i.toNat 0 = m 14 (j + i)) ∧ (s = 0 → ¬ x_mt (m 14) j n w)) → am_WP am_G (am_wpc am_G am_T d) [] cd_151 Q 40 [aR 13, aI j, aI n, aI w, aI s, aI k] [] m := by
        intro N
        induction N using Nat.strongRecOn with
        | _ N ih40 =>
          intro s k hN j0 i2
          have wl := s_wb_b (w := w) (by omega)
          refine am_go 400 [2, 40] (am_wpc_cm _ _ _) wf_151 ?_
          refine And.intro (fun h1 => ?_) (fun h1 => ?_)
          · refine And.intro (fun h2 => ?_) (fun h2 => ?_)
            · refine And.intro (show -2147483648 ≤ w + 1 ∧ w + 1 ≤ 2147483647 by first | omega | (simp only [mS_iff, eq_self, Int.reduceEq, true_and, and_true, false_and, and_false, and_self, ↓reduceIte]; omega) | (simp only [mS_iff, eq_self, Int.reduceEq, true_and, and_true, false_and, and_false, and_self, ↓reduceIte] at *; omega)) ?_
              refine ih2 _ ?_ _ _ _ (Eq.refl _) ?_ ?_
              · omega
              · first | omega | (simp only [mS_iff, eq_self, Int.reduceEq, true_and, and_true, false_and, and_false, and_self, ↓reduceIte]; omega) | (simp only [mS_iff, eq_self, Int.reduceEq, true_and, and_true, false_and, and_false, and_self, ↓reduceIte] at *; omega)
              · intro u a b
                by_cases e : u = w
                · subst e; exact i2.2 (by omega)
                · exact i1 u a (by omega)
            · exact hQ _ (Or.inl ⟨by omega, by omega, (i2.1 (by omega)).1, fun i a b => (i2.1 (by omega)).2 i a (by omega)⟩)
          · refine And.intro (fun h3 => ?_) (fun h3 => ?_)
            · refine And.intro (fun h4 => ?_) (fun h4 => ?_)
              · refine And.intro (show -2147483648 ≤ w + 1 ∧ w + 1 ≤ 2147483647 by first | omega | (simp only [mS_iff, eq_self, Int.reduceEq, true_and, and_true, false_and, and_false, and_self, ↓reduceIte]; omega) | (simp only [mS_iff, eq_self, Int.reduceEq, true_and, and_true, false_and, and_false, and_self, ↓reduceIte] at *; omega)) ?_
                refine ih2 _ ?_ _ _ _ (Eq.refl _) ?_ ?_
                · omega
                · first | omega | (simp only [mS_iff, eq_self, Int.reduceEq, true_and, and_true, false_and, and_false, and_self, ↓reduceIte]; omega) | (simp only [mS_iff, eq_self, Int.reduceEq, true_and, and_true, false_and, and_false, and_self, ↓reduceIte] at *; omega)
                · intro u a b
                  by_cases e : u = w
                  · subst e; exact i2.2 (by omega)
                  · exact i1 u a (by omega)
              · exact hQ _ (Or.inl ⟨by omega, by omega, (i2.1 (by omega)).1, fun i a b => (i2.1 (by omega)).2 i a (by omega)⟩)
            · have ln := (i2.1 (by omega)).1
              refine And.intro (rfl) ?_
              refine And.intro (rfl) ?_
              refine And.intro (⟨rfl, by first | omega | (simp only [mS_iff, eq_self, Int.reduceEq, true_and, and_true, false_and, and_false, and_self, ↓reduceIte]; omega) | (simp only [mS_iff, eq_self, Int.reduceEq, true_and, and_true, false_and, and_false, and_self, ↓reduceIte] at *; omega)⟩) ?_
              refine And.intro (show m (m 2 w) (-1) = 30 by rw [hW.2 w (by omega) (by omega)]; exact (hW.1.str (by omega)).1.1) ?_
              refine ct_22 (by omega) hW.1 (by omega) (hW.2 w (by omega) (by omega)) (by omega) (fun v5 h6 => ?_)
              refine And.intro (rfl) ?_
              refine And.intro (show -2147483648 ≤ j + k ∧ j + k ≤ 2147483647 by first | omega | (simp only [mS_iff, eq_self, Int.reduceEq, true_and, and_true, false_and, and_false, and_self, ↓reduceIte]; omega) | (simp only [mS_iff, eq_self, Int.reduceEq, true_and, and_true, false_and, and_false, and_self, ↓reduceIte] at *; omega)) ?_
              refine And.intro (⟨rfl, by first | omega | (simp only [mS_iff, eq_self, Int.reduceEq, true_and, and_true, false_and, and_false, and_self, ↓reduceIte]; omega) | (simp only [mS_iff, eq_self, Int.reduceEq, true_and, and_true, false_and, and_false, and_self, ↓reduceIte] at *; omega)⟩) ?_
              refine And.intro (fun h7 => ?_) (fun h7 => ?_)
              · refine And.intro (show -2147483648 ≤ k + 1 ∧ k + 1 ≤ 2147483647 by first | omega | (simp only [mS_iff, eq_self, Int.reduceEq, true_and, and_true, false_and, and_false, and_self, ↓reduceIte]; omega) | (simp only [mS_iff, eq_self, Int.reduceEq, true_and, and_true, false_and, and_false, and_self, ↓reduceIte] at *; omega)) ?_
                refine ih40 _ ?_ _ _ (Eq.refl _) ?_ ?_
                · omega
                · first | omega | (simp only [mS_iff, eq_self, Int.reduceEq, true_and, and_true, false_and, and_false, and_self, ↓reduceIte]; omega) | (simp only [mS_iff, eq_self, Int.reduceEq, true_and, and_true, false_and, and_false, and_self, ↓reduceIte] at *; omega)
                · refine ⟨fun e => ⟨by have := (i2.1 (by omega)).1; omega, fun i a b => ?_⟩, fun e q => ?_⟩
                  · by_cases z : i = k
                    · subst z; omega
                    · exact (i2.1 (by omega)).2 i a (by omega)
                  · have := q.2 k (by omega) (by omega)
                    omega
              · refine And.intro (show -2147483648 ≤ k + 1 ∧ k + 1 ≤ 2147483647 by first | omega | (simp only [mS_iff, eq_self, Int.reduceEq, true_and, and_true, false_and, and_false, and_self, ↓reduceIte]; omega) | (simp only [mS_iff, eq_self, Int.reduceEq, true_and, and_true, false_and, and_false, and_self, ↓reduceIte] at *; omega)) ?_
                refine ih40 _ ?_ _ _ (Eq.refl _) ?_ ?_
                · omega
                · first | omega | (simp only [mS_iff, eq_self, Int.reduceEq, true_and, and_true, false_and, and_false, and_self, ↓reduceIte]; omega) | (simp only [mS_iff, eq_self, Int.reduceEq, true_and, and_true, false_and, and_false, and_self, ↓reduceIte] at *; omega)
                · refine ⟨fun e => ⟨by have := (i2.1 (by omega)).1; omega, fun i a b => ?_⟩, fun e q => ?_⟩
                  · by_cases z : i = k
                    · subst z; omega
                    · exact (i2.1 (by omega)).2 i a (by omega)
                  · have := q.2 k (by omega) (by omega)
                    omega
      refine am_go 400 [2, 40] (am_wpc_cm _ _ _) wf_151 ?_
      refine And.intro (rfl) ?_
      refine And.intro (rfl) ?_
      refine And.intro (rfl) ?_
      refine And.intro (fun h8 => ?_) (fun h8 => ?_)
      · exact hQ _ (Or.inr ⟨rfl, fun u a b => i1 u a (by omega)⟩)
      · refine And.intro (rfl) ?_
        refine And.intro (rfl) ?_
        refine And.intro (⟨rfl, by first | omega | (simp only [mS_iff, eq_self, Int.reduceEq, true_and, and_true, false_and, and_false, and_self, ↓reduceIte]; omega) | (simp only [mS_iff, eq_self, Int.reduceEq, true_and, and_true, false_and, and_false, and_self, ↓reduceIte] at *; omega)⟩) ?_
        refine And.intro (show m (m 2 w) (-1) = 30 by rw [hW.2 w (by omega) (by omega)]; exact (hW.1.str (by omega)).1.1) ?_
        refine ct_20 (by omega) hW.1 (by omega) (hW.2 w (by omega) (by omega)) (fun v9 h10 => ?_)
        have wl := s_wb_b (w := w) (by omega)
        refine And.intro (fun h11 => ?_) (fun h11 => ?_)
        · refine K40 _ _ _ (Eq.refl _) ?_ ?_
          · first | omega | (simp only [mS_iff, eq_self, Int.reduceEq, true_and, and_true, false_and, and_false, and_self, ↓reduceIte]; omega) | (simp only [mS_iff, eq_self, Int.reduceEq, true_and, and_true, false_and, and_false, and_self, ↓reduceIte] at *; omega)
          · exact ⟨fun e => ⟨by omega, fun i a b => by omega⟩, fun e q => by have := q.1; omega⟩
        · refine K40 _ _ _ (Eq.refl _) ?_ ?_
          · first | omega | (simp only [mS_iff, eq_self, Int.reduceEq, true_and, and_true, false_and, and_false, and_self, ↓reduceIte]; omega) | (simp only [mS_iff, eq_self, Int.reduceEq, true_and, and_true, false_and, and_false, and_self, ↓reduceIte] at *; omega)
          · exact ⟨fun e => ⟨by omega, fun i a b => by omega⟩, fun e q => by have := q.1; omega⟩
  refine am_go 400 [2, 40] (am_wpc_cm _ _ _) wf_151 ?_
  refine K2 _ _ _ _ (Eq.refl _) ?_ ?_
  · first | omega | (simp only [mS_iff, eq_self, Int.reduceEq, true_and, and_true, false_and, and_false, and_self, ↓reduceIte]; omega) | (simp only [mS_iff, eq_self, Int.reduceEq, true_and, and_true, false_and, and_false, and_self, ↓reduceIte] at *; omega)
  · intro u a b
    omega
/-- one token more is told: only sort and number at q are written -/
def fr_T (q : Int) (m m' : aM) : Prop := ∀ r j, (r ≠ 15 ∨ j ≠ q) → (r ≠ 17 ∨ j ≠ q) → m' r j = m r j
theorem ct_149 {d : Nat} {m : aM} {Q : aO → aM → Prop} {j n : Int} (hd : 6 ≤ d) (hW : hWd m) (hn : m 13 4 = n ∧ n ≤ 1200) (hb : ∀ k, 0 ≤ k → k < n → 0 ≤ m 14 k ∧ m 14 k ≤ 255) (hj : 0 ≤ j ∧ j < n) (hq : 0 ≤ m 13 8 ∧ m 13 8 ≤ 1200) (hv : m 17 (m 13 8) = 0) (hQ : ∀ m' e, fr_T (m 13 8) m m' → x_tk (m 14) n j (m' 15 (m 13 8)) (m' 17 (m 13 8)) e → Q (.inl (some (aI e))) m') : am_wpc am_G am_T d 149 [aR 13, aI j] m Q := by
  have bj := hb j (by omega) (by omega)
  refine am_in rfl hd (fun d hd => ?_)
  have K240 : ∀ (s : Int), (¬ x_lt (m 14 j)) → (¬ x_dg (m 14 j)) → ((s = 1 ∧ x_sg (m 14 j)) ∨ (s = 0 ∧ ¬ x_sg (m 14 j))) → am_WP am_G (am_wpc am_G am_T d) [] cd_149 Q 240 [aR 13, aI j, aI j, aI (m 14 j), aI s] [] m := by
    intro s l0 g0 ss
    refine am_go 400 [240, 87, 17] (am_wpc_cm _ _ _) wf_149 ?_
    refine And.intro (rfl) ?_
    refine And.intro (rfl) ?_
    refine And.intro (fun h1 => ?_) (fun h1 => ?_)
    · refine And.intro (⟨rfl, by first | omega | (simp only [mS_iff, eq_self, Int.reduceEq, true_and, and_true, false_and, and_false, and_self, ↓reduceIte]; omega) | (simp only [mS_iff, eq_self, Int.reduceEq, true_and, and_true, false_and, and_false, and_self, ↓reduceIte] at *; omega)⟩) ?_
      refine And.intro (show -2147483648 ≤ j + 1 ∧ j + 1 ≤ 2147483647 by first | omega | (simp only [mS_iff, eq_self, Int.reduceEq, true_and, and_true, false_and, and_false, and_self, ↓reduceIte]; omega) | (simp only [mS_iff, eq_self, Int.reduceEq, true_and, and_true, false_and, and_false, and_self, ↓reduceIte] at *; omega)) ?_
      refine hQ _ _ (fun r a x y => by rw [mS_iff, if_neg (by omega)]) ?_
      rw [mS_eq, show mS m 15 (m 13 8) 72 17 (m 13 8) = 0 from hv]
      refine Or.inr (Or.inr (Or.inr ⟨by omega, l0, g0, rfl, rfl, ?_⟩))
      first | exact Or.inl ⟨ss.resolve_right (by omega) |>.2, rfl⟩ | exact Or.inr ⟨ss.resolve_left (by omega) |>.2, rfl⟩
    · refine And.intro (show -2147483648 ≤ 100 + (m 14 j) ∧ 100 + (m 14 j) ≤ 2147483647 by first | omega | (simp only [mS_iff, eq_self, Int.reduceEq, true_and, and_true, false_and, and_false, and_self, ↓reduceIte]; omega) | (simp only [mS_iff, eq_self, Int.reduceEq, true_and, and_true, false_and, and_false, and_self, ↓reduceIte] at *; omega)) ?_
      refine And.intro (⟨rfl, by first | omega | (simp only [mS_iff, eq_self, Int.reduceEq, true_and, and_true, false_and, and_false, and_self, ↓reduceIte]; omega) | (simp only [mS_iff, eq_self, Int.reduceEq, true_and, and_true, false_and, and_false, and_self, ↓reduceIte] at *; omega)⟩) ?_
      refine And.intro (show -2147483648 ≤ j + 1 ∧ j + 1 ≤ 2147483647 by first | omega | (simp only [mS_iff, eq_self, Int.reduceEq, true_and, and_true, false_and, and_false, and_self, ↓reduceIte]; omega) | (simp only [mS_iff, eq_self, Int.reduceEq, true_and, and_true, false_and, and_false, and_self, ↓reduceIte] at *; omega)) ?_
      refine hQ _ _ (fun r a x y => by rw [mS_iff, if_neg (by omega)]) ?_
      rw [mS_eq, show mS m 15 (m 13 8) (100 + (m 14 j)) 17 (m 13 8) = 0 from hv]
      refine Or.inr (Or.inr (Or.inr ⟨by omega, l0, g0, rfl, rfl, ?_⟩))
      first | exact Or.inl ⟨ss.resolve_right (by omega) |>.2, rfl⟩ | exact Or.inr ⟨ss.resolve_left (by omega) |>.2, rfl⟩
  have K87 : ∀ (N : Nat), ∀ (i : Int) (v : Int), (n - i).toNat = N → (x_dg (m 14 j)) → (j ≤ i ∧ i ≤ n) → (∀ k, j ≤ k → k < i → x_dg (m 14 k)) → (v = x_dec (m 14) j (if i - j < 4 then i - j else 4).toNat) → am_WP am_G (am_wpc am_G am_T d) [] cd_149 Q 87 [aR 13, aI j, aI i, aI (m 14 j), aI v] [] m := by
    intro N
    induction N using Nat.strongRecOn with
    | _ N ih87 =>
      intro i v hN g0 i0 i1 i2
      have vb := x_dec_b (t := m 14) (j := j) (n := i) i1 (if i - j < 4 then i - j else 4).toNat (by omega) (by omega)
      rw [← i2] at vb
      have vb2 : 0 ≤ v ∧ v ≤ 9999 := by
        refine ⟨vb.1, ?_⟩
        have q := vb.2
        split at q
        · omega
        · split at q
          · omega
          · split at q
            · omega
            · split at q <;> omega
      refine am_go 400 [240, 87, 17] (am_wpc_cm _ _ _) wf_149 ?_
      refine And.intro (rfl) ?_
      refine And.intro (fun h2 => ?_) (fun h2 => ?_)
      · have ij : j < i := by
          by_cases z : i = j
          · subst z; first | omega | exact absurd g0 g1
          · omega
        refine And.intro (rfl) ?_
        refine And.intro (rfl) ?_
        refine And.intro (show -2147483648 ≤ i - j ∧ i - j ≤ 2147483647 by first | omega | (simp only [mS_iff, eq_self, Int.reduceEq, true_and, and_true, false_and, and_false, and_self, ↓reduceIte]; omega) | (simp only [mS_iff, eq_self, Int.reduceEq, true_and, and_true, false_and, and_false, and_self, ↓reduceIte] at *; omega)) ?_
        refine And.intro (fun h3 => ?_) (fun h3 => ?_)
        · refine And.intro (⟨rfl, by first | omega | (simp only [mS_iff, eq_self, Int.reduceEq, true_and, and_true, false_and, and_false, and_self, ↓reduceIte]; omega) | (simp only [mS_iff, eq_self, Int.reduceEq, true_and, and_true, false_and, and_false, and_self, ↓reduceIte] at *; omega)⟩) ?_
          refine And.intro (rfl) ?_
          refine And.intro (rfl) ?_
          refine And.intro (⟨rfl, by first | omega | (simp only [mS_iff, eq_self, Int.reduceEq, true_and, and_true, false_and, and_false, and_self, ↓reduceIte]; omega) | (simp only [mS_iff, eq_self, Int.reduceEq, true_and, and_true, false_and, and_false, and_self, ↓reduceIte] at *; omega)⟩) ?_
          show Q (.inl (some (aI i))) (mS (mS m 15 (m 13 8) 70) 17 (m 13 8) v)
          refine hQ _ _ (fun r a x y => by rw [mS_iff, if_neg (by omega)]; rw [mS_iff, if_neg (by omega)]) ?_
          rw [mS_eq, show mS (mS m 15 (m 13 8) 70) 17 (m 13 8) v 15 (m 13 8) = 70 by rw [mS_a _ _ _ _ (by omega), mS_eq]]
          refine Or.inr (Or.inr (Or.inl ⟨by omega, g0, ⟨by omega, by omega, i1, fun z => by first | exact g1 | omega⟩, i2, ?_⟩))
          first | exact Or.inl ⟨by omega, rfl⟩ | exact Or.inr ⟨by omega, rfl⟩
        · refine And.intro (⟨rfl, by first | omega | (simp only [mS_iff, eq_self, Int.reduceEq, true_and, and_true, false_and, and_false, and_self, ↓reduceIte]; omega) | (simp only [mS_iff, eq_self, Int.reduceEq, true_and, and_true, false_and, and_false, and_self, ↓reduceIte] at *; omega)⟩) ?_
          refine And.intro (rfl) ?_
          refine And.intro (rfl) ?_
          refine And.intro (⟨rfl, by first | omega | (simp only [mS_iff, eq_self, Int.reduceEq, true_and, and_true, false_and, and_false, and_self, ↓reduceIte]; omega) | (simp only [mS_iff, eq_self, Int.reduceEq, true_and, and_true, false_and, and_false, and_self, ↓reduceIte] at *; omega)⟩) ?_
          show Q (.inl (some (aI i))) (mS (mS m 15 (m 13 8) 72) 17 (m 13 8) v)
          refine hQ _ _ (fun r a x y => by rw [mS_iff, if_neg (by omega)]; rw [mS_iff, if_neg (by omega)]) ?_
          rw [mS_eq, show mS (mS m 15 (m 13 8) 72) 17 (m 13 8) v 15 (m 13 8) = 72 by rw [mS_a _ _ _ _ (by omega), mS_eq]]
          refine Or.inr (Or.inr (Or.inl ⟨by omega, g0, ⟨by omega, by omega, i1, fun z => by first | exact g1 | omega⟩, i2, ?_⟩))
          first | exact Or.inl ⟨by omega, rfl⟩ | exact Or.inr ⟨by omega, rfl⟩
      · have bi := hb i (by omega) (by omega)
        refine And.intro (rfl) ?_
        refine And.intro (⟨rfl, by first | omega | (simp only [mS_iff, eq_self, Int.reduceEq, true_and, and_true, false_and, and_false, and_self, ↓reduceIte]; omega) | (simp only [mS_iff, eq_self, Int.reduceEq, true_and, and_true, false_and, and_false, and_self, ↓reduceIte] at *; omega)⟩) ?_
        refine And.intro (rfl) ?_
        refine ct_152 (by omega) (fun h4 => ?_) (fun h4 => ?_)
        · have g1 := h4
          refine And.intro (fun h => absurd h (by decide)) (fun _ => ?_)
          refine And.intro (show -2147483648 ≤ i - j ∧ i - j ≤ 2147483647 by first | omega | (simp only [mS_iff, eq_self, Int.reduceEq, true_and, and_true, false_and, and_false, and_self, ↓reduceIte]; omega) | (simp only [mS_iff, eq_self, Int.reduceEq, true_and, and_true, false_and, and_false, and_self, ↓reduceIte] at *; omega)) ?_
          refine And.intro (fun h5 => ?_) (fun h5 => ?_)
          · refine And.intro (show -2147483648 ≤ i + 1 ∧ i + 1 ≤ 2147483647 by first | omega | (simp only [mS_iff, eq_self, Int.reduceEq, true_and, and_true, false_and, and_false, and_self, ↓reduceIte]; omega) | (simp only [mS_iff, eq_self, Int.reduceEq, true_and, and_true, false_and, and_false, and_self, ↓reduceIte] at *; omega)) ?_
            refine ih87 _ ?_ _ _ (Eq.refl _) ?_ ?_ ?_ ?_
            · omega
            · exact g0
            · omega
            · intro k a b
              by_cases e : k = i
              · subst e; exact g1
              · exact i1 k a (by omega)
            · first
                | (rw [show (if i + 1 - j < 4 then i + 1 - j else 4) = (i - j) + 1 by omega, x_dec_s (by omega), show j + (i - j) = i by omega]; rw [if_pos (by omega)] at i2; omega)
                | (rw [if_neg (by omega)]; rw [if_neg (by omega)] at i2; exact i2)
          · refine And.intro (show -2147483648 ≤ 10 * v ∧ 10 * v ≤ 2147483647 by first | omega | (simp only [mS_iff, eq_self, Int.reduceEq, true_and, and_true, false_and, and_false, and_self, ↓reduceIte]; omega) | (simp only [mS_iff, eq_self, Int.reduceEq, true_and, and_true, false_and, and_false, and_self, ↓reduceIte] at *; omega)) ?_
            refine And.intro (rfl) ?_
            refine And.intro (⟨rfl, by first | omega | (simp only [mS_iff, eq_self, Int.reduceEq, true_and, and_true, false_and, and_false, and_self, ↓reduceIte]; omega) | (simp only [mS_iff, eq_self, Int.reduceEq, true_and, and_true, false_and, and_false, and_self, ↓reduceIte] at *; omega)⟩) ?_
            refine And.intro (show -2147483648 ≤ (10 * v) + (m 14 i) ∧ (10 * v) + (m 14 i) ≤ 2147483647 by first | omega | (simp only [mS_iff, eq_self, Int.reduceEq, true_and, and_true, false_and, and_false, and_self, ↓reduceIte]; omega) | (simp only [mS_iff, eq_self, Int.reduceEq, true_and, and_true, false_and, and_false, and_self, ↓reduceIte] at *; omega)) ?_
            refine And.intro (show -2147483648 ≤ ((10 * v) + (m 14 i)) - 48 ∧ ((10 * v) + (m 14 i)) - 48 ≤ 2147483647 by first | omega | (simp only [mS_iff, eq_self, Int.reduceEq, true_and, and_true, false_and, and_false, and_self, ↓reduceIte]; omega) | (simp only [mS_iff, eq_self, Int.reduceEq, true_and, and_true, false_and, and_false, and_self, ↓reduceIte] at *; omega)) ?_
            refine And.intro (show -2147483648 ≤ i + 1 ∧ i + 1 ≤ 2147483647 by first | omega | (simp only [mS_iff, eq_self, Int.reduceEq, true_and, and_true, false_and, and_false, and_self, ↓reduceIte]; omega) | (simp only [mS_iff, eq_self, Int.reduceEq, true_and, and_true, false_and, and_false, and_self, ↓reduceIte] at *; omega)) ?_
            refine ih87 _ ?_ _ _ (Eq.refl _) ?_ ?_ ?_ ?_
            · omega
            · exact g0
            · omega
            · intro k a b
              by_cases e : k = i
              · subst e; exact g1
              · exact i1 k a (by omega)
            · first
                | (rw [show (if i + 1 - j < 4 then i + 1 - j else 4) = (i - j) + 1 by omega, x_dec_s (by omega), show j + (i - j) = i by omega]; rw [if_pos (by omega)] at i2; omega)
                | (rw [if_neg (by omega)]; rw [if_neg (by omega)] at i2; exact i2)
        · have g1 := h4
          refine And.intro (fun _ => ?_) (fun h => absurd h (by decide))
          have ij : j < i := by
            by_cases z : i = j
            · subst z; first | omega | exact absurd g0 g1
            · omega
          refine And.intro (rfl) ?_
          refine And.intro (rfl) ?_
          refine And.intro (show -2147483648 ≤ i - j ∧ i - j ≤ 2147483647 by first | omega | (simp only [mS_iff, eq_self, Int.reduceEq, true_and, and_true, false_and, and_false, and_self, ↓reduceIte]; omega) | (simp only [mS_iff, eq_self, Int.reduceEq, true_and, and_true, false_and, and_false, and_self, ↓reduceIte] at *; omega)) ?_
          refine And.intro (fun h6 => ?_) (fun h6 => ?_)
          · refine And.intro (⟨rfl, by first | omega | (simp only [mS_iff, eq_self, Int.reduceEq, true_and, and_true, false_and, and_false, and_self, ↓reduceIte]; omega) | (simp only [mS_iff, eq_self, Int.reduceEq, true_and, and_true, false_and, and_false, and_self, ↓reduceIte] at *; omega)⟩) ?_
            refine And.intro (rfl) ?_
            refine And.intro (rfl) ?_
            refine And.intro (⟨rfl, by first | omega | (simp only [mS_iff, eq_self, Int.reduceEq, true_and, and_true, false_and, and_false, and_self, ↓reduceIte]; omega) | (simp only [mS_iff, eq_self, Int.reduceEq, true_and, and_true, false_and, and_false, and_self, ↓reduceIte] at *; omega)⟩) ?_
            show Q (.inl (some (aI i))) (mS (mS m 15 (m 13 8) 70) 17 (m 13 8) v)
            refine hQ _ _ (fun r a x y => by rw [mS_iff, if_neg (by omega)]; rw [mS_iff, if_neg (by omega)]) ?_
            rw [mS_eq, show mS (mS m 15 (m 13 8) 70) 17 (m 13 8) v 15 (m 13 8) = 70 by rw [mS_a _ _ _ _ (by omega), mS_eq]]
            refine Or.inr (Or.inr (Or.inl ⟨by omega, g0, ⟨by omega, by omega, i1, fun z => by first | exact g1 | omega⟩, i2, ?_⟩))
            first | exact Or.inl ⟨by omega, rfl⟩ | exact Or.inr ⟨by omega, rfl⟩
          · refine And.intro (⟨rfl, by first | omega | (simp only [mS_iff, eq_self, Int.reduceEq, true_and, and_true, false_and, and_false, and_self, ↓reduceIte]; omega) | (simp only [mS_iff, eq_self, Int.reduceEq, true_and, and_true, false_and, and_false, and_self, ↓reduceIte] at *; omega)⟩) ?_
            refine And.intro (rfl) ?_
            refine And.intro (rfl) ?_
            refine And.intro (⟨rfl, by first | omega | (simp only [mS_iff, eq_self, Int.reduceEq, true_and, and_true, false_and, and_false, and_self, ↓reduceIte]; omega) | (simp only [mS_iff, eq_self, Int.reduceEq, true_and, and_true, false_and, and_false, and_self, ↓reduceIte] at *; omega)⟩) ?_
            show Q (.inl (some (aI i))) (mS (mS m 15 (m 13 8) 72) 17 (m 13 8) v)
            refine hQ _ _ (fun r a x y => by rw [mS_iff, if_neg (by omega)]; rw [mS_iff, if_neg (by omega)]) ?_
            rw [mS_eq, show mS (mS m 15 (m 13 8) 72) 17 (m 13 8) v 15 (m 13 8) = 72 by rw [mS_a _ _ _ _ (by omega), mS_eq]]
            refine Or.inr (Or.inr (Or.inl ⟨by omega, g0, ⟨by omega, by omega, i1, fun z => by first | exact g1 | omega⟩, i2, ?_⟩))
            first | exact Or.inl ⟨by omega, rfl⟩ | exact Or.inr ⟨by omega, rfl⟩
  have K17 : ∀ (N : Nat), ∀ (i : Int), (n - i).toNat = N → (x_lt (m 14 j)) → (j ≤ i ∧ i ≤ n) → (∀ k, j ≤ k → k < i → x_lt (m 14 k)) → am_WP am_G (am_wpc am_G am_T d) [] cd_149 Q 17 [aR 13, aI j, aI i, aI (m 14 j), aU] [] m := by
    intro N
    induction N using Nat.strongRecOn with
    | _ N ih17 =>
      intro i hN l0 i0 i1
      refine am_go 400 [240, 87, 17] (am_wpc_cm _ _ _) wf_149 ?_
      refine And.intro (rfl) ?_
      refine And.intro (fun h7 => ?_) (fun h7 => ?_)
      · have ij : j < i := by
          by_cases z : i = j
          · subst z; first | omega | exact absurd l0 l1
          · omega
        refine And.intro (rfl) ?_
        refine And.intro (rfl) ?_
        refine And.intro (show -2147483648 ≤ i - j ∧ i - j ≤ 2147483647 by first | omega | (simp only [mS_iff, eq_self, Int.reduceEq, true_and, and_true, false_and, and_false, and_self, ↓reduceIte]; omega) | (simp only [mS_iff, eq_self, Int.reduceEq, true_and, and_true, false_and, and_false, and_self, ↓reduceIte] at *; omega)) ?_
        refine And.intro (fun h8 => ?_) (fun h8 => ?_)
        · refine And.intro (show -2147483648 ≤ i - j ∧ i - j ≤ 2147483647 by first | omega | (simp only [mS_iff, eq_self, Int.reduceEq, true_and, and_true, false_and, and_false, and_self, ↓reduceIte]; omega) | (simp only [mS_iff, eq_self, Int.reduceEq, true_and, and_true, false_and, and_false, and_self, ↓reduceIte] at *; omega)) ?_
          refine And.intro (rfl) ?_
          refine ct_151 (by omega) hW (by omega) (fun k9 h10 => ?_)
          have kw := h10
          refine And.intro (⟨rfl, by first | omega | (simp only [mS_iff, eq_self, Int.reduceEq, true_and, and_true, false_and, and_false, and_self, ↓reduceIte]; omega) | (simp only [mS_iff, eq_self, Int.reduceEq, true_and, and_true, false_and, and_false, and_self, ↓reduceIte] at *; omega)⟩) ?_
          refine hQ _ _ (fun r a x y => by rw [mS_iff, if_neg (by omega)]) ?_
          rw [mS_eq, show mS m 15 (m 13 8) k9 17 (m 13 8) = 0 from hv]
          refine Or.inr (Or.inl ⟨by omega, l0, ⟨by omega, by omega, i1, fun z => by first | exact l1 | omega⟩, rfl, ?_⟩)
          first | exact Or.inl ⟨by omega, rfl⟩ | exact Or.inr ⟨by omega, kw⟩
        · refine And.intro (⟨rfl, by first | omega | (simp only [mS_iff, eq_self, Int.reduceEq, true_and, and_true, false_and, and_false, and_self, ↓reduceIte]; omega) | (simp only [mS_iff, eq_self, Int.reduceEq, true_and, and_true, false_and, and_false, and_self, ↓reduceIte] at *; omega)⟩) ?_
          refine hQ _ _ (fun r a x y => by rw [mS_iff, if_neg (by omega)]) ?_
          rw [mS_eq, show mS m 15 (m 13 8) 72 17 (m 13 8) = 0 from hv]
          refine Or.inr (Or.inl ⟨by omega, l0, ⟨by omega, by omega, i1, fun z => by first | exact l1 | omega⟩, rfl, ?_⟩)
          first | exact Or.inl ⟨by omega, rfl⟩ | exact Or.inr ⟨by omega, kw⟩
      · have bi := hb i (by omega) (by omega)
        refine And.intro (rfl) ?_
        refine And.intro (⟨rfl, by first | omega | (simp only [mS_iff, eq_self, Int.reduceEq, true_and, and_true, false_and, and_false, and_self, ↓reduceIte]; omega) | (simp only [mS_iff, eq_self, Int.reduceEq, true_and, and_true, false_and, and_false, and_self, ↓reduceIte] at *; omega)⟩) ?_
        refine And.intro (rfl) ?_
        refine ct_150 (by omega) (fun h11 => ?_) (fun h11 => ?_)
        · have l1 := h11
          refine And.intro (fun h => absurd h (by decide)) (fun _ => ?_)
          refine And.intro (show -2147483648 ≤ i + 1 ∧ i + 1 ≤ 2147483647 by first | omega | (simp only [mS_iff, eq_self, Int.reduceEq, true_and, and_true, false_and, and_false, and_self, ↓reduceIte]; omega) | (simp only [mS_iff, eq_self, Int.reduceEq, true_and, and_true, false_and, and_false, and_self, ↓reduceIte] at *; omega)) ?_
          refine ih17 _ ?_ _ (Eq.refl _) ?_ ?_ ?_
          · omega
          · exact l0
          · omega
          · intro k a b
            by_cases e : k = i
            · subst e; exact l1
            · exact i1 k a (by omega)
        · have l1 := h11
          refine And.intro (fun _ => ?_) (fun h => absurd h (by decide))
          have ij : j < i := by
            by_cases z : i = j
            · subst z; first | omega | exact absurd l0 l1
            · omega
          refine And.intro (rfl) ?_
          refine And.intro (rfl) ?_
          refine And.intro (show -2147483648 ≤ i - j ∧ i - j ≤ 2147483647 by first | omega | (simp only [mS_iff, eq_self, Int.reduceEq, true_and, and_true, false_and, and_false, and_self, ↓reduceIte]; omega) | (simp only [mS_iff, eq_self, Int.reduceEq, true_and, and_true, false_and, and_false, and_self, ↓reduceIte] at *; omega)) ?_
          refine And.intro (fun h12 => ?_) (fun h12 => ?_)
          · refine And.intro (show -2147483648 ≤ i - j ∧ i - j ≤ 2147483647 by first | omega | (simp only [mS_iff, eq_self, Int.reduceEq, true_and, and_true, false_and, and_false, and_self, ↓reduceIte]; omega) | (simp only [mS_iff, eq_self, Int.reduceEq, true_and, and_true, false_and, and_false, and_self, ↓reduceIte] at *; omega)) ?_
            refine And.intro (rfl) ?_
            refine ct_151 (by omega) hW (by omega) (fun k13 h14 => ?_)
            have kw := h14
            refine And.intro (⟨rfl, by first | omega | (simp only [mS_iff, eq_self, Int.reduceEq, true_and, and_true, false_and, and_false, and_self, ↓reduceIte]; omega) | (simp only [mS_iff, eq_self, Int.reduceEq, true_and, and_true, false_and, and_false, and_self, ↓reduceIte] at *; omega)⟩) ?_
            refine hQ _ _ (fun r a x y => by rw [mS_iff, if_neg (by omega)]) ?_
            rw [mS_eq, show mS m 15 (m 13 8) k13 17 (m 13 8) = 0 from hv]
            refine Or.inr (Or.inl ⟨by omega, l0, ⟨by omega, by omega, i1, fun z => by first | exact l1 | omega⟩, rfl, ?_⟩)
            first | exact Or.inl ⟨by omega, rfl⟩ | exact Or.inr ⟨by omega, kw⟩
          · refine And.intro (⟨rfl, by first | omega | (simp only [mS_iff, eq_self, Int.reduceEq, true_and, and_true, false_and, and_false, and_self, ↓reduceIte]; omega) | (simp only [mS_iff, eq_self, Int.reduceEq, true_and, and_true, false_and, and_false, and_self, ↓reduceIte] at *; omega)⟩) ?_
            refine hQ _ _ (fun r a x y => by rw [mS_iff, if_neg (by omega)]) ?_
            rw [mS_eq, show mS m 15 (m 13 8) 72 17 (m 13 8) = 0 from hv]
            refine Or.inr (Or.inl ⟨by omega, l0, ⟨by omega, by omega, i1, fun z => by first | exact l1 | omega⟩, rfl, ?_⟩)
            first | exact Or.inl ⟨by omega, rfl⟩ | exact Or.inr ⟨by omega, kw⟩
  refine am_go 400 [240, 87, 17] (am_wpc_cm _ _ _) wf_149 ?_
  refine And.intro (rfl) ?_
  refine And.intro (⟨rfl, by first | omega | (simp only [mS_iff, eq_self, Int.reduceEq, true_and, and_true, false_and, and_false, and_self, ↓reduceIte]; omega) | (simp only [mS_iff, eq_self, Int.reduceEq, true_and, and_true, false_and, and_false, and_self, ↓reduceIte] at *; omega)⟩) ?_
  refine And.intro (rfl) ?_
  refine ct_150 (by omega) (fun h15 => ?_) (fun h15 => ?_)
  · have l0 := h15
    refine And.intro (fun h => absurd h (by decide)) (fun _ => ?_)
    refine K17 _ _ (Eq.refl _) ?_ ?_ ?_
    · exact l0
    · omega
    · intro k a b
      omega
  · have l0 := h15
    refine And.intro (fun _ => ?_) (fun h => absurd h (by decide))
    refine And.intro (rfl) ?_
    refine ct_152 (by omega) (fun h16 => ?_) (fun h16 => ?_)
    · have g0 := h16
      refine And.intro (fun h => absurd h (by decide)) (fun _ => ?_)
      refine K87 _ _ _ (Eq.refl _) ?_ ?_ ?_ ?_
      · exact g0
      · omega
      · intro k a b
        omega
      · rw [if_pos (by omega), Int.sub_self]; rfl
    · have g0 := h16
      refine And.intro (fun _ => ?_) (fun h => absurd h (by decide))
      refine And.intro (fun h17 => ?_) (fun h17 => ?_)
      · refine K240 _ ?_ ?_ ?_
        · exact l0
        · exact g0
        · first | exact Or.inl ⟨rfl, by unfold x_sg; omega⟩ | exact Or.inr ⟨rfl, by unfold x_sg; omega⟩
      · refine And.intro (fun h18 => ?_) (fun h18 => ?_)
        · refine K240 _ ?_ ?_ ?_
          · exact l0
          · exact g0
          · first | exact Or.inl ⟨rfl, by unfold x_sg; omega⟩ | exact Or.inr ⟨rfl, by unfold x_sg; omega⟩
        · refine And.intro (fun h19 => ?_) (fun h19 => ?_)
          · refine K240 _ ?_ ?_ ?_
            · exact l0
            · exact g0
            · first | exact Or.inl ⟨rfl, by unfold x_sg; omega⟩ | exact Or.inr ⟨rfl, by unfold x_sg; omega⟩
          · refine And.intro (fun h20 => ?_) (fun h20 => ?_)
            · refine K240 _ ?_ ?_ ?_
              · exact l0
              · exact g0
              · first | exact Or.inl ⟨rfl, by unfold x_sg; omega⟩ | exact Or.inr ⟨rfl, by unfold x_sg; omega⟩
            · refine And.intro (fun h21 => ?_) (fun h21 => ?_)
              · refine K240 _ ?_ ?_ ?_
                · exact l0
                · exact g0
                · first | exact Or.inl ⟨rfl, by unfold x_sg; omega⟩ | exact Or.inr ⟨rfl, by unfold x_sg; omega⟩
              · refine And.intro (fun h22 => ?_) (fun h22 => ?_)
                · refine K240 _ ?_ ?_ ?_
                  · exact l0
                  · exact g0
                  · first | exact Or.inl ⟨rfl, by unfold x_sg; omega⟩ | exact Or.inr ⟨rfl, by unfold x_sg; omega⟩
                · refine And.intro (fun h23 => ?_) (fun h23 => ?_)
                  · refine K240 _ ?_ ?_ ?_
                    · exact l0
                    · exact g0
                    · first | exact Or.inl ⟨rfl, by unfold x_sg; omega⟩ | exact Or.inr ⟨rfl, by unfold x_sg; omega⟩
                  · refine And.intro (fun h24 => ?_) (fun h24 => ?_)
                    · refine K240 _ ?_ ?_ ?_
                      · exact l0
                      · exact g0
                      · first | exact Or.inl ⟨rfl, by unfold x_sg; omega⟩ | exact Or.inr ⟨rfl, by unfold x_sg; omega⟩
                    · refine And.intro (fun h25 => ?_) (fun h25 => ?_)
                      · refine K240 _ ?_ ?_ ?_
                        · exact l0
                        · exact g0
                        · first | exact Or.inl ⟨rfl, by unfold x_sg; omega⟩ | exact Or.inr ⟨rfl, by unfold x_sg; omega⟩
                      · refine K240 _ ?_ ?_ ?_
                        · exact l0
                        · exact g0
                        · first | exact Or.inl ⟨rfl, by unfold x_sg; omega⟩ | exact Or.inr ⟨rfl, by unfold x_sg; omega⟩
