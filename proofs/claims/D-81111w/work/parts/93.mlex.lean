/-! needs: 92 -/
/-! CONTRACTS: tokens of the reference; by tools/gen93.py -/
set_option maxRecDepth 100000
theorem ct_195 {d : Nat} {m : aM} {Q : aO → aM → Prop} {c : Int} (hd : 1 ≤ d)  (hQ1 : x_lt c → Q (.inl (some (aI 1))) m) (hQ0 : ¬ (x_lt c) → Q (.inl (some (aI 0))) m) : am_wpc am_G am_T d 195 [aI c] m Q := by
  refine am_in rfl hd (fun d hd => ?_)
  refine am_go 400 [] (am_wpc_cm _ _ _) wf_195 ?_
  refine And.intro (fun h1 => ?_) (fun h1 => ?_)
  · refine And.intro (by first | omega | (simp only [mS_iff, eq_self, Int.reduceEq, true_and, and_true, false_and, and_false, and_self, ↓reduceIte]; omega) | (simp only [mS_iff, eq_self, Int.reduceEq, true_and, and_true, false_and, and_false, and_self, ↓reduceIte] at *; omega)) ?_
    exact hQ0 (by unfold x_lt; omega)
  · refine And.intro (fun h2 => ?_) (fun h2 => ?_)
    · refine And.intro (by first | omega | (simp only [mS_iff, eq_self, Int.reduceEq, true_and, and_true, false_and, and_false, and_self, ↓reduceIte]; omega) | (simp only [mS_iff, eq_self, Int.reduceEq, true_and, and_true, false_and, and_false, and_self, ↓reduceIte] at *; omega)) ?_
      exact hQ0 (by unfold x_lt; omega)
    · refine And.intro (by first | omega | (simp only [mS_iff, eq_self, Int.reduceEq, true_and, and_true, false_and, and_false, and_self, ↓reduceIte]; omega) | (simp only [mS_iff, eq_self, Int.reduceEq, true_and, and_true, false_and, and_false, and_self, ↓reduceIte] at *; omega)) ?_
      exact hQ1 (by unfold x_lt; omega)
theorem ct_196 {d : Nat} {m : aM} {Q : aO → aM → Prop} {c : Int} (hd : 1 ≤ d)  (hQ1 : x_dg c → Q (.inl (some (aI 1))) m) (hQ0 : ¬ (x_dg c) → Q (.inl (some (aI 0))) m) : am_wpc am_G am_T d 196 [aI c] m Q := by
  refine am_in rfl hd (fun d hd => ?_)
  refine am_go 400 [] (am_wpc_cm _ _ _) wf_196 ?_
  refine And.intro (fun h1 => ?_) (fun h1 => ?_)
  · refine And.intro (by first | omega | (simp only [mS_iff, eq_self, Int.reduceEq, true_and, and_true, false_and, and_false, and_self, ↓reduceIte]; omega) | (simp only [mS_iff, eq_self, Int.reduceEq, true_and, and_true, false_and, and_false, and_self, ↓reduceIte] at *; omega)) ?_
    exact hQ0 (by unfold x_dg; omega)
  · refine And.intro (fun h2 => ?_) (fun h2 => ?_)
    · refine And.intro (by first | omega | (simp only [mS_iff, eq_self, Int.reduceEq, true_and, and_true, false_and, and_false, and_self, ↓reduceIte]; omega) | (simp only [mS_iff, eq_self, Int.reduceEq, true_and, and_true, false_and, and_false, and_self, ↓reduceIte] at *; omega)) ?_
      exact hQ0 (by unfold x_dg; omega)
    · refine And.intro (by first | omega | (simp only [mS_iff, eq_self, Int.reduceEq, true_and, and_true, false_and, and_false, and_self, ↓reduceIte]; omega) | (simp only [mS_iff, eq_self, Int.reduceEq, true_and, and_true, false_and, and_false, and_self, ↓reduceIte] at *; omega)) ?_
      exact hQ1 (by unfold x_dg; omega)
theorem x_v27_s {t : Int → Int} {j k : Int} (h : 0 ≤ k) : x_v27 t j (k + 1).toNat = 27 * x_v27 t j k.toNat + (t (j + k) - 96) := by
  obtain ⟨n, rfl⟩ := Int.eq_ofNat_of_zero_le h
  rfl
theorem x_v27_b {t : Int → Int} {j n : Int} (hd : ∀ k, j ≤ k → k < n → x_lt (t k)) : ∀ i : Nat, j + i ≤ n → 0 ≤ x_v27 t j i ∧ x_v27 t j i + 1 ≤ s_p i := by
  intro i
  induction i with
  | zero => intro _; exact ⟨Int.le_refl _, by show (0 : Int) + 1 ≤ s_p 0; decide⟩
  | succ i ih =>
    intro h
    have a := ih (by omega)
    have b := hd (j + i) (by omega) (by omega)
    unfold x_lt at b
    rw [x_v27, s_pw_s]
    omega
theorem s_pw_m : ∀ i : Nat, i < 10 → s_p i ≤ 7625597484987 := by decide +kernel
/-- the token at hand is written -/
def fr_N (m m' : aM) : Prop := ∀ r j, (r ≠ 41 ∨ (j ≠ 12 ∧ j ≠ 13 ∧ j ≠ 14 ∧ j ≠ 15)) → m' r j = m r j
theorem fr_N.trans {a b c : aM} (h : fr_N a b) (g : fr_N b c) : fr_N a c := fun r j x => (g r j x).trans (h r j x)
theorem ct_194 {d : Nat} {m : aM} {Q : aO → aM → Prop} {n : Int} (hd : 2 ≤ d) (hn : m 41 3 = n ∧ 0 ≤ n ∧ n ≤ 1200) (hp : 0 ≤ m 41 12 ∧ m 41 12 ≤ n) (hb : ∀ k, 0 ≤ k → k < n → 0 ≤ m 43 k ∧ m 43 k ≤ 255) (hQ : ∀ m', fr_N m m' → x_sk (m 43) n (m 41 12) (m' 41 14) → x_mk (m 43) n (m' 41 14) (m' 41 13) (m' 41 15) (m' 41 12) → Q (.inl none) m') : am_wpc am_G am_T d 194 [aR 41] m Q := by
  refine am_in rfl hd (fun d hd => ?_)
  have K390 : ∀ (j : Int) (s : Int), ∀ (m2 : aM), (fr_N m m2) → (m2 41 14 = j ∧ j < n ∧ 0 ≤ j ∧ m2 41 12 = j) → (x_sk (m 43) n (m 41 12) j) → (¬ x_lt (m 43 j)) → (¬ x_dg (m 43 j)) → ((s = 3 ∧ x_sg (m 43 j)) ∨ (s = 4 ∧ ¬ x_sg (m 43 j))) → am_WP am_G (am_wpc am_G am_T d) [] cd_194 Q 390 [aR 41, aI (m2 43 j)] [aI s, aR 41] m2 := by
    intro j s m2 fr pl sk l0 g0 ss
    have e43 : m2 43 = m 43 := funext fun k => fr 43 k (by omega)
    have e3 : m2 41 3 = n := by rw [fr 41 3 (by omega)]; exact hn.1
    have eb : ∀ k, 0 ≤ k → k < n → 0 ≤ m2 43 k ∧ m2 43 k ≤ 255 := fun k a b => by rw [e43]; exact hb k a b
    have eq : m2 43 (m2 41 12) = m 43 (m2 41 12) := by rw [e43]
    refine am_go 400 [390, 219, 99, 0] (am_wpc_cm _ _ _) wf_194 ?_
    refine And.intro (rfl) ?_
    refine And.intro (rfl) ?_
    refine And.intro (rfl) ?_
    refine And.intro (show -2147483648 ≤ (m2 41 12) + 1 ∧ (m2 41 12) + 1 ≤ 2147483647 by first | omega | (simp only [mS_iff, eq_self, Int.reduceEq, true_and, and_true, false_and, and_false, and_self, ↓reduceIte]; omega) | (simp only [mS_iff, eq_self, Int.reduceEq, true_and, and_true, false_and, and_false, and_self, ↓reduceIte] at *; omega)) ?_
    refine And.intro (rfl) ?_
    refine hQ _ (by
      intro r x hh
      rw [mS_iff, if_neg (by omega)]
      rw [mS_iff, if_neg (by omega)]
      rw [mS_iff, if_neg (by omega)]
      exact fr r x hh) (by show x_sk (m 43) n (m 41 12) (m2 41 14); rw [pl.1]; exact sk) ?_
    show x_mk (m 43) n (m2 41 14) s (m2 43 j) (m2 41 12 + 1)
    rw [pl.1, e43, pl.2.2.2]
    refine Or.inr (Or.inr (Or.inr ⟨pl.2.1, l0, g0, rfl, rfl, ?_⟩))
    rcases ss with q | q
    · exact Or.inl ⟨q.2, q.1⟩
    · exact Or.inr ⟨q.2, q.1⟩
  have K219 : ∀ (N : Nat), ∀ (j : Int) (c : Int), ∀ (m2 : aM), (n - m2 41 12).toNat = N → (fr_N m m2) → (m2 41 14 = j ∧ j < n ∧ 0 ≤ j) → (x_sk (m 43) n (m 41 12) j) → (x_dg (m 43 j)) → (j ≤ m2 41 12 ∧ m2 41 12 ≤ n) → (∀ k, j ≤ k → k < m2 41 12 → x_dg (m 43 k)) → (m2 41 15 = x_dec (m 43) j (if m2 41 12 - j < 4 then m2 41 12 - j else 4).toNat) → am_WP am_G (am_wpc am_G am_T d) [] cd_194 Q 219 [aR 41, aI c] [] m2 := by
    intro N
    induction N using Nat.strongRecOn with
    | _ N ih219 =>
      intro j c m2 hN fr pl sk l0 i0 ru va
      have e43 : m2 43 = m 43 := funext fun k => fr 43 k (by omega)
      have e3 : m2 41 3 = n := by rw [fr 41 3 (by omega)]; exact hn.1
      have eb : ∀ k, 0 ≤ k → k < n → 0 ≤ m2 43 k ∧ m2 43 k ≤ 255 := fun k a b => by rw [e43]; exact hb k a b
      have eq : m2 43 (m2 41 12) = m 43 (m2 41 12) := by rw [e43]
      have vb := x_dec_b ru (if m2 41 12 - j < 4 then m2 41 12 - j else 4).toNat (by omega) (by omega)
      rw [← va] at vb
      have vb2 : 0 ≤ m2 41 15 ∧ m2 41 15 ≤ 9999 := by
        refine ⟨vb.1, ?_⟩
        have q := vb.2
        split at q
        · omega
        · split at q
          · omega
          · split at q
            · omega
            · split at q <;> omega
      refine am_go 400 [390, 219, 99, 0] (am_wpc_cm _ _ _) wf_194 ?_
      refine And.intro (rfl) ?_
      refine And.intro (rfl) ?_
      refine And.intro (fun h1 => ?_) (fun h1 => ?_)
      · refine And.intro (rfl) ?_
        refine And.intro (rfl) ?_
        refine And.intro (show -2147483648 ≤ (m2 41 12) - (m2 41 14) ∧ (m2 41 12) - (m2 41 14) ≤ 2147483647 by first | omega | (simp only [mS_iff, eq_self, Int.reduceEq, true_and, and_true, false_and, and_false, and_self, ↓reduceIte]; omega) | (simp only [mS_iff, eq_self, Int.reduceEq, true_and, and_true, false_and, and_false, and_self, ↓reduceIte] at *; omega)) ?_
        refine And.intro (fun h2 => ?_) (fun h2 => ?_)
        · refine And.intro (rfl) ?_
          have ij : j < m2 41 12 := by
            by_cases z : m2 41 12 = j
            · first | omega | (rw [z] at l1; rw [e43] at l1; exact absurd l0 l1)
            · omega
          refine hQ _ (by
            intro r x hh
            rw [mS_iff, if_neg (by omega)]
            exact fr r x hh) (by show x_sk (m 43) n (m 41 12) (m2 41 14); rw [pl.1]; exact sk) ?_
          show x_mk (m 43) n (m2 41 14) 2 (m2 41 15) (m2 41 12)
          rw [pl.1]
          refine Or.inr (Or.inr (Or.inl ⟨pl.2.1, l0, ⟨ij, i0.2, ru, fun z => by first | (rw [← eq]; exact l1) | omega⟩, by omega, va⟩))
        · refine And.intro (rfl) ?_
          have ij : j < m2 41 12 := by
            by_cases z : m2 41 12 = j
            · first | omega | (rw [z] at l1; rw [e43] at l1; exact absurd l0 l1)
            · omega
          refine hQ _ (by
            intro r x hh
            rw [mS_iff, if_neg (by omega)]
            exact fr r x hh) (by show x_sk (m 43) n (m 41 12) (m2 41 14); rw [pl.1]; exact sk) ?_
          show x_mk (m 43) n (m2 41 14) 4 (m2 41 15) (m2 41 12)
          rw [pl.1]
          refine Or.inr (Or.inr (Or.inl ⟨pl.2.1, l0, ⟨ij, i0.2, ru, fun z => by first | (rw [← eq]; exact l1) | omega⟩, by omega, va⟩))
      · have bk := eb (m2 41 12) (by omega) (by omega)
        refine And.intro (rfl) ?_
        refine And.intro (rfl) ?_
        refine And.intro (⟨rfl, by first | omega | (simp only [mS_iff, eq_self, Int.reduceEq, true_and, and_true, false_and, and_false, and_self, ↓reduceIte]; omega) | (simp only [mS_iff, eq_self, Int.reduceEq, true_and, and_true, false_and, and_false, and_self, ↓reduceIte] at *; omega)⟩) ?_
        refine ct_196 (by omega) (fun h3 => ?_) (fun h3 => ?_)
        · have l1 := h3
          refine And.intro (fun h => absurd h (by decide)) (fun _ => ?_)
          refine And.intro (rfl) ?_
          refine And.intro (rfl) ?_
          refine And.intro (show -2147483648 ≤ (m2 41 12) - (m2 41 14) ∧ (m2 41 12) - (m2 41 14) ≤ 2147483647 by first | omega | (simp only [mS_iff, eq_self, Int.reduceEq, true_and, and_true, false_and, and_false, and_self, ↓reduceIte]; omega) | (simp only [mS_iff, eq_self, Int.reduceEq, true_and, and_true, false_and, and_false, and_self, ↓reduceIte] at *; omega)) ?_
          refine And.intro (fun h4 => ?_) (fun h4 => ?_)
          · refine And.intro (rfl) ?_
            refine And.intro (rfl) ?_
            refine And.intro (rfl) ?_
            refine And.intro (show -2147483648 ≤ (m2 41 12) + 1 ∧ (m2 41 12) + 1 ≤ 2147483647 by first | omega | (simp only [mS_iff, eq_self, Int.reduceEq, true_and, and_true, false_and, and_false, and_self, ↓reduceIte]; omega) | (simp only [mS_iff, eq_self, Int.reduceEq, true_and, and_true, false_and, and_false, and_self, ↓reduceIte] at *; omega)) ?_
            refine And.intro (rfl) ?_
            refine ih219 _ ?_ (j) _ _ (Eq.refl _) ?_ ?_ ?_ ?_ ?_ ?_ ?_
            · show (n - (m2 41 12 + 1)).toNat < N
              omega
            · intro r x hh
              rw [mS_iff, if_neg (by omega)]
              rw [mS_iff, if_neg (by omega)]
              exact fr r x hh
            · exact pl
            · exact sk
            · exact l0
            · show j ≤ m2 41 12 + 1 ∧ m2 41 12 + 1 ≤ n; omega
            · intro k a b
              have b2 : k < m2 41 12 + 1 := b
              by_cases e : k = m2 41 12
              · rw [e, ← eq]; exact l1
              · exact ru k a (by omega)
            · show (m2 41 15) = x_dec (m 43) j (if m2 41 12 + 1 - j < 4 then m2 41 12 + 1 - j else 4).toNat
              first
                | (rw [show (if m2 41 12 + 1 - j < 4 then m2 41 12 + 1 - j else 4) = (m2 41 12 - j) + 1 by omega, x_dec_s (by omega), show j + (m2 41 12 - j) = m2 41 12 by omega]; rw [if_pos (by omega)] at va; rw [am_lmul_eq (by omega) (by omega) (by omega), am_ladd_eq (by omega) (by omega) (by omega), am_lsub_eq (by omega) (by omega) (by omega)]; omega)
                | (rw [if_neg (by omega)]; rw [if_neg (by omega)] at va; exact va)
          · refine And.intro (rfl) ?_
            refine And.intro (rfl) ?_
            refine And.intro (rfl) ?_
            refine And.intro (⟨rfl, by first | omega | (simp only [mS_iff, eq_self, Int.reduceEq, true_and, and_true, false_and, and_false, and_self, ↓reduceIte]; omega) | (simp only [mS_iff, eq_self, Int.reduceEq, true_and, and_true, false_and, and_false, and_self, ↓reduceIte] at *; omega)⟩) ?_
            refine And.intro (rfl) ?_
            refine And.intro (rfl) ?_
            refine And.intro (show -2147483648 ≤ (m2 41 12) + 1 ∧ (m2 41 12) + 1 ≤ 2147483647 by first | omega | (simp only [mS_iff, eq_self, Int.reduceEq, true_and, and_true, false_and, and_false, and_self, ↓reduceIte]; omega) | (simp only [mS_iff, eq_self, Int.reduceEq, true_and, and_true, false_and, and_false, and_self, ↓reduceIte] at *; omega)) ?_
            refine And.intro (rfl) ?_
            refine ih219 _ ?_ (j) _ _ (Eq.refl _) ?_ ?_ ?_ ?_ ?_ ?_ ?_
            · show (n - (m2 41 12 + 1)).toNat < N
              omega
            · intro r x hh
              rw [mS_iff, if_neg (by omega)]
              rw [mS_iff, if_neg (by omega)]
              exact fr r x hh
            · exact pl
            · exact sk
            · exact l0
            · show j ≤ m2 41 12 + 1 ∧ m2 41 12 + 1 ≤ n; omega
            · intro k a b
              have b2 : k < m2 41 12 + 1 := b
              by_cases e : k = m2 41 12
              · rw [e, ← eq]; exact l1
              · exact ru k a (by omega)
            · show (am_lsub (am_ladd (am_lmul (m2 41 15) 10) (m2 43 (m2 41 12))) 48) = x_dec (m 43) j (if m2 41 12 + 1 - j < 4 then m2 41 12 + 1 - j else 4).toNat
              first
                | (rw [show (if m2 41 12 + 1 - j < 4 then m2 41 12 + 1 - j else 4) = (m2 41 12 - j) + 1 by omega, x_dec_s (by omega), show j + (m2 41 12 - j) = m2 41 12 by omega]; rw [if_pos (by omega)] at va; rw [am_lmul_eq (by omega) (by omega) (by omega), am_ladd_eq (by omega) (by omega) (by omega), am_lsub_eq (by omega) (by omega) (by omega)]; omega)
                | (rw [if_neg (by omega)]; rw [if_neg (by omega)] at va; exact va)
        · have l1 := h3
          refine And.intro (fun _ => ?_) (fun h => absurd h (by decide))
          refine And.intro (rfl) ?_
          refine And.intro (rfl) ?_
          refine And.intro (show -2147483648 ≤ (m2 41 12) - (m2 41 14) ∧ (m2 41 12) - (m2 41 14) ≤ 2147483647 by first | omega | (simp only [mS_iff, eq_self, Int.reduceEq, true_and, and_true, false_and, and_false, and_self, ↓reduceIte]; omega) | (simp only [mS_iff, eq_self, Int.reduceEq, true_and, and_true, false_and, and_false, and_self, ↓reduceIte] at *; omega)) ?_
          refine And.intro (fun h5 => ?_) (fun h5 => ?_)
          · refine And.intro (rfl) ?_
            have ij : j < m2 41 12 := by
              by_cases z : m2 41 12 = j
              · first | omega | (rw [z] at l1; rw [e43] at l1; exact absurd l0 l1)
              · omega
            refine hQ _ (by
              intro r x hh
              rw [mS_iff, if_neg (by omega)]
              exact fr r x hh) (by show x_sk (m 43) n (m 41 12) (m2 41 14); rw [pl.1]; exact sk) ?_
            show x_mk (m 43) n (m2 41 14) 2 (m2 41 15) (m2 41 12)
            rw [pl.1]
            refine Or.inr (Or.inr (Or.inl ⟨pl.2.1, l0, ⟨ij, i0.2, ru, fun z => by first | (rw [← eq]; exact l1) | omega⟩, by omega, va⟩))
          · refine And.intro (rfl) ?_
            have ij : j < m2 41 12 := by
              by_cases z : m2 41 12 = j
              · first | omega | (rw [z] at l1; rw [e43] at l1; exact absurd l0 l1)
              · omega
            refine hQ _ (by
              intro r x hh
              rw [mS_iff, if_neg (by omega)]
              exact fr r x hh) (by show x_sk (m 43) n (m 41 12) (m2 41 14); rw [pl.1]; exact sk) ?_
            show x_mk (m 43) n (m2 41 14) 4 (m2 41 15) (m2 41 12)
            rw [pl.1]
            refine Or.inr (Or.inr (Or.inl ⟨pl.2.1, l0, ⟨ij, i0.2, ru, fun z => by first | (rw [← eq]; exact l1) | omega⟩, by omega, va⟩))
  have K99 : ∀ (N : Nat), ∀ (j : Int) (c : Int), ∀ (m2 : aM), (n - m2 41 12).toNat = N → (fr_N m m2) → (m2 41 14 = j ∧ j < n ∧ 0 ≤ j) → (x_sk (m 43) n (m 41 12) j) → (x_lt (m 43 j)) → (j ≤ m2 41 12 ∧ m2 41 12 ≤ n) → (∀ k, j ≤ k → k < m2 41 12 → x_lt (m 43 k)) → (m2 41 15 = x_v27 (m 43) j (if m2 41 12 - j < 9 then m2 41 12 - j else 9).toNat) → am_WP am_G (am_wpc am_G am_T d) [] cd_194 Q 99 [aR 41, aI c] [] m2 := by
    intro N
    induction N using Nat.strongRecOn with
    | _ N ih99 =>
      intro j c m2 hN fr pl sk l0 i0 ru va
      have e43 : m2 43 = m 43 := funext fun k => fr 43 k (by omega)
      have e3 : m2 41 3 = n := by rw [fr 41 3 (by omega)]; exact hn.1
      have eb : ∀ k, 0 ≤ k → k < n → 0 ≤ m2 43 k ∧ m2 43 k ≤ 255 := fun k a b => by rw [e43]; exact hb k a b
      have eq : m2 43 (m2 41 12) = m 43 (m2 41 12) := by rw [e43]
      have vb := x_v27_b ru (if m2 41 12 - j < 9 then m2 41 12 - j else 9).toNat (by omega)
      have pm := s_pw_m (if m2 41 12 - j < 9 then m2 41 12 - j else 9).toNat (by omega)
      rw [← va] at vb
      refine am_go 400 [390, 219, 99, 0] (am_wpc_cm _ _ _) wf_194 ?_
      refine And.intro (rfl) ?_
      refine And.intro (rfl) ?_
      refine And.intro (fun h6 => ?_) (fun h6 => ?_)
      · refine And.intro (rfl) ?_
        refine And.intro (rfl) ?_
        refine And.intro (show -2147483648 ≤ (m2 41 12) - (m2 41 14) ∧ (m2 41 12) - (m2 41 14) ≤ 2147483647 by first | omega | (simp only [mS_iff, eq_self, Int.reduceEq, true_and, and_true, false_and, and_false, and_self, ↓reduceIte]; omega) | (simp only [mS_iff, eq_self, Int.reduceEq, true_and, and_true, false_and, and_false, and_self, ↓reduceIte] at *; omega)) ?_
        refine And.intro (fun h7 => ?_) (fun h7 => ?_)
        · refine And.intro (rfl) ?_
          have ij : j < m2 41 12 := by
            by_cases z : m2 41 12 = j
            · first | omega | (rw [z] at l1; rw [e43] at l1; exact absurd l0 l1)
            · omega
          refine hQ _ (by
            intro r x hh
            rw [mS_iff, if_neg (by omega)]
            exact fr r x hh) (by show x_sk (m 43) n (m 41 12) (m2 41 14); rw [pl.1]; exact sk) ?_
          show x_mk (m 43) n (m2 41 14) 1 (m2 41 15) (m2 41 12)
          rw [pl.1]
          refine Or.inr (Or.inl ⟨pl.2.1, l0, ⟨ij, i0.2, ru, fun z => by first | (rw [← eq]; exact l1) | omega⟩, by omega, va⟩)
        · refine And.intro (rfl) ?_
          have ij : j < m2 41 12 := by
            by_cases z : m2 41 12 = j
            · first | omega | (rw [z] at l1; rw [e43] at l1; exact absurd l0 l1)
            · omega
          refine hQ _ (by
            intro r x hh
            rw [mS_iff, if_neg (by omega)]
            exact fr r x hh) (by show x_sk (m 43) n (m 41 12) (m2 41 14); rw [pl.1]; exact sk) ?_
          show x_mk (m 43) n (m2 41 14) 4 (m2 41 15) (m2 41 12)
          rw [pl.1]
          refine Or.inr (Or.inl ⟨pl.2.1, l0, ⟨ij, i0.2, ru, fun z => by first | (rw [← eq]; exact l1) | omega⟩, by omega, va⟩)
      · have bk := eb (m2 41 12) (by omega) (by omega)
        refine And.intro (rfl) ?_
        refine And.intro (rfl) ?_
        refine And.intro (⟨rfl, by first | omega | (simp only [mS_iff, eq_self, Int.reduceEq, true_and, and_true, false_and, and_false, and_self, ↓reduceIte]; omega) | (simp only [mS_iff, eq_self, Int.reduceEq, true_and, and_true, false_and, and_false, and_self, ↓reduceIte] at *; omega)⟩) ?_
        refine ct_195 (by omega) (fun h8 => ?_) (fun h8 => ?_)
        · have l1 := h8
          refine And.intro (fun h => absurd h (by decide)) (fun _ => ?_)
          refine And.intro (rfl) ?_
          refine And.intro (rfl) ?_
          refine And.intro (show -2147483648 ≤ (m2 41 12) - (m2 41 14) ∧ (m2 41 12) - (m2 41 14) ≤ 2147483647 by first | omega | (simp only [mS_iff, eq_self, Int.reduceEq, true_and, and_true, false_and, and_false, and_self, ↓reduceIte]; omega) | (simp only [mS_iff, eq_self, Int.reduceEq, true_and, and_true, false_and, and_false, and_self, ↓reduceIte] at *; omega)) ?_
          refine And.intro (fun h9 => ?_) (fun h9 => ?_)
          · refine And.intro (rfl) ?_
            refine And.intro (rfl) ?_
            refine And.intro (rfl) ?_
            refine And.intro (show -2147483648 ≤ (m2 41 12) + 1 ∧ (m2 41 12) + 1 ≤ 2147483647 by first | omega | (simp only [mS_iff, eq_self, Int.reduceEq, true_and, and_true, false_and, and_false, and_self, ↓reduceIte]; omega) | (simp only [mS_iff, eq_self, Int.reduceEq, true_and, and_true, false_and, and_false, and_self, ↓reduceIte] at *; omega)) ?_
            refine And.intro (rfl) ?_
            refine ih99 _ ?_ (j) _ _ (Eq.refl _) ?_ ?_ ?_ ?_ ?_ ?_ ?_
            · show (n - (m2 41 12 + 1)).toNat < N
              omega
            · intro r x hh
              rw [mS_iff, if_neg (by omega)]
              rw [mS_iff, if_neg (by omega)]
              exact fr r x hh
            · exact pl
            · exact sk
            · exact l0
            · show j ≤ m2 41 12 + 1 ∧ m2 41 12 + 1 ≤ n; omega
            · intro k a b
              have b2 : k < m2 41 12 + 1 := b
              by_cases e : k = m2 41 12
              · rw [e, ← eq]; exact l1
              · exact ru k a (by omega)
            · show (m2 41 15) = x_v27 (m 43) j (if m2 41 12 + 1 - j < 9 then m2 41 12 + 1 - j else 9).toNat
              first
                | (rw [show (if m2 41 12 + 1 - j < 9 then m2 41 12 + 1 - j else 9) = (m2 41 12 - j) + 1 by omega, x_v27_s (by omega), show j + (m2 41 12 - j) = m2 41 12 by omega]; rw [if_pos (by omega)] at va; rw [am_lmul_eq (by omega) (by omega) (by omega), am_ladd_eq (by omega) (by omega) (by omega), am_lsub_eq (by omega) (by omega) (by omega)]; omega)
                | (rw [if_neg (by omega)]; rw [if_neg (by omega)] at va; exact va)
          · refine And.intro (rfl) ?_
            refine And.intro (rfl) ?_
            refine And.intro (rfl) ?_
            refine And.intro (⟨rfl, by first | omega | (simp only [mS_iff, eq_self, Int.reduceEq, true_and, and_true, false_and, and_false, and_self, ↓reduceIte]; omega) | (simp only [mS_iff, eq_self, Int.reduceEq, true_and, and_true, false_and, and_false, and_self, ↓reduceIte] at *; omega)⟩) ?_
            refine And.intro (rfl) ?_
            refine And.intro (rfl) ?_
            refine And.intro (show -2147483648 ≤ (m2 41 12) + 1 ∧ (m2 41 12) + 1 ≤ 2147483647 by first | omega | (simp only [mS_iff, eq_self, Int.reduceEq, true_and, and_true, false_and, and_false, and_self, ↓reduceIte]; omega) | (simp only [mS_iff, eq_self, Int.reduceEq, true_and, and_true, false_and, and_false, and_self, ↓reduceIte] at *; omega)) ?_
            refine And.intro (rfl) ?_
            refine ih99 _ ?_ (j) _ _ (Eq.refl _) ?_ ?_ ?_ ?_ ?_ ?_ ?_
            · show (n - (m2 41 12 + 1)).toNat < N
              omega
            · intro r x hh
              rw [mS_iff, if_neg (by omega)]
              rw [mS_iff, if_neg (by omega)]
              exact fr r x hh
            · exact pl
            · exact sk
            · exact l0
            · show j ≤ m2 41 12 + 1 ∧ m2 41 12 + 1 ≤ n; omega
            · intro k a b
              have b2 : k < m2 41 12 + 1 := b
              by_cases e : k = m2 41 12
              · rw [e, ← eq]; exact l1
              · exact ru k a (by omega)
            · show (am_lsub (am_ladd (am_lmul (m2 41 15) 27) (m2 43 (m2 41 12))) 96) = x_v27 (m 43) j (if m2 41 12 + 1 - j < 9 then m2 41 12 + 1 - j else 9).toNat
              first
                | (rw [show (if m2 41 12 + 1 - j < 9 then m2 41 12 + 1 - j else 9) = (m2 41 12 - j) + 1 by omega, x_v27_s (by omega), show j + (m2 41 12 - j) = m2 41 12 by omega]; rw [if_pos (by omega)] at va; rw [am_lmul_eq (by omega) (by omega) (by omega), am_ladd_eq (by omega) (by omega) (by omega), am_lsub_eq (by omega) (by omega) (by omega)]; omega)
                | (rw [if_neg (by omega)]; rw [if_neg (by omega)] at va; exact va)
        · have l1 := h8
          refine And.intro (fun _ => ?_) (fun h => absurd h (by decide))
          refine And.intro (rfl) ?_
          refine And.intro (rfl) ?_
          refine And.intro (show -2147483648 ≤ (m2 41 12) - (m2 41 14) ∧ (m2 41 12) - (m2 41 14) ≤ 2147483647 by first | omega | (simp only [mS_iff, eq_self, Int.reduceEq, true_and, and_true, false_and, and_false, and_self, ↓reduceIte]; omega) | (simp only [mS_iff, eq_self, Int.reduceEq, true_and, and_true, false_and, and_false, and_self, ↓reduceIte] at *; omega)) ?_
          refine And.intro (fun h10 => ?_) (fun h10 => ?_)
          · refine And.intro (rfl) ?_
            have ij : j < m2 41 12 := by
              by_cases z : m2 41 12 = j
              · first | omega | (rw [z] at l1; rw [e43] at l1; exact absurd l0 l1)
              · omega
            refine hQ _ (by
              intro r x hh
              rw [mS_iff, if_neg (by omega)]
              exact fr r x hh) (by show x_sk (m 43) n (m 41 12) (m2 41 14); rw [pl.1]; exact sk) ?_
            show x_mk (m 43) n (m2 41 14) 1 (m2 41 15) (m2 41 12)
            rw [pl.1]
            refine Or.inr (Or.inl ⟨pl.2.1, l0, ⟨ij, i0.2, ru, fun z => by first | (rw [← eq]; exact l1) | omega⟩, by omega, va⟩)
          · refine And.intro (rfl) ?_
            have ij : j < m2 41 12 := by
              by_cases z : m2 41 12 = j
              · first | omega | (rw [z] at l1; rw [e43] at l1; exact absurd l0 l1)
              · omega
            refine hQ _ (by
              intro r x hh
              rw [mS_iff, if_neg (by omega)]
              exact fr r x hh) (by show x_sk (m 43) n (m 41 12) (m2 41 14); rw [pl.1]; exact sk) ?_
            show x_mk (m 43) n (m2 41 14) 4 (m2 41 15) (m2 41 12)
            rw [pl.1]
            refine Or.inr (Or.inl ⟨pl.2.1, l0, ⟨ij, i0.2, ru, fun z => by first | (rw [← eq]; exact l1) | omega⟩, by omega, va⟩)
  have K0 : ∀ (N : Nat), ∀ (c : aV), ∀ (m2 : aM), (n - m2 41 12).toNat = N → (fr_N m m2) → (m 41 12 ≤ m2 41 12 ∧ m2 41 12 ≤ n) → (∀ k, m 41 12 ≤ k → k < m2 41 12 → x_bl (m 43 k)) → am_WP am_G (am_wpc am_G am_T d) [] cd_194 Q 0 [aR 41, c] [] m2 := by
    intro N
    induction N using Nat.strongRecOn with
    | _ N ih0 =>
      intro c m2 hN fr i0 bl
      have e43 : m2 43 = m 43 := funext fun k => fr 43 k (by omega)
      have e3 : m2 41 3 = n := by rw [fr 41 3 (by omega)]; exact hn.1
      have eb : ∀ k, 0 ≤ k → k < n → 0 ≤ m2 43 k ∧ m2 43 k ≤ 255 := fun k a b => by rw [e43]; exact hb k a b
      have eq : m2 43 (m2 41 12) = m 43 (m2 41 12) := by rw [e43]
      refine am_go 400 [390, 219, 99, 0] (am_wpc_cm _ _ _) wf_194 ?_
      refine And.intro (rfl) ?_
      refine And.intro (rfl) ?_
      refine And.intro (fun h11 => ?_) (fun h11 => ?_)
      · have sk : x_sk (m 43) n (m 41 12) (m2 41 12) := ⟨by omega, by omega, bl, fun z => by rw [← eq]; unfold x_bl; omega⟩
        refine And.intro (rfl) ?_
        refine And.intro (rfl) ?_
        refine And.intro (rfl) ?_
        refine And.intro (rfl) ?_
        refine And.intro (rfl) ?_
        refine And.intro (fun h12 => ?_) (fun h12 => ?_)
        · replace h12 : (m2 41 12) ≠ (m2 41 3) := h12
          refine And.intro (rfl) ?_
          refine And.intro (rfl) ?_
          refine And.intro (⟨rfl, by first | omega | (simp only [mS_iff, eq_self, Int.reduceEq, true_and, and_true, false_and, and_false, and_self, ↓reduceIte]; omega) | (simp only [mS_iff, eq_self, Int.reduceEq, true_and, and_true, false_and, and_false, and_self, ↓reduceIte] at *; omega)⟩) ?_
          refine ct_195 (by omega) (fun h13 => ?_) (fun h13 => ?_)
          · have l0 := h13
            refine And.intro (fun h => absurd h (by decide)) (fun _ => ?_)
            refine K99 _ (m2 41 12) _ _ (Eq.refl _) ?_ ?_ ?_ ?_ ?_ ?_ ?_
            · intro r x hh
              rw [mS_iff, if_neg (by omega)]
              rw [mS_iff, if_neg (by omega)]
              exact fr r x hh
            · exact ⟨rfl, by omega, by omega⟩
            · exact sk
            · rw [← e43]; exact l0
            · exact ⟨Int.le_refl _, by show m2 41 12 ≤ n; omega⟩
            · intro k a b
              have b2 : k < m2 41 12 := b
              omega
            · show (0 : Int) = x_v27 (m 43) (m2 41 12) (if m2 41 12 - m2 41 12 < 9 then m2 41 12 - m2 41 12 else 9).toNat; rw [Int.sub_self]; rfl
          · have l0 := h13
            refine And.intro (fun _ => ?_) (fun h => absurd h (by decide))
            refine ct_196 (by omega) (fun h14 => ?_) (fun h14 => ?_)
            · have g0 := h14
              refine And.intro (fun h => absurd h (by decide)) (fun _ => ?_)
              refine K219 _ (m2 41 12) _ _ (Eq.refl _) ?_ ?_ ?_ ?_ ?_ ?_ ?_
              · intro r x hh
                rw [mS_iff, if_neg (by omega)]
                rw [mS_iff, if_neg (by omega)]
                exact fr r x hh
              · exact ⟨rfl, by omega, by omega⟩
              · exact sk
              · rw [← e43]; exact g0
              · exact ⟨Int.le_refl _, by show m2 41 12 ≤ n; omega⟩
              · intro k a b
                have b2 : k < m2 41 12 := b
                omega
              · show (0 : Int) = x_dec (m 43) (m2 41 12) (if m2 41 12 - m2 41 12 < 4 then m2 41 12 - m2 41 12 else 4).toNat; rw [Int.sub_self]; rfl
            · have g0 := h14
              refine And.intro (fun _ => ?_) (fun h => absurd h (by decide))
              refine And.intro (fun h15 => ?_) (fun h15 => ?_)
              · replace h15 : (m2 43 (m2 41 12)) = 44 := h15
                refine K390 (m2 41 12) _ _ ?_ ?_ ?_ ?_ ?_ ?_
                · intro r x hh
                  rw [mS_iff, if_neg (by omega)]
                  rw [mS_iff, if_neg (by omega)]
                  exact fr r x hh
                · exact ⟨rfl, by omega, by omega, rfl⟩
                · exact sk
                · rw [← e43]; exact l0
                · rw [← e43]; exact g0
                · rw [← eq]; first | exact Or.inl ⟨rfl, by unfold x_sg; omega⟩ | exact Or.inr ⟨rfl, by unfold x_sg; omega⟩
              · replace h15 : (m2 43 (m2 41 12)) ≠ 44 := h15
                refine And.intro (fun h16 => ?_) (fun h16 => ?_)
                · replace h16 : (m2 43 (m2 41 12)) = 40 := h16
                  refine K390 (m2 41 12) _ _ ?_ ?_ ?_ ?_ ?_ ?_
                  · intro r x hh
                    rw [mS_iff, if_neg (by omega)]
                    rw [mS_iff, if_neg (by omega)]
                    exact fr r x hh
                  · exact ⟨rfl, by omega, by omega, rfl⟩
                  · exact sk
                  · rw [← e43]; exact l0
                  · rw [← e43]; exact g0
                  · rw [← eq]; first | exact Or.inl ⟨rfl, by unfold x_sg; omega⟩ | exact Or.inr ⟨rfl, by unfold x_sg; omega⟩
                · replace h16 : (m2 43 (m2 41 12)) ≠ 40 := h16
                  refine And.intro (fun h17 => ?_) (fun h17 => ?_)
                  · replace h17 : (m2 43 (m2 41 12)) = 41 := h17
                    refine K390 (m2 41 12) _ _ ?_ ?_ ?_ ?_ ?_ ?_
                    · intro r x hh
                      rw [mS_iff, if_neg (by omega)]
                      rw [mS_iff, if_neg (by omega)]
                      exact fr r x hh
                    · exact ⟨rfl, by omega, by omega, rfl⟩
                    · exact sk
                    · rw [← e43]; exact l0
                    · rw [← e43]; exact g0
                    · rw [← eq]; first | exact Or.inl ⟨rfl, by unfold x_sg; omega⟩ | exact Or.inr ⟨rfl, by unfold x_sg; omega⟩
                  · replace h17 : (m2 43 (m2 41 12)) ≠ 41 := h17
                    refine And.intro (fun h18 => ?_) (fun h18 => ?_)
                    · replace h18 : (m2 43 (m2 41 12)) = 60 := h18
                      refine K390 (m2 41 12) _ _ ?_ ?_ ?_ ?_ ?_ ?_
                      · intro r x hh
                        rw [mS_iff, if_neg (by omega)]
                        rw [mS_iff, if_neg (by omega)]
                        exact fr r x hh
                      · exact ⟨rfl, by omega, by omega, rfl⟩
                      · exact sk
                      · rw [← e43]; exact l0
                      · rw [← e43]; exact g0
                      · rw [← eq]; first | exact Or.inl ⟨rfl, by unfold x_sg; omega⟩ | exact Or.inr ⟨rfl, by unfold x_sg; omega⟩
                    · replace h18 : (m2 43 (m2 41 12)) ≠ 60 := h18
                      refine And.intro (fun h19 => ?_) (fun h19 => ?_)
                      · replace h19 : (m2 43 (m2 41 12)) = 61 := h19
                        refine K390 (m2 41 12) _ _ ?_ ?_ ?_ ?_ ?_ ?_
                        · intro r x hh
                          rw [mS_iff, if_neg (by omega)]
                          rw [mS_iff, if_neg (by omega)]
                          exact fr r x hh
                        · exact ⟨rfl, by omega, by omega, rfl⟩
                        · exact sk
                        · rw [← e43]; exact l0
                        · rw [← e43]; exact g0
                        · rw [← eq]; first | exact Or.inl ⟨rfl, by unfold x_sg; omega⟩ | exact Or.inr ⟨rfl, by unfold x_sg; omega⟩
                      · replace h19 : (m2 43 (m2 41 12)) ≠ 61 := h19
                        refine And.intro (fun h20 => ?_) (fun h20 => ?_)
                        · replace h20 : (m2 43 (m2 41 12)) = 43 := h20
                          refine K390 (m2 41 12) _ _ ?_ ?_ ?_ ?_ ?_ ?_
                          · intro r x hh
                            rw [mS_iff, if_neg (by omega)]
                            rw [mS_iff, if_neg (by omega)]
                            exact fr r x hh
                          · exact ⟨rfl, by omega, by omega, rfl⟩
                          · exact sk
                          · rw [← e43]; exact l0
                          · rw [← e43]; exact g0
                          · rw [← eq]; first | exact Or.inl ⟨rfl, by unfold x_sg; omega⟩ | exact Or.inr ⟨rfl, by unfold x_sg; omega⟩
                        · replace h20 : (m2 43 (m2 41 12)) ≠ 43 := h20
                          refine And.intro (fun h21 => ?_) (fun h21 => ?_)
                          · replace h21 : (m2 43 (m2 41 12)) = 45 := h21
                            refine K390 (m2 41 12) _ _ ?_ ?_ ?_ ?_ ?_ ?_
                            · intro r x hh
                              rw [mS_iff, if_neg (by omega)]
                              rw [mS_iff, if_neg (by omega)]
                              exact fr r x hh
                            · exact ⟨rfl, by omega, by omega, rfl⟩
                            · exact sk
                            · rw [← e43]; exact l0
                            · rw [← e43]; exact g0
                            · rw [← eq]; first | exact Or.inl ⟨rfl, by unfold x_sg; omega⟩ | exact Or.inr ⟨rfl, by unfold x_sg; omega⟩
                          · replace h21 : (m2 43 (m2 41 12)) ≠ 45 := h21
                            refine And.intro (fun h22 => ?_) (fun h22 => ?_)
                            · replace h22 : (m2 43 (m2 41 12)) = 42 := h22
                              refine K390 (m2 41 12) _ _ ?_ ?_ ?_ ?_ ?_ ?_
                              · intro r x hh
                                rw [mS_iff, if_neg (by omega)]
                                rw [mS_iff, if_neg (by omega)]
                                exact fr r x hh
                              · exact ⟨rfl, by omega, by omega, rfl⟩
                              · exact sk
                              · rw [← e43]; exact l0
                              · rw [← e43]; exact g0
                              · rw [← eq]; first | exact Or.inl ⟨rfl, by unfold x_sg; omega⟩ | exact Or.inr ⟨rfl, by unfold x_sg; omega⟩
                            · replace h22 : (m2 43 (m2 41 12)) ≠ 42 := h22
                              refine And.intro (fun h23 => ?_) (fun h23 => ?_)
                              · replace h23 : (m2 43 (m2 41 12)) ≠ 47 := h23
                                refine K390 (m2 41 12) _ _ ?_ ?_ ?_ ?_ ?_ ?_
                                · intro r x hh
                                  rw [mS_iff, if_neg (by omega)]
                                  rw [mS_iff, if_neg (by omega)]
                                  exact fr r x hh
                                · exact ⟨rfl, by omega, by omega, rfl⟩
                                · exact sk
                                · rw [← e43]; exact l0
                                · rw [← e43]; exact g0
                                · rw [← eq]; first | exact Or.inl ⟨rfl, by unfold x_sg; omega⟩ | exact Or.inr ⟨rfl, by unfold x_sg; omega⟩
                              · replace h23 : (m2 43 (m2 41 12)) = 47 := h23
                                refine K390 (m2 41 12) _ _ ?_ ?_ ?_ ?_ ?_ ?_
                                · intro r x hh
                                  rw [mS_iff, if_neg (by omega)]
                                  rw [mS_iff, if_neg (by omega)]
                                  exact fr r x hh
                                · exact ⟨rfl, by omega, by omega, rfl⟩
                                · exact sk
                                · rw [← e43]; exact l0
                                · rw [← e43]; exact g0
                                · rw [← eq]; first | exact Or.inl ⟨rfl, by unfold x_sg; omega⟩ | exact Or.inr ⟨rfl, by unfold x_sg; omega⟩
        · replace h12 : (m2 41 12) = (m2 41 3) := h12
          refine And.intro (rfl) ?_
          refine hQ _ (by
            intro r x hh
            rw [mS_iff, if_neg (by omega)]
            rw [mS_iff, if_neg (by omega)]
            rw [mS_iff, if_neg (by omega)]
            exact fr r x hh) sk ?_
          exact Or.inl ⟨by show m2 41 12 = n; omega, rfl, rfl, by show m2 41 12 = n; omega⟩
      · refine And.intro (rfl) ?_
        refine And.intro (rfl) ?_
        refine And.intro (⟨rfl, by first | omega | (simp only [mS_iff, eq_self, Int.reduceEq, true_and, and_true, false_and, and_false, and_self, ↓reduceIte]; omega) | (simp only [mS_iff, eq_self, Int.reduceEq, true_and, and_true, false_and, and_false, and_self, ↓reduceIte] at *; omega)⟩) ?_
        refine And.intro (fun h24 => ?_) (fun h24 => ?_)
        · refine And.intro (rfl) ?_
          refine And.intro (show -2147483648 ≤ (m2 41 12) + 1 ∧ (m2 41 12) + 1 ≤ 2147483647 by first | omega | (simp only [mS_iff, eq_self, Int.reduceEq, true_and, and_true, false_and, and_false, and_self, ↓reduceIte]; omega) | (simp only [mS_iff, eq_self, Int.reduceEq, true_and, and_true, false_and, and_false, and_self, ↓reduceIte] at *; omega)) ?_
          refine And.intro (rfl) ?_
          refine ih0 _ ?_ _ _ (Eq.refl _) ?_ ?_ ?_
          · show (n - (m2 41 12 + 1)).toNat < N
            omega
          · intro r x hh
            rw [mS_iff, if_neg (by omega)]
            exact fr r x hh
          · show m 41 12 ≤ m2 41 12 + 1 ∧ m2 41 12 + 1 ≤ n; omega
          · intro k a b
            have b2 : k < m2 41 12 + 1 := b
            by_cases e : k = m2 41 12
            · rw [e, ← eq]; unfold x_bl; omega
            · exact bl k a (by omega)
        · refine And.intro (rfl) ?_
          refine And.intro (rfl) ?_
          refine And.intro (⟨rfl, by first | omega | (simp only [mS_iff, eq_self, Int.reduceEq, true_and, and_true, false_and, and_false, and_self, ↓reduceIte]; omega) | (simp only [mS_iff, eq_self, Int.reduceEq, true_and, and_true, false_and, and_false, and_self, ↓reduceIte] at *; omega)⟩) ?_
          refine And.intro (fun h25 => ?_) (fun h25 => ?_)
          · have sk : x_sk (m 43) n (m 41 12) (m2 41 12) := ⟨by omega, by omega, bl, fun z => by rw [← eq]; unfold x_bl; omega⟩
            refine And.intro (rfl) ?_
            refine And.intro (rfl) ?_
            refine And.intro (rfl) ?_
            refine And.intro (rfl) ?_
            refine And.intro (rfl) ?_
            refine And.intro (fun h26 => ?_) (fun h26 => ?_)
            · replace h26 : (m2 41 12) ≠ (m2 41 3) := h26
              refine And.intro (rfl) ?_
              refine And.intro (rfl) ?_
              refine And.intro (⟨rfl, by first | omega | (simp only [mS_iff, eq_self, Int.reduceEq, true_and, and_true, false_and, and_false, and_self, ↓reduceIte]; omega) | (simp only [mS_iff, eq_self, Int.reduceEq, true_and, and_true, false_and, and_false, and_self, ↓reduceIte] at *; omega)⟩) ?_
              refine ct_195 (by omega) (fun h27 => ?_) (fun h27 => ?_)
              · have l0 := h27
                refine And.intro (fun h => absurd h (by decide)) (fun _ => ?_)
                refine K99 _ (m2 41 12) _ _ (Eq.refl _) ?_ ?_ ?_ ?_ ?_ ?_ ?_
                · intro r x hh
                  rw [mS_iff, if_neg (by omega)]
                  rw [mS_iff, if_neg (by omega)]
                  exact fr r x hh
                · exact ⟨rfl, by omega, by omega⟩
                · exact sk
                · rw [← e43]; exact l0
                · exact ⟨Int.le_refl _, by show m2 41 12 ≤ n; omega⟩
                · intro k a b
                  have b2 : k < m2 41 12 := b
                  omega
                · show (0 : Int) = x_v27 (m 43) (m2 41 12) (if m2 41 12 - m2 41 12 < 9 then m2 41 12 - m2 41 12 else 9).toNat; rw [Int.sub_self]; rfl
              · have l0 := h27
                refine And.intro (fun _ => ?_) (fun h => absurd h (by decide))
                refine ct_196 (by omega) (fun h28 => ?_) (fun h28 => ?_)
                · have g0 := h28
                  refine And.intro (fun h => absurd h (by decide)) (fun _ => ?_)
                  refine K219 _ (m2 41 12) _ _ (Eq.refl _) ?_ ?_ ?_ ?_ ?_ ?_ ?_
                  · intro r x hh
                    rw [mS_iff, if_neg (by omega)]
                    rw [mS_iff, if_neg (by omega)]
                    exact fr r x hh
                  · exact ⟨rfl, by omega, by omega⟩
                  · exact sk
                  · rw [← e43]; exact g0
                  · exact ⟨Int.le_refl _, by show m2 41 12 ≤ n; omega⟩
                  · intro k a b
                    have b2 : k < m2 41 12 := b
                    omega
                  · show (0 : Int) = x_dec (m 43) (m2 41 12) (if m2 41 12 - m2 41 12 < 4 then m2 41 12 - m2 41 12 else 4).toNat; rw [Int.sub_self]; rfl
                · have g0 := h28
                  refine And.intro (fun _ => ?_) (fun h => absurd h (by decide))
                  refine And.intro (fun h29 => ?_) (fun h29 => ?_)
                  · replace h29 : (m2 43 (m2 41 12)) = 44 := h29
                    refine K390 (m2 41 12) _ _ ?_ ?_ ?_ ?_ ?_ ?_
                    · intro r x hh
                      rw [mS_iff, if_neg (by omega)]
                      rw [mS_iff, if_neg (by omega)]
                      exact fr r x hh
                    · exact ⟨rfl, by omega, by omega, rfl⟩
                    · exact sk
                    · rw [← e43]; exact l0
                    · rw [← e43]; exact g0
                    · rw [← eq]; first | exact Or.inl ⟨rfl, by unfold x_sg; omega⟩ | exact Or.inr ⟨rfl, by unfold x_sg; omega⟩
                  · replace h29 : (m2 43 (m2 41 12)) ≠ 44 := h29
                    refine And.intro (fun h30 => ?_) (fun h30 => ?_)
                    · replace h30 : (m2 43 (m2 41 12)) = 40 := h30
                      refine K390 (m2 41 12) _ _ ?_ ?_ ?_ ?_ ?_ ?_
                      · intro r x hh
                        rw [mS_iff, if_neg (by omega)]
                        rw [mS_iff, if_neg (by omega)]
                        exact fr r x hh
                      · exact ⟨rfl, by omega, by omega, rfl⟩
                      · exact sk
                      · rw [← e43]; exact l0
                      · rw [← e43]; exact g0
                      · rw [← eq]; first | exact Or.inl ⟨rfl, by unfold x_sg; omega⟩ | exact Or.inr ⟨rfl, by unfold x_sg; omega⟩
                    · replace h30 : (m2 43 (m2 41 12)) ≠ 40 := h30
                      refine And.intro (fun h31 => ?_) (fun h31 => ?_)
                      · replace h31 : (m2 43 (m2 41 12)) = 41 := h31
                        refine K390 (m2 41 12) _ _ ?_ ?_ ?_ ?_ ?_ ?_
                        · intro r x hh
                          rw [mS_iff, if_neg (by omega)]
                          rw [mS_iff, if_neg (by omega)]
                          exact fr r x hh
                        · exact ⟨rfl, by omega, by omega, rfl⟩
                        · exact sk
                        · rw [← e43]; exact l0
                        · rw [← e43]; exact g0
                        · rw [← eq]; first | exact Or.inl ⟨rfl, by unfold x_sg; omega⟩ | exact Or.inr ⟨rfl, by unfold x_sg; omega⟩
                      · replace h31 : (m2 43 (m2 41 12)) ≠ 41 := h31
                        refine And.intro (fun h32 => ?_) (fun h32 => ?_)
                        · replace h32 : (m2 43 (m2 41 12)) = 60 := h32
                          refine K390 (m2 41 12) _ _ ?_ ?_ ?_ ?_ ?_ ?_
                          · intro r x hh
                            rw [mS_iff, if_neg (by omega)]
                            rw [mS_iff, if_neg (by omega)]
                            exact fr r x hh
                          · exact ⟨rfl, by omega, by omega, rfl⟩
                          · exact sk
                          · rw [← e43]; exact l0
                          · rw [← e43]; exact g0
                          · rw [← eq]; first | exact Or.inl ⟨rfl, by unfold x_sg; omega⟩ | exact Or.inr ⟨rfl, by unfold x_sg; omega⟩
                        · replace h32 : (m2 43 (m2 41 12)) ≠ 60 := h32
                          refine And.intro (fun h33 => ?_) (fun h33 => ?_)
                          · replace h33 : (m2 43 (m2 41 12)) = 61 := h33
                            refine K390 (m2 41 12) _ _ ?_ ?_ ?_ ?_ ?_ ?_
                            · intro r x hh
                              rw [mS_iff, if_neg (by omega)]
                              rw [mS_iff, if_neg (by omega)]
                              exact fr r x hh
                            · exact ⟨rfl, by omega, by omega, rfl⟩
                            · exact sk
                            · rw [← e43]; exact l0
                            · rw [← e43]; exact g0
                            · rw [← eq]; first | exact Or.inl ⟨rfl, by unfold x_sg; omega⟩ | exact Or.inr ⟨rfl, by unfold x_sg; omega⟩
                          · replace h33 : (m2 43 (m2 41 12)) ≠ 61 := h33
                            refine And.intro (fun h34 => ?_) (fun h34 => ?_)
                            · replace h34 : (m2 43 (m2 41 12)) = 43 := h34
                              refine K390 (m2 41 12) _ _ ?_ ?_ ?_ ?_ ?_ ?_
                              · intro r x hh
                                rw [mS_iff, if_neg (by omega)]
                                rw [mS_iff, if_neg (by omega)]
                                exact fr r x hh
                              · exact ⟨rfl, by omega, by omega, rfl⟩
                              · exact sk
                              · rw [← e43]; exact l0
                              · rw [← e43]; exact g0
                              · rw [← eq]; first | exact Or.inl ⟨rfl, by unfold x_sg; omega⟩ | exact Or.inr ⟨rfl, by unfold x_sg; omega⟩
                            · replace h34 : (m2 43 (m2 41 12)) ≠ 43 := h34
                              refine And.intro (fun h35 => ?_) (fun h35 => ?_)
                              · replace h35 : (m2 43 (m2 41 12)) = 45 := h35
                                refine K390 (m2 41 12) _ _ ?_ ?_ ?_ ?_ ?_ ?_
                                · intro r x hh
                                  rw [mS_iff, if_neg (by omega)]
                                  rw [mS_iff, if_neg (by omega)]
                                  exact fr r x hh
                                · exact ⟨rfl, by omega, by omega, rfl⟩
                                · exact sk
                                · rw [← e43]; exact l0
                                · rw [← e43]; exact g0
                                · rw [← eq]; first | exact Or.inl ⟨rfl, by unfold x_sg; omega⟩ | exact Or.inr ⟨rfl, by unfold x_sg; omega⟩
                              · replace h35 : (m2 43 (m2 41 12)) ≠ 45 := h35
                                refine And.intro (fun h36 => ?_) (fun h36 => ?_)
                                · replace h36 : (m2 43 (m2 41 12)) = 42 := h36
                                  refine K390 (m2 41 12) _ _ ?_ ?_ ?_ ?_ ?_ ?_
                                  · intro r x hh
                                    rw [mS_iff, if_neg (by omega)]
                                    rw [mS_iff, if_neg (by omega)]
                                    exact fr r x hh
                                  · exact ⟨rfl, by omega, by omega, rfl⟩
                                  · exact sk
                                  · rw [← e43]; exact l0
                                  · rw [← e43]; exact g0
                                  · rw [← eq]; first | exact Or.inl ⟨rfl, by unfold x_sg; omega⟩ | exact Or.inr ⟨rfl, by unfold x_sg; omega⟩
                                · replace h36 : (m2 43 (m2 41 12)) ≠ 42 := h36
                                  refine And.intro (fun h37 => ?_) (fun h37 => ?_)
                                  · replace h37 : (m2 43 (m2 41 12)) ≠ 47 := h37
                                    refine K390 (m2 41 12) _ _ ?_ ?_ ?_ ?_ ?_ ?_
                                    · intro r x hh
                                      rw [mS_iff, if_neg (by omega)]
                                      rw [mS_iff, if_neg (by omega)]
                                      exact fr r x hh
                                    · exact ⟨rfl, by omega, by omega, rfl⟩
                                    · exact sk
                                    · rw [← e43]; exact l0
                                    · rw [← e43]; exact g0
                                    · rw [← eq]; first | exact Or.inl ⟨rfl, by unfold x_sg; omega⟩ | exact Or.inr ⟨rfl, by unfold x_sg; omega⟩
                                  · replace h37 : (m2 43 (m2 41 12)) = 47 := h37
                                    refine K390 (m2 41 12) _ _ ?_ ?_ ?_ ?_ ?_ ?_
                                    · intro r x hh
                                      rw [mS_iff, if_neg (by omega)]
                                      rw [mS_iff, if_neg (by omega)]
                                      exact fr r x hh
                                    · exact ⟨rfl, by omega, by omega, rfl⟩
                                    · exact sk
                                    · rw [← e43]; exact l0
                                    · rw [← e43]; exact g0
                                    · rw [← eq]; first | exact Or.inl ⟨rfl, by unfold x_sg; omega⟩ | exact Or.inr ⟨rfl, by unfold x_sg; omega⟩
            · replace h26 : (m2 41 12) = (m2 41 3) := h26
              refine And.intro (rfl) ?_
              refine hQ _ (by
                intro r x hh
                rw [mS_iff, if_neg (by omega)]
                rw [mS_iff, if_neg (by omega)]
                rw [mS_iff, if_neg (by omega)]
                exact fr r x hh) sk ?_
              exact Or.inl ⟨by show m2 41 12 = n; omega, rfl, rfl, by show m2 41 12 = n; omega⟩
          · refine And.intro (rfl) ?_
            refine And.intro (show -2147483648 ≤ (m2 41 12) + 1 ∧ (m2 41 12) + 1 ≤ 2147483647 by first | omega | (simp only [mS_iff, eq_self, Int.reduceEq, true_and, and_true, false_and, and_false, and_self, ↓reduceIte]; omega) | (simp only [mS_iff, eq_self, Int.reduceEq, true_and, and_true, false_and, and_false, and_self, ↓reduceIte] at *; omega)) ?_
            refine And.intro (rfl) ?_
            refine ih0 _ ?_ _ _ (Eq.refl _) ?_ ?_ ?_
            · show (n - (m2 41 12 + 1)).toNat < N
              omega
            · intro r x hh
              rw [mS_iff, if_neg (by omega)]
              exact fr r x hh
            · show m 41 12 ≤ m2 41 12 + 1 ∧ m2 41 12 + 1 ≤ n; omega
            · intro k a b
              have b2 : k < m2 41 12 + 1 := b
              by_cases e : k = m2 41 12
              · rw [e, ← eq]; unfold x_bl; omega
              · exact bl k a (by omega)
  refine K0 _ _ _ (Eq.refl _) ?_ ?_ ?_
  · exact fun _ _ _ => rfl
  · omega
  · intro k a b
    omega
