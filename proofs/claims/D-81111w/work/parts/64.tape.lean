/-! needs: 62 -/
/-! CONTRACTS: the tape and OUT; by tools/gen64.py -/
set_option maxRecDepth 100000
theorem ct_39 {d : Nat} {m : aM} {Q : aO → aM → Prop} {a b c : Int} (hd : 1 ≤ d) (hQ1 : b ≤ a ∧ a ≤ c → Q (.inl (some (aI 1))) m) (hQ0 : ¬ (b ≤ a ∧ a ≤ c) → Q (.inl (some (aI 0))) m) : am_wpc am_G am_T d 39 [aL a, aL b, aL c] m Q := by
  refine am_in rfl hd (fun d hd => ?_)
  refine am_go 400 [] (am_wpc_cm _ _ _) wf_39 ?_
  refine And.intro (fun h1 => ?_) (fun h1 => ?_)
  · replace h1 := am_lc_lt.mp h1
    refine And.intro (by omega) ?_
    exact hQ0 (by omega)
  · replace h1 := am_lc_ge.mp h1
    refine And.intro (fun h2 => ?_) (fun h2 => ?_)
    · replace h2 := am_lc_gt.mp h2
      refine And.intro (by omega) ?_
      exact hQ0 (by omega)
    · replace h2 := am_lc_le.mp h2
      refine And.intro (by omega) ?_
      exact hQ1 (by omega)
def fd_b (w j : Int) : Int := am_and (am_l2i (am_lushr w (8 * j))) 255
theorem lp_feed_H : ∀ (K : Nat) {d : Nat} {m : aM} {Q : aO → aM → Prop} {w n j : Int}, (j + 1).toNat = K → -1 ≤ j → j ≤ 7 → 0 ≤ m 1 17 → m 1 17 + (j + 1) ≤ 1200 → (∀ m' v, v = m 1 17 + (j + 1) → m' 1 17 = v → (∀ i, 0 ≤ i → i ≤ j → m' 18 (m 1 17 + (j - i)) = fd_b w i) → (∀ i, i < m 1 17 → m' 18 i = m 18 i) → Q (.inl (some (aI v))) m') → am_WP am_G (am_wpc am_G am_T d) [] cd_38 Q 35 [aR 1, aL w, aU, aI n, aI j] [] m := by
  intro K
  induction K using Nat.strongRecOn with
  | _ K ih =>
    intro d m Q w n j hK h0 h7 ht hr hQ
    refine am_go 400 [35] (am_wpc_cm _ _ _) wf_38 ?_
    refine And.intro (fun h1 => ?_) (fun h1 => ?_)
    · refine And.intro (rfl) ?_
      exact hQ m _ (by omega) (by omega) (fun i _ _ => by omega) (fun _ _ => rfl)
    · refine And.intro (rfl) ?_
      refine And.intro (rfl) ?_
      refine And.intro (by first | omega | (simp [mS] <;> omega)) ?_
      refine And.intro (⟨rfl, by first | omega | (simp [mS] <;> omega)⟩) ?_
      refine And.intro (rfl) ?_
      refine And.intro (by first | omega | (simp [mS] <;> omega)) ?_
      refine And.intro (rfl) ?_
      refine And.intro (by first | omega | (simp [mS] <;> omega)) ?_
      have e1 : mS (mS m 18 (m 1 17) (fd_b w j)) 1 17 (m 1 17 + 1) 1 17 = m 1 17 + 1 := by simp [mS]
      refine ih _ ?_ (Eq.refl _) (by omega) (by omega) ?_ ?_ ?_
      · omega
      · show 0 ≤ mS (mS m 18 (m 1 17) (fd_b w j)) 1 17 (m 1 17 + 1) 1 17
        omega
      · show mS (mS m 18 (m 1 17) (fd_b w j)) 1 17 (m 1 17 + 1) 1 17 + (j + -1 + 1) ≤ 1200
        omega
      · intro m' v hv h1 h2 h3
        replace hv : v = mS (mS m 18 (m 1 17) (fd_b w j)) 1 17 (m 1 17 + 1) 1 17 + (j + -1 + 1) := hv
        replace h2 : ∀ i, 0 ≤ i → i ≤ j + -1 → m' 18 (mS (mS m 18 (m 1 17) (fd_b w j)) 1 17 (m 1 17 + 1) 1 17 + (j + -1 - i)) = fd_b w i := h2
        replace h3 : ∀ i, i < mS (mS m 18 (m 1 17) (fd_b w j)) 1 17 (m 1 17 + 1) 1 17 → m' 18 i = mS (mS m 18 (m 1 17) (fd_b w j)) 1 17 (m 1 17 + 1) 18 i := h3
        rw [e1] at hv h2 h3
        refine hQ m' v (by omega) h1 (fun i hi0 hij => ?_) (fun i hi => ?_)
        · by_cases e : i = j
          · subst e
            rw [show m 1 17 + (i - i) = m 1 17 by omega, h3 _ (by omega)]
            simp [mS]
          · have := h2 i hi0 (by omega)
            rw [show m 1 17 + 1 + (j + -1 - i) = m 1 17 + (j - i) by omega] at this
            exact this
        · rw [h3 i (by omega)]
          have : i ≠ m 1 17 := by omega
          simp [mS, this]
theorem ct_38 {d : Nat} {m : aM} {Q : aO → aM → Prop} {w n : Int} (hd : 2 ≤ d) (ht : 0 ≤ m 1 17 ∧ m 1 17 ≤ 1200) (hw : -2147483648 ≤ n ∧ n ≤ 2147483647) (hQ3 : ¬ (1 ≤ n ∧ n ≤ 8) → Q (.inl (some (aI (-3)))) m) (hQ5 : 1 ≤ n ∧ n ≤ 8 → 1200 < m 1 17 + n → Q (.inl (some (aI (-5)))) m) (hQ : 1 ≤ n ∧ n ≤ 8 → m 1 17 + n ≤ 1200 → ∀ m' v, v = m 1 17 + n → m' 1 17 = v → (∀ i, 0 ≤ i → i < n → m' 18 (m 1 17 + (n - 1 - i)) = fd_b w i) → (∀ i, i < m 1 17 → m' 18 i = m 18 i) → Q (.inl (some (aI v))) m') : am_wpc am_G am_T d 38 [aR 1, aL w, aI n] m Q := by
  refine am_in rfl hd (fun d hd => ?_)
  refine am_go 400 [35] (am_wpc_cm _ _ _) wf_38 ?_
  refine ct_39 (by omega) (fun h1 => ?_) (fun h2 => ?_)
  · refine And.intro (fun _ => ?_) (fun h => absurd h (by decide))
    refine And.intro (rfl) ?_
    refine And.intro (by first | omega | (simp [mS] <;> omega)) ?_
    refine And.intro (fun h3 => ?_) (fun h3 => ?_)
    · refine And.intro (by first | omega | (simp [mS] <;> omega)) ?_
      exact lp_feed_H _ (Eq.refl _) (by omega) (by omega) (by omega) (by omega) (fun m' v hv h1 h2 h3 => hQ (by omega) (by omega) m' v (by omega) h1 (fun i a b => h2 i a (by omega)) h3)
    · exact hQ5 (by omega) (by omega)
  · refine And.intro (fun h => absurd h (by decide)) (fun _ => ?_)
    exact hQ3 (by omega)
theorem lp_feed_M : ∀ (K : Nat) {d : Nat} {m : aM} {Q : aO → aM → Prop} {w n j : Int}, (j + 1).toNat = K → -1 ≤ j → j ≤ 7 → 0 ≤ m 41 3 → m 41 3 + (j + 1) ≤ 1200 → (∀ m' v, v = m 41 3 + (j + 1) → m' 41 3 = v → (∀ i, 0 ≤ i → i ≤ j → m' 43 (m 41 3 + (j - i)) = fd_b w i) → (∀ i, i < m 41 3 → m' 43 i = m 43 i) → Q (.inl (some (aI v))) m') → am_WP am_G (am_wpc am_G am_T d) [] cd_175 Q 34 [aR 41, aL w, aU, aI n, aI j] [] m := by
  intro K
  induction K using Nat.strongRecOn with
  | _ K ih =>
    intro d m Q w n j hK h0 h7 ht hr hQ
    refine am_go 400 [34] (am_wpc_cm _ _ _) wf_175 ?_
    refine And.intro (fun h1 => ?_) (fun h1 => ?_)
    · refine And.intro (rfl) ?_
      exact hQ m _ (by omega) (by omega) (fun i _ _ => by omega) (fun _ _ => rfl)
    · refine And.intro (rfl) ?_
      refine And.intro (rfl) ?_
      refine And.intro (by first | omega | (simp [mS] <;> omega)) ?_
      refine And.intro (⟨rfl, by first | omega | (simp [mS] <;> omega)⟩) ?_
      refine And.intro (rfl) ?_
      refine And.intro (by first | omega | (simp [mS] <;> omega)) ?_
      refine And.intro (rfl) ?_
      refine And.intro (by first | omega | (simp [mS] <;> omega)) ?_
      have e1 : mS (mS m 43 (m 41 3) (fd_b w j)) 41 3 (m 41 3 + 1) 41 3 = m 41 3 + 1 := by simp [mS]
      refine ih _ ?_ (Eq.refl _) (by omega) (by omega) ?_ ?_ ?_
      · omega
      · show 0 ≤ mS (mS m 43 (m 41 3) (fd_b w j)) 41 3 (m 41 3 + 1) 41 3
        omega
      · show mS (mS m 43 (m 41 3) (fd_b w j)) 41 3 (m 41 3 + 1) 41 3 + (j + -1 + 1) ≤ 1200
        omega
      · intro m' v hv h1 h2 h3
        replace hv : v = mS (mS m 43 (m 41 3) (fd_b w j)) 41 3 (m 41 3 + 1) 41 3 + (j + -1 + 1) := hv
        replace h2 : ∀ i, 0 ≤ i → i ≤ j + -1 → m' 43 (mS (mS m 43 (m 41 3) (fd_b w j)) 41 3 (m 41 3 + 1) 41 3 + (j + -1 - i)) = fd_b w i := h2
        replace h3 : ∀ i, i < mS (mS m 43 (m 41 3) (fd_b w j)) 41 3 (m 41 3 + 1) 41 3 → m' 43 i = mS (mS m 43 (m 41 3) (fd_b w j)) 41 3 (m 41 3 + 1) 43 i := h3
        rw [e1] at hv h2 h3
        refine hQ m' v (by omega) h1 (fun i hi0 hij => ?_) (fun i hi => ?_)
        · by_cases e : i = j
          · subst e
            rw [show m 41 3 + (i - i) = m 41 3 by omega, h3 _ (by omega)]
            simp [mS]
          · have := h2 i hi0 (by omega)
            rw [show m 41 3 + 1 + (j + -1 - i) = m 41 3 + (j - i) by omega] at this
            exact this
        · rw [h3 i (by omega)]
          have : i ≠ m 41 3 := by omega
          simp [mS, this]
theorem ct_175 {d : Nat} {m : aM} {Q : aO → aM → Prop} {w n : Int} (hd : 2 ≤ d) (ht : 0 ≤ m 41 3 ∧ m 41 3 ≤ 1200) (hw : -2147483648 ≤ n ∧ n ≤ 2147483647) (hQ3 : ¬ (1 ≤ n ∧ n ≤ 8) → Q (.inl (some (aI (-3)))) m) (hQ5 : 1 ≤ n ∧ n ≤ 8 → 1200 < m 41 3 + n → Q (.inl (some (aI (-5)))) m) (hQ : 1 ≤ n ∧ n ≤ 8 → m 41 3 + n ≤ 1200 → ∀ m' v, v = m 41 3 + n → m' 41 3 = v → (∀ i, 0 ≤ i → i < n → m' 43 (m 41 3 + (n - 1 - i)) = fd_b w i) → (∀ i, i < m 41 3 → m' 43 i = m 43 i) → Q (.inl (some (aI v))) m') : am_wpc am_G am_T d 175 [aR 41, aL w, aI n] m Q := by
  refine am_in rfl hd (fun d hd => ?_)
  refine am_go 400 [34] (am_wpc_cm _ _ _) wf_175 ?_
  refine And.intro (fun h1 => ?_) (fun h1 => ?_)
  · exact hQ3 (by omega)
  · refine And.intro (fun h2 => ?_) (fun h2 => ?_)
    · refine And.intro (rfl) ?_
      refine And.intro (by first | omega | (simp [mS] <;> omega)) ?_
      refine And.intro (fun h3 => ?_) (fun h3 => ?_)
      · refine And.intro (by first | omega | (simp [mS] <;> omega)) ?_
        exact lp_feed_M _ (Eq.refl _) (by omega) (by omega) (by omega) (by omega) (fun m' v hv h1 h2 h3 => hQ (by omega) (by omega) m' v (by omega) h1 (fun i a b => h2 i a (by omega)) h3)
      · exact hQ5 (by omega) (by omega)
    · exact hQ3 (by omega)
