/-! needs: c17 -/
/-! CALLS: feed, both; by tools/genc18.py -/
set_option maxRecDepth 100000
set_option maxHeartbeats 8000000
def sFd (S : aM) (w n : Int) : aM := fun x j => if x = 0 ∧ j = 0 then S 0 0 + n else if x = 1 ∧ S 0 0 ≤ j then fd_b w (n - 1 - (j - S 0 0)) else S x j
def c_fd (S : aM) (w n : Int) : Int × aM := if 1 ≤ n ∧ n ≤ 8 then (if 1200 < S 0 0 + n then (-5, S) else (S 0 0 + n, sFd S w n)) else (-3, S)
theorem sFd_0 {S : aM} {w n j : Int} (h : j ≠ 0) : sFd S w n 0 j = S 0 j := by unfold sFd; rw [if_neg (by omega), if_neg (by omega)]
theorem sFd_00 {S : aM} {w n : Int} : sFd S w n 0 0 = S 0 0 + n := by unfold sFd; rw [if_pos ⟨rfl, rfl⟩]
theorem sFd_r {S : aM} {w n x : Int} (h : x ≠ 0 ∧ x ≠ 1) : sFd S w n x = S x := funext fun j => by unfold sFd; rw [if_neg (by omega), if_neg (by omega)]
theorem sFd_1 {S : aM} {w n j : Int} (h : S 0 0 ≤ j) : sFd S w n 1 j = fd_b w (n - 1 - (j - S 0 0)) := by unfold sFd; rw [if_neg (by omega), if_pos ⟨rfl, h⟩]
theorem sFd_2 {S : aM} {w n j : Int} (h : j < S 0 0) : sFd S w n 1 j = S 1 j := by unfold sFd; rw [if_neg (by omega), if_neg (by omega)]
theorem hI.fd {S : aM} {F : Int → aD} {lo hi cl ch : Int → Int} {m m' : aM} {w n : Int} (h : hI S F lo hi cl ch m) (f : ∀ x j, (x ≠ 18 ∨ j < 0) → (x ≠ 1 ∨ j ≠ 17) → m' x j = m x j) (e : m' 1 17 = S 0 0 + n) (o : ∀ i, 0 ≤ i → i < S 0 0 + n → m' 18 i = sFd S w n 1 i) : hI (sFd S w n) F lo hi cl ch m' := by
  have E : ∀ x, x ≠ 18 → x ≠ 1 → m' x = m x := fun x a b => funext fun j => f x j (by omega) (by omega)
  have e1 : ∀ j, j ≠ 17 → m' 1 j = m 1 j := fun j u => f 1 j (by omega) (by omega)
  have hn : hNm (sFd S w n) m' := by
    obtain ⟨n1, n2, n3, n4, n5, n6, n7, n8, n9⟩ := h.2.2.1
    unfold hNm
    rw [sFd_00, sFd_0 (j := 1) (by omega), sFd_0 (j := 2) (by omega), sFd_0 (j := 7) (by omega), sFd_0 (j := 8) (by omega), sFd_0 (j := 9) (by omega), sFd_r (x := 2) (by omega), e1 3 (by omega), e1 18 (by omega), e1 38 (by omega), e1 41 (by omega), e1 46 (by omega), e1 39 (by omega), E 4 (by omega) (by omega)]
    exact ⟨e, o, n3, n4, n5, n6, n7, n8, n9⟩
  exact h.up (fun x j u => f x j (by omega) (by omega)) hn ((h.2.2.2.2.1.keep (e1 29 (by omega)) (fun x u => E x (by omega) (by omega))).cg (sFd_0 (by omega)) (sFd_0 (by omega)) (fun x a b => sFd_r (by omega))) (fun j u => e1 j (by omega)) (fun x u => E x (by omega) (by omega)) ⟨f 18 _ (by omega) (by omega), f 18 _ (by omega) (by omega)⟩ (sFd_0 (by omega)) (sFd_0 (by omega)) (sFd_0 (by omega)) (fun x u => sFd_r (by omega))
theorem mI.fd {S : aM} {F : Int → aD} {m m' : aM} {w n : Int} (h : mI S F m) (f : ∀ x j, x ≠ 43 → (x ≠ 41 ∨ j ≠ 3) → m' x j = m x j) (e : m' 41 3 = S 0 0 + n) (o : ∀ i, 0 ≤ i → i < S 0 0 + n → m' 43 i = sFd S w n 1 i) : mI (sFd S w n) F m' := by
  have E : ∀ x, x ≠ 43 → x ≠ 41 → m' x = m x := fun x a b => funext fun j => f x j a (by omega)
  have e1 : ∀ j, j ≠ 3 → m' 41 j = m 41 j := fun j u => f 41 j (by omega) (by omega)
  have hn : mNm (sFd S w n) m' := by
    obtain ⟨n1, n2, n3, n4, n5, n6, n7, n8⟩ := h.1
    unfold mNm
    rw [sFd_00, sFd_0 (j := 1) (by omega), sFd_0 (j := 2) (by omega), sFd_0 (j := 7) (by omega), sFd_0 (j := 8) (by omega), sFd_0 (j := 9) (by omega), sFd_r (x := 2) (by omega), e1 5 (by omega), e1 17 (by omega), e1 62 (by omega), e1 63 (by omega), e1 67 (by omega), E 44 (by omega) (by omega)]
    exact ⟨e, o, n3, n4, n5, n6, n7, n8⟩
  have he : mEs (sFd S w n) m' := by
    refine mEs.cg ?_ (sFd_0 (by omega)) (sFd_0 (by omega)) (fun r a b => sFd_r (by omega))
    unfold mEs
    rw [e1 40 (by omega), E 65 (by omega) (by omega), E 66 (by omega) (by omega), E 67 (by omega) (by omega)]
    exact h.2.2.1
  exact h.up hn he (fun j u => e1 j (by omega)) (fun x u => E x (by omega) (by omega)) (fun j u => f 42 j (by omega) (by omega)) (sFd_0 (by omega)) (sFd_0 (by omega)) (sFd_0 (by omega)) (fun x u => sFd_r (by omega))
theorem hs_38 {d : Nat} {m : aM} {Q : aO → aM → Prop} {S : aM} {F : Int → aD} {lo hi cl ch : Int → Int} {w n : Int} {k : Int} (hd : 60 ≤ d) (hk : 0 ≤ k) (hz0 : hZ (k + 1) S F lo hi cl ch m) (si : sI S F) (hn : -2147483648 ≤ n ∧ n ≤ 2147483647) (hQ : ∀ m', hZ k (c_fd S w n).2 F lo hi cl ch m' → (∀ x j, 41 ≤ x → x ≤ 76 → m' x j = m x j) → Q (.inl (some (aI (c_fd S w n).1))) m') : am_wpc am_G am_T d 38 [aR 1, aL w, aI n] m Q := by
  have h := hz0.1
  have hr := hz0.2
  have fr := hFr.rfl m
  obtain ⟨r1, r2, r3, r4, r5⟩ := id hr
  have hS := h.2.2.2.1
  have h0 := h.1
  have s1 := hS.1
  obtain ⟨n1, n2, n3, n4, n5, n6, n7, n8, n9⟩ := id h.2.2.1
  have hE := h.2.2.2.2.1
  have e5 := hE.2.1
  have e6 := hE.1.1
  have e7 := hE.1.2
  obtain ⟨dk, hdk⟩ : ∃ k, d = k + 1 := ⟨d - 1, by omega⟩
  refine am_in (k := dk) rfl (by omega) (fun d hd => ?_)
  have K35 : ∀ (Nm : Nat), ∀ (j : Int), ∀ (mw : aM), (j + 1).toNat = Nm → ((-1 ≤ j ∧ j < n) ∧ (1 ≤ n ∧ n ≤ 8) ∧ S 0 0 + n ≤ 1200 ∧ 0 ≤ S 0 0) → (∀ x i, (x ≠ 18 ∨ i < 0) → (x ≠ 1 ∨ i ≠ 17) → mw x i = m x i) → (mw 1 17 = S 0 0 + (n - 1 - j)) → (∀ i, 0 ≤ i → i < S 0 0 + (n - 1 - j) → mw 18 i = sFd S w n 1 i) → am_WP am_G (am_wpc am_G am_T d) [] cd_38 Q 35 [aR 1, aL w, aU, aI n, aI j] [] mw := by
    intro Nm
    induction Nm using Nat.strongRecOn with
    | _ Nm ih35 =>
      intro j mw hN hj ff ec oo
      refine am_go 400 [35] (am_wpc_cm _ _ _) wf_38 ?_
      refine And.intro (fun h1 => ?_) (fun h1 => ?_)
      · refine And.intro (rfl) ?_
        have ev0 : c_fd S w n = (S 0 0 + n, sFd S w n) := by
          unfold c_fd
          repeat' split
          all_goals first | rfl | (exfalso; omega) | (refine Prod.ext ?_ ?_ <;> first | rfl | (show _ = _; omega))
        rw [ev0] at hQ
        dsimp only at hQ
        rw [show (mw 1 17) = S 0 0 + n by omega]
        exact hQ mw ⟨h.fd ff (by omega) (fun i a b => oo i a (by omega)), hr.up (fun j => ff 0 j (by omega) (by omega)) (ff 1 14 (by omega) (by omega))⟩ (fun x i u v => ff x i (by omega) (by omega))
      · refine And.intro (rfl) ?_
        refine And.intro (rfl) ?_
        refine And.intro (show -2147483648 ≤ 8 * j ∧ 8 * j ≤ 2147483647 by first | omega | (simp only [mS_iff, eq_self, Int.reduceEq, true_and, and_true, false_and, and_false, and_self, ↓reduceIte]; omega) | (simp only [mS_iff, eq_self, Int.reduceEq, true_and, and_true, false_and, and_false, and_self, ↓reduceIte] at *; omega)) ?_
        refine And.intro (⟨rfl, by omega⟩) ?_
        refine And.intro (rfl) ?_
        refine And.intro (show -2147483648 ≤ (mw 1 17) + 1 ∧ (mw 1 17) + 1 ≤ 2147483647 by first | omega | (simp only [mS_iff, eq_self, Int.reduceEq, true_and, and_true, false_and, and_false, and_self, ↓reduceIte]; omega) | (simp only [mS_iff, eq_self, Int.reduceEq, true_and, and_true, false_and, and_false, and_self, ↓reduceIte] at *; omega)) ?_
        refine And.intro (rfl) ?_
        refine And.intro (show -2147483648 ≤ j + (-1) ∧ j + (-1) ≤ 2147483647 by first | omega | (simp only [mS_iff, eq_self, Int.reduceEq, true_and, and_true, false_and, and_false, and_self, ↓reduceIte]; omega) | (simp only [mS_iff, eq_self, Int.reduceEq, true_and, and_true, false_and, and_false, and_self, ↓reduceIte] at *; omega)) ?_
        refine ih35 _ ?_ _ _ (Eq.refl _) ?_ ?_ ?_ ?_
        · omega
        · omega
        · exact fun x i u v => by rw [mS_iff, if_neg (by omega), mS_iff, if_neg (by omega)]; exact ff x i u v
        · rw [mS_iff, if_pos ⟨rfl, rfl⟩, mS_iff, if_neg (by omega)]; omega
        · intro i a b
          rw [mS_iff, if_neg (by omega), mS_iff]
          split
          · rw [sFd_1 (by omega), show n - 1 - (i - S 0 0) = j by omega]
            rfl
          · exact oo i a (by omega)
  refine am_go 400 [35] (am_wpc_cm _ _ _) wf_38 ?_
  have s10 := si.1
  refine ct_39 (by omega) (fun h2 => ?_) (fun h2 => ?_)
  · refine And.intro (fun _ => ?_) (fun h => absurd h (by decide))
    refine And.intro (rfl) ?_
    refine And.intro (show -2147483648 ≤ (m 1 17) + n ∧ (m 1 17) + n ≤ 2147483647 by first | omega | (simp only [mS_iff, eq_self, Int.reduceEq, true_and, and_true, false_and, and_false, and_self, ↓reduceIte]; omega) | (simp only [mS_iff, eq_self, Int.reduceEq, true_and, and_true, false_and, and_false, and_self, ↓reduceIte] at *; omega)) ?_
    refine And.intro (fun h3 => ?_) (fun h3 => ?_)
    · refine And.intro (show -2147483648 ≤ n - 1 ∧ n - 1 ≤ 2147483647 by first | omega | (simp only [mS_iff, eq_self, Int.reduceEq, true_and, and_true, false_and, and_false, and_self, ↓reduceIte]; omega) | (simp only [mS_iff, eq_self, Int.reduceEq, true_and, and_true, false_and, and_false, and_self, ↓reduceIte] at *; omega)) ?_
      refine K35 _ _ _ (Eq.refl _) ?_ ?_ ?_ ?_
      · omega
      · exact fun _ _ _ _ => rfl
      · omega
      · exact fun i a b => by rw [sFd_2 (by omega)]; exact n2 i a (by omega)
    · have ev0 : c_fd S w n = ((-5), S) := by
        unfold c_fd
        repeat' split
        all_goals first | rfl | (exfalso; omega) | (refine Prod.ext ?_ ?_ <;> first | rfl | (show _ = _; omega))
      rw [ev0] at hQ
      dsimp only at hQ
      exact hQ m (hz0.fr fr (by omega)) fr.M
  · refine And.intro (fun h => absurd h (by decide)) (fun _ => ?_)
    have ev0 : c_fd S w n = ((-3), S) := by
      unfold c_fd
      repeat' split
      all_goals first | rfl | (exfalso; omega) | (refine Prod.ext ?_ ?_ <;> first | rfl | (show _ = _; omega))
    rw [ev0] at hQ
    dsimp only at hQ
    exact hQ m (hz0.fr fr (by omega)) fr.M
theorem ms_175 {d : Nat} {m : aM} {Q : aO → aM → Prop} {S : aM} {F : Int → aD} {w n : Int} {k : Int} (hd : 60 ≤ d) (hk : 0 ≤ k) (hz0 : mZ (k + 1) S F m) (si : sI S F) (hn : -2147483648 ≤ n ∧ n ≤ 2147483647) (hQ : ∀ m', mZ k (c_fd S w n).2 F m' → (∀ x j, x < 41 ∨ 76 < x → m' x j = m x j) → Q (.inl (some (aI (c_fd S w n).1))) m') : am_wpc am_G am_T d 175 [aR 41, aL w, aI n] m Q := by
  have h := hz0.1
  have hr := hz0.2
  have fr := mFr.rfl m
  have hS := h.2.1
  have s1 := hS.1
  obtain ⟨n1, n2, n3, n4, n5, n6, n7, n8⟩ := id h.1
  have hE := h.2.2.1
  have e5 := hE.2.1
  have e6 := hE.1.1
  have e7 := hE.1.2
  obtain ⟨dk, hdk⟩ : ∃ k, d = k + 1 := ⟨d - 1, by omega⟩
  refine am_in (k := dk) rfl (by omega) (fun d hd => ?_)
  have K34 : ∀ (Nm : Nat), ∀ (j : Int), ∀ (mw : aM), (j + 1).toNat = Nm → ((-1 ≤ j ∧ j < n) ∧ (1 ≤ n ∧ n ≤ 8) ∧ S 0 0 + n ≤ 1200 ∧ 0 ≤ S 0 0) → (∀ x i, (x ≠ 43 ∨ i < 0) → (x ≠ 41 ∨ i ≠ 3) → mw x i = m x i) → (mw 41 3 = S 0 0 + (n - 1 - j)) → (∀ i, 0 ≤ i → i < S 0 0 + (n - 1 - j) → mw 43 i = sFd S w n 1 i) → am_WP am_G (am_wpc am_G am_T d) [] cd_175 Q 34 [aR 41, aL w, aU, aI n, aI j] [] mw := by
    intro Nm
    induction Nm using Nat.strongRecOn with
    | _ Nm ih34 =>
      intro j mw hN hj ff ec oo
      refine am_go 400 [34] (am_wpc_cm _ _ _) wf_175 ?_
      refine And.intro (fun h1 => ?_) (fun h1 => ?_)
      · refine And.intro (rfl) ?_
        have ev0 : c_fd S w n = (S 0 0 + n, sFd S w n) := by
          unfold c_fd
          repeat' split
          all_goals first | rfl | (exfalso; omega) | (refine Prod.ext ?_ ?_ <;> first | rfl | (show _ = _; omega))
        rw [ev0] at hQ
        dsimp only at hQ
        rw [show (mw 41 3) = S 0 0 + n by omega]
        exact hQ mw ⟨h.fd (fun x i u v => ff x i (by omega) v) (by omega) (fun i a b => oo i a (by omega)), hr.up (ff 41 27 (by omega) (by omega))⟩ (fun x i u => ff x i (by omega) (by omega))
      · refine And.intro (rfl) ?_
        refine And.intro (rfl) ?_
        refine And.intro (show -2147483648 ≤ 8 * j ∧ 8 * j ≤ 2147483647 by first | omega | (simp only [mS_iff, eq_self, Int.reduceEq, true_and, and_true, false_and, and_false, and_self, ↓reduceIte]; omega) | (simp only [mS_iff, eq_self, Int.reduceEq, true_and, and_true, false_and, and_false, and_self, ↓reduceIte] at *; omega)) ?_
        refine And.intro (⟨rfl, by omega⟩) ?_
        refine And.intro (rfl) ?_
        refine And.intro (show -2147483648 ≤ (mw 41 3) + 1 ∧ (mw 41 3) + 1 ≤ 2147483647 by first | omega | (simp only [mS_iff, eq_self, Int.reduceEq, true_and, and_true, false_and, and_false, and_self, ↓reduceIte]; omega) | (simp only [mS_iff, eq_self, Int.reduceEq, true_and, and_true, false_and, and_false, and_self, ↓reduceIte] at *; omega)) ?_
        refine And.intro (rfl) ?_
        refine And.intro (show -2147483648 ≤ j + (-1) ∧ j + (-1) ≤ 2147483647 by first | omega | (simp only [mS_iff, eq_self, Int.reduceEq, true_and, and_true, false_and, and_false, and_self, ↓reduceIte]; omega) | (simp only [mS_iff, eq_self, Int.reduceEq, true_and, and_true, false_and, and_false, and_self, ↓reduceIte] at *; omega)) ?_
        refine ih34 _ ?_ _ _ (Eq.refl _) ?_ ?_ ?_ ?_
        · omega
        · omega
        · exact fun x i u v => by rw [mS_iff, if_neg (by omega), mS_iff, if_neg (by omega)]; exact ff x i u v
        · rw [mS_iff, if_pos ⟨rfl, rfl⟩, mS_iff, if_neg (by omega)]; omega
        · intro i a b
          rw [mS_iff, if_neg (by omega), mS_iff]
          split
          · rw [sFd_1 (by omega), show n - 1 - (i - S 0 0) = j by omega]
            rfl
          · exact oo i a (by omega)
  refine am_go 400 [34] (am_wpc_cm _ _ _) wf_175 ?_
  have s10 := si.1
  refine And.intro (fun h2 => ?_) (fun h2 => ?_)
  · have ev0 : c_fd S w n = ((-3), S) := by
      unfold c_fd
      repeat' split
      all_goals first | rfl | (exfalso; omega) | (refine Prod.ext ?_ ?_ <;> first | rfl | (show _ = _; omega))
    rw [ev0] at hQ
    dsimp only at hQ
    exact hQ m (hz0.fr fr) fr.1
  · refine And.intro (fun h3 => ?_) (fun h3 => ?_)
    · refine And.intro (rfl) ?_
      refine And.intro (show -2147483648 ≤ (m 41 3) + n ∧ (m 41 3) + n ≤ 2147483647 by first | omega | (simp only [mS_iff, eq_self, Int.reduceEq, true_and, and_true, false_and, and_false, and_self, ↓reduceIte]; omega) | (simp only [mS_iff, eq_self, Int.reduceEq, true_and, and_true, false_and, and_false, and_self, ↓reduceIte] at *; omega)) ?_
      refine And.intro (fun h4 => ?_) (fun h4 => ?_)
      · refine And.intro (show -2147483648 ≤ n - 1 ∧ n - 1 ≤ 2147483647 by first | omega | (simp only [mS_iff, eq_self, Int.reduceEq, true_and, and_true, false_and, and_false, and_self, ↓reduceIte]; omega) | (simp only [mS_iff, eq_self, Int.reduceEq, true_and, and_true, false_and, and_false, and_self, ↓reduceIte] at *; omega)) ?_
        refine K34 _ _ _ (Eq.refl _) ?_ ?_ ?_ ?_
        · omega
        · exact fun _ _ _ _ => rfl
        · omega
        · exact fun i a b => by rw [sFd_2 (by omega)]; exact n2 i a (by omega)
      · have ev0 : c_fd S w n = ((-5), S) := by
          unfold c_fd
          repeat' split
          all_goals first | rfl | (exfalso; omega) | (refine Prod.ext ?_ ?_ <;> first | rfl | (show _ = _; omega))
        rw [ev0] at hQ
        dsimp only at hQ
        exact hQ m (hz0.fr fr) fr.1
    · have ev0 : c_fd S w n = ((-3), S) := by
        unfold c_fd
        repeat' split
        all_goals first | rfl | (exfalso; omega) | (refine Prod.ext ?_ ?_ <;> first | rfl | (show _ = _; omega))
      rw [ev0] at hQ
      dsimp only at hQ
      exact hQ m (hz0.fr fr) fr.1
