/-! needs: c16 -/
/-! CALLS: count, turn, both; by tools/genc17.py -/
set_option maxRecDepth 100000
set_option maxHeartbeats 8000000
def c_cnt (S : aM) (n w : Int) : Int := if w = 0 then S 0 3 else if w = 1 then S 0 4 else if w = 2 then S 0 5 else if w = 3 then S 0 6 else if w = 4 then S 0 0 else if w = 5 then n else -3
/-- what was written becomes the tape -/
def sTn (S : aM) : aM := fun x j => if x = 0 ∧ j = 0 then S 0 1 else if x = 1 then S 2 j else S x j
theorem hs_146 {d : Nat} {m : aM} {Q : aO → aM → Prop} {S : aM} {F : Int → aD} {lo hi cl ch : Int → Int} {n w : Int} (hd : 1 ≤ d) (h : hI S F lo hi cl ch m) (hc : m 1 45 = n) (hQ : Q (.inl (some (aI (c_cnt S n w)))) m) : am_wpc am_G am_T d 146 [aR 1, aI w] m Q := by
  have a1 := h.2.2.2.1.2.1
  have a2 := h.2.2.2.2.2.1.2.1
  have a3 := h.2.2.2.2.1.2.1
  have a4 := h.2.2.2.2.2.2.1.2.1
  have a5 := h.2.2.1.1
  refine am_in rfl hd (fun d hd => ?_)
  refine am_go 400 [] (am_wpc_cm _ _ _) wf_146 ?_
  refine And.intro rfl ?_
  refine And.intro (And.intro (fun h1 => ?_) (And.intro (fun h1 => ?_) (And.intro (fun h1 => ?_) (And.intro (fun h1 => ?_) (And.intro (fun h1 => ?_) (And.intro (fun h1 => ?_) (True.intro))))))) (fun h1 => ?_)
  · replace h1 : w = 0 := h1
    refine And.intro (rfl) ?_
    have ev0 : c_cnt S n w = (m 1 20) := by
      unfold c_cnt
      repeat' split
      all_goals omega
    rw [ev0] at hQ
    exact hQ
  · replace h1 : w = 1 := h1
    refine And.intro (rfl) ?_
    have ev0 : c_cnt S n w = (m 1 22) := by
      unfold c_cnt
      repeat' split
      all_goals omega
    rw [ev0] at hQ
    exact hQ
  · replace h1 : w = 2 := h1
    refine And.intro (rfl) ?_
    have ev0 : c_cnt S n w = (m 1 29) := by
      unfold c_cnt
      repeat' split
      all_goals omega
    rw [ev0] at hQ
    exact hQ
  · replace h1 : w = 3 := h1
    refine And.intro (rfl) ?_
    have ev0 : c_cnt S n w = (m 1 37) := by
      unfold c_cnt
      repeat' split
      all_goals omega
    rw [ev0] at hQ
    exact hQ
  · replace h1 : w = 4 := h1
    refine And.intro (rfl) ?_
    have ev0 : c_cnt S n w = (m 1 17) := by
      unfold c_cnt
      repeat' split
      all_goals omega
    rw [ev0] at hQ
    exact hQ
  · replace h1 : w = 5 := h1
    refine And.intro (rfl) ?_
    have ev0 : c_cnt S n w = (m 1 45) := by
      unfold c_cnt
      repeat' split
      all_goals omega
    rw [ev0] at hQ
    exact hQ
  · have ev0 : c_cnt S n w = (-3) := by
      unfold c_cnt
      repeat' split
      all_goals omega
    rw [ev0] at hQ
    exact hQ
theorem ms_318 {d : Nat} {m : aM} {Q : aO → aM → Prop} {S : aM} {F : Int → aD} {n w : Int} (hd : 1 ≤ d) (h : mI S F m) (hc : m 41 66 = n) (hQ : Q (.inl (some (aI (c_cnt S n w)))) m) : am_wpc am_G am_T d 318 [aR 41, aI w] m Q := by
  have a1 := h.2.1.2.1
  have a2 := h.2.2.2.1.2.1
  have a3 := h.2.2.1.2.1
  have a4 := h.2.2.2.2.1.2.1
  have a5 := h.1.1
  refine am_in rfl hd (fun d hd => ?_)
  refine am_go 400 [] (am_wpc_cm _ _ _) wf_318 ?_
  refine And.intro rfl ?_
  refine And.intro (And.intro (fun h1 => ?_) (And.intro (fun h1 => ?_) (And.intro (fun h1 => ?_) (And.intro (fun h1 => ?_) (And.intro (fun h1 => ?_) (And.intro (fun h1 => ?_) (True.intro))))))) (fun h1 => ?_)
  · replace h1 : w = 0 := h1
    refine And.intro (rfl) ?_
    have ev0 : c_cnt S n w = (m 41 1) := by
      unfold c_cnt
      repeat' split
      all_goals omega
    rw [ev0] at hQ
    exact hQ
  · replace h1 : w = 1 := h1
    refine And.intro (rfl) ?_
    have ev0 : c_cnt S n w = (m 41 28) := by
      unfold c_cnt
      repeat' split
      all_goals omega
    rw [ev0] at hQ
    exact hQ
  · replace h1 : w = 2 := h1
    refine And.intro (rfl) ?_
    have ev0 : c_cnt S n w = (m 41 40) := by
      unfold c_cnt
      repeat' split
      all_goals omega
    rw [ev0] at hQ
    exact hQ
  · replace h1 : w = 3 := h1
    refine And.intro (rfl) ?_
    have ev0 : c_cnt S n w = (m 41 46) := by
      unfold c_cnt
      repeat' split
      all_goals omega
    rw [ev0] at hQ
    exact hQ
  · replace h1 : w = 4 := h1
    refine And.intro (rfl) ?_
    have ev0 : c_cnt S n w = (m 41 3) := by
      unfold c_cnt
      repeat' split
      all_goals omega
    rw [ev0] at hQ
    exact hQ
  · replace h1 : w = 5 := h1
    refine And.intro (rfl) ?_
    have ev0 : c_cnt S n w = (m 41 66) := by
      unfold c_cnt
      repeat' split
      all_goals omega
    rw [ev0] at hQ
    exact hQ
  · have ev0 : c_cnt S n w = (-3) := by
      unfold c_cnt
      repeat' split
      all_goals omega
    rw [ev0] at hQ
    exact hQ
theorem sTn_0 {S : aM} {j : Int} (h : j ≠ 0) : sTn S 0 j = S 0 j := by unfold sTn; rw [if_neg (by omega), if_neg (by omega)]
theorem sTn_00 {S : aM} : sTn S 0 0 = S 0 1 := by unfold sTn; rw [if_pos ⟨rfl, rfl⟩]
theorem sTn_1 {S : aM} : sTn S 1 = S 2 := funext fun j => by unfold sTn; rw [if_neg (by omega), if_pos rfl]
theorem sTn_r {S : aM} {x : Int} (h : x ≠ 0 ∧ x ≠ 1) : sTn S x = S x := funext fun j => by unfold sTn; rw [if_neg (by omega), if_neg (by omega)]
theorem hI.tn {S : aM} {F : Int → aD} {lo hi cl ch : Int → Int} {m m' : aM} (h : hI S F lo hi cl ch m) (f : ∀ x j, (x ≠ 18 ∨ j < 0) → (x ≠ 1 ∨ j ≠ 17) → m' x j = m x j) (e : m' 1 17 = S 0 1) (o : ∀ i, 0 ≤ i → i < S 0 1 → m' 18 i = S 2 i) : hI (sTn S) F lo hi cl ch m' := by
  have E : ∀ x, x ≠ 18 → x ≠ 1 → m' x = m x := fun x a b => funext fun j => f x j (by omega) (by omega)
  have e1 : ∀ j, j ≠ 17 → m' 1 j = m 1 j := fun j u => f 1 j (by omega) (by omega)
  have hn : hNm (sTn S) m' := by
    obtain ⟨n1, n2, n3, n4, n5, n6, n7, n8, n9⟩ := h.2.2.1
    unfold hNm
    rw [sTn_00, sTn_1, sTn_0 (j := 1) (by omega), sTn_0 (j := 2) (by omega), sTn_0 (j := 7) (by omega), sTn_0 (j := 8) (by omega), sTn_0 (j := 9) (by omega), sTn_r (x := 2) (by omega), e1 3 (by omega), e1 18 (by omega), e1 38 (by omega), e1 41 (by omega), e1 46 (by omega), e1 39 (by omega), E 4 (by omega) (by omega)]
    exact ⟨e, o, n3, n4, n5, n6, n7, n8, n9⟩
  exact h.up (fun x j u => f x j (by omega) (by omega)) hn ((h.2.2.2.2.1.keep (e1 29 (by omega)) (fun x u => E x (by omega) (by omega))).cg (sTn_0 (by omega)) (sTn_0 (by omega)) (fun x a b => sTn_r (by omega))) (fun j u => e1 j (by omega)) (fun x u => E x (by omega) (by omega)) ⟨f 18 _ (by omega) (by omega), f 18 _ (by omega) (by omega)⟩ (sTn_0 (by omega)) (sTn_0 (by omega)) (sTn_0 (by omega)) (fun x u => sTn_r (by omega))
theorem mI.tn {S : aM} {F : Int → aD} {m m' : aM} (h : mI S F m) (f : ∀ x j, x ≠ 43 → (x ≠ 41 ∨ j ≠ 3) → m' x j = m x j) (e : m' 41 3 = S 0 1) (o : ∀ i, 0 ≤ i → i < S 0 1 → m' 43 i = S 2 i) : mI (sTn S) F m' := by
  have E : ∀ x, x ≠ 43 → x ≠ 41 → m' x = m x := fun x a b => funext fun j => f x j a (by omega)
  have e1 : ∀ j, j ≠ 3 → m' 41 j = m 41 j := fun j u => f 41 j (by omega) (by omega)
  have hn : mNm (sTn S) m' := by
    obtain ⟨n1, n2, n3, n4, n5, n6, n7, n8⟩ := h.1
    unfold mNm
    rw [sTn_00, sTn_1, sTn_0 (j := 1) (by omega), sTn_0 (j := 2) (by omega), sTn_0 (j := 7) (by omega), sTn_0 (j := 8) (by omega), sTn_0 (j := 9) (by omega), sTn_r (x := 2) (by omega), e1 5 (by omega), e1 17 (by omega), e1 62 (by omega), e1 63 (by omega), e1 67 (by omega), E 44 (by omega) (by omega)]
    exact ⟨e, o, n3, n4, n5, n6, n7, n8⟩
  have he : mEs (sTn S) m' := by
    refine mEs.cg ?_ (sTn_0 (by omega)) (sTn_0 (by omega)) (fun r a b => sTn_r (by omega))
    unfold mEs
    rw [e1 40 (by omega), E 65 (by omega) (by omega), E 66 (by omega) (by omega), E 67 (by omega) (by omega)]
    exact h.2.2.1
  exact h.up hn he (fun j u => e1 j (by omega)) (fun x u => E x (by omega) (by omega)) (fun j u => f 42 j (by omega) (by omega)) (sTn_0 (by omega)) (sTn_0 (by omega)) (sTn_0 (by omega)) (fun x u => sTn_r (by omega))
theorem hs_41 {d : Nat} {m : aM} {Q : aO → aM → Prop} {S : aM} {F : Int → aD} {lo hi cl ch : Int → Int} {k : Int} (hd : 60 ≤ d) (hk : 0 ≤ k) (hz0 : hZ (k + 1) S F lo hi cl ch m) (si : sI S F) (h4 : m 4 (-1) = 40 ∧ m 4 (-2) = 700) (hQ : ∀ m', hZ k (sTn S) F lo hi cl ch m' → (∀ x j, 29 ≤ x → x ≤ 76 → m' x j = m x j) → m' 4 = m 4 → Q (.inl (some (aI (S 0 1)))) m') : am_wpc am_G am_T d 41 [aR 1] m Q := by
  have h := hz0.1
  have hr := hz0.2
  have fr := hFr.rfl m
  obtain ⟨r1, r2, r3, r4, r5⟩ := id hr
  have hS := h.2.2.2.1
  have h0 := h.1
  have s1 := hS.1
  obtain ⟨n1, n2, n3, n4, n5, n6, n7, n8, n9⟩ := id h.2.2.1
  have s11 := si.2.2.1
  have hO := h.2.2.2.2.2.2.2.2.2.2.1.2.2.2.1
  obtain ⟨dk, hdk⟩ : ∃ k, d = k + 1 := ⟨d - 1, by omega⟩
  refine am_in (k := dk) rfl (by omega) (fun d hd => ?_)
  refine am_go 400 [] (am_wpc_cm _ _ _) wf_41 ?_
  refine And.intro (rfl) ?_
  refine And.intro (rfl) ?_
  refine And.intro (rfl) ?_
  refine And.intro (by omega) ?_
  generalize hm1 : mC m 4 0 18 0 (m 1 3) = m1
  have c18 : ∀ k, 0 ≤ k → k < S 0 1 → m1 18 k = S 2 k := fun k a b => by rw [← hm1]; unfold mC; rw [if_pos rfl, if_pos (by omega), ← n4 k a b]; congr 1; omega
  have c0 : ∀ r j, (r ≠ 18 ∨ j < 0) → m1 r j = m r j := fun r j a => by
    rw [← hm1]; unfold mC
    by_cases e : r = 18
    · rw [if_pos e, if_neg (by omega)]
    · rw [if_neg e]
  have c13 := c0 1 3 (by omega)
  refine And.intro (rfl) ?_
  refine And.intro (rfl) ?_
  refine And.intro (rfl) ?_
  show Q (.inl (some (aI (m1 1 3)))) ((mS m1 1 17 (m1 1 3)))
  rw [show (m1 1 3) = S 0 1 by omega]
  exact hQ _ ⟨h.tn (fun x j u v => by rw [mS_iff, if_neg (by omega)]; exact c0 x j u) (by rw [mS_iff, if_pos ⟨rfl, rfl⟩] <;> omega) (fun i a b => by rw [mS_iff, if_neg (by omega)]; exact c18 i a b), hr.up (fun j => by rw [mS_iff, if_neg (by omega)]; exact c0 0 j (by omega)) (by rw [mS_iff, if_neg (by omega)]; exact c0 1 14 (by omega))⟩ (fun x j u v => by rw [mS_iff, if_neg (by omega)]; exact c0 x j (by omega)) (funext fun j => by rw [mS_iff, if_neg (by omega)]; exact c0 4 j (by omega))
theorem ms_177 {d : Nat} {m : aM} {Q : aO → aM → Prop} {S : aM} {F : Int → aD} {k : Int} (hd : 60 ≤ d) (hk : 0 ≤ k) (hz0 : mZ (k + 1) S F m) (si : sI S F) (hQ : ∀ m', mZ k (sTn S) F m' → (∀ x j, x < 41 ∨ 76 < x → m' x j = m x j) → Q (.inl (some (aI (S 0 1)))) m') : am_wpc am_G am_T d 177 [aR 41] m Q := by
  have h := hz0.1
  obtain ⟨r1, r2⟩ := id hz0.2
  have fr := mFr.rfl m
  have hS := h.2.1
  have s1 := hS.1
  obtain ⟨n1, n2, n3, n4, n5, n6, n7, n8⟩ := id h.1
  have s11 := si.2.2.1
  obtain ⟨dk, hdk⟩ : ∃ k, d = k + 1 := ⟨d - 1, by omega⟩
  refine am_in (k := dk) rfl (by omega) (fun d hd => ?_)
  have K2 : ∀ (Nm : Nat), ∀ (i : Int), ∀ (mw : aM), (S 0 1 - i).toNat = Nm → (0 ≤ i ∧ i ≤ S 0 1) → (∀ x j, x ≠ 43 → mw x j = m x j) → (∀ j, 0 ≤ j → j < i → mw 43 j = S 2 j) → am_WP am_G (am_wpc am_G am_T d) [] cd_177 Q 2 [aR 41, aI i] [] mw := by
    intro Nm
    induction Nm using Nat.strongRecOn with
    | _ Nm ih2 =>
      intro i mw hN hi2 ff oo
      have w5 : mw 41 5 = S 0 1 := by rw [ff 41 5 (by omega)]; exact n3
      have w44 : mw 44 i = m 44 i := ff 44 i (by omega)
      refine am_go 400 [2] (am_wpc_cm _ _ _) wf_177 ?_
      refine And.intro (rfl) ?_
      refine And.intro (fun h1 => ?_) (fun h1 => ?_)
      · refine And.intro (rfl) ?_
        refine And.intro (rfl) ?_
        refine And.intro (rfl) ?_
        show Q (.inl (some (aI (mw 41 5)))) ((mS mw 41 3 (mw 41 5)))
        rw [show (mw 41 5) = S 0 1 by omega]
        exact hQ _ ⟨h.tn (fun x j u v => by rw [mS_iff, if_neg (by omega)]; exact ff x j u) (by rw [mS_iff, if_pos ⟨rfl, rfl⟩] <;> omega) (fun j a b => by rw [mS_iff, if_neg (by omega)]; exact oo j a (by omega)), by rw [mS_iff, if_neg (by omega), ff 41 27 (by omega)]; omega, by rw [mS_iff, if_neg (by omega), ff 41 27 (by omega)]; omega⟩ (fun x j u => by rw [mS_iff, if_neg (by omega)]; exact ff x j (by omega))
      · refine And.intro (rfl) ?_
        refine And.intro (rfl) ?_
        refine And.intro (⟨rfl, by first | omega | (simp only [mS_iff, eq_self, Int.reduceEq, true_and, and_true, false_and, and_false, and_self, ↓reduceIte]; omega) | (simp only [mS_iff, eq_self, Int.reduceEq, true_and, and_true, false_and, and_false, and_self, ↓reduceIte] at *; omega)⟩) ?_
        refine And.intro (⟨rfl, by first | omega | (simp only [mS_iff, eq_self, Int.reduceEq, true_and, and_true, false_and, and_false, and_self, ↓reduceIte]; omega) | (simp only [mS_iff, eq_self, Int.reduceEq, true_and, and_true, false_and, and_false, and_self, ↓reduceIte] at *; omega)⟩) ?_
        refine And.intro (show -2147483648 ≤ i + 1 ∧ i + 1 ≤ 2147483647 by first | omega | (simp only [mS_iff, eq_self, Int.reduceEq, true_and, and_true, false_and, and_false, and_self, ↓reduceIte]; omega) | (simp only [mS_iff, eq_self, Int.reduceEq, true_and, and_true, false_and, and_false, and_self, ↓reduceIte] at *; omega)) ?_
        refine ih2 _ ?_ _ _ (Eq.refl _) ?_ ?_ ?_
        · omega
        · omega
        · exact fun x j u => by rw [mS_iff, if_neg (by omega)]; exact ff x j u
        · intro j a b
          rw [mS_iff]
          split
          · rw [w44, n4 i (by omega) (by omega), show j = i by omega]
          · exact oo j a (by omega)
  refine am_go 400 [2] (am_wpc_cm _ _ _) wf_177 ?_
  refine K2 _ _ _ (Eq.refl _) ?_ ?_ ?_
  · omega
  · exact fun _ _ _ => rfl
  · exact fun j a b => by omega
