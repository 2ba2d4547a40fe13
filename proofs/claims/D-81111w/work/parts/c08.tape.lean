/-! needs: c06 c07 -/
/-! CALLS that change numbers: cut, out, enter, strike, both; by tools/genc8.py -/
set_option maxRecDepth 100000
set_option maxHeartbeats 8000000
def c_cut (S : aM) (n : Int) : Int × aM := if 0 ≤ n ∧ n ≤ S 0 0 then (S 0 0 - n, mS S 0 0 n) else (-3, S)
def c_out (S : aM) (i : Int) : Int := if 0 ≤ i ∧ i < S 0 1 then S 2 i else -1
def c_ent (S : aM) (a day : Int) : Int × aM := if v_has S a then (if v_day day then (if S 0 5 = 100 then (-5, S) else (S 0 5, mS (mS (mS (mS S 16 (S 0 5) a) 17 (S 0 5) day) 18 (S 0 5) 10000) 0 5 (S 0 5 + 1))) else (-3, S)) else (-2, S)
def c_str (S : aM) (e day : Int) : Int × aM := if 0 ≤ e ∧ e < S 0 5 then (if S 17 e ≤ day ∧ day ≤ 9999 then (if S 18 e ≤ 9999 then (-4, S) else (1, mS S 18 e day)) else (-3, S)) else (-2, S)
theorem sEs.ent {S : aM} {a day : Int} (h : sEs S) (ha : v_has S a) (hd : v_day day) (h5 : S 0 5 ≠ 100) : sEs (mS (mS (mS (mS S 16 (S 0 5) a) 17 (S 0 5) day) 18 (S 0 5) 10000) 0 5 (S 0 5 + 1)) := by
  obtain ⟨h1, h2⟩ := h
  generalize hS : mS (mS (mS (mS S 16 (S 0 5) a) 17 (S 0 5) day) 18 (S 0 5) 10000) 0 5 (S 0 5 + 1) = S'
  have e5 : S' 0 5 = S 0 5 + 1 := by rw [← hS, mS_iff, if_pos ⟨rfl, rfl⟩]
  have e3 : S' 0 3 = S 0 3 := by rw [← hS]; simp only [mS_iff, Int.reduceEq, and_false, false_and, ↓reduceIte]
  refine ⟨by omega, fun e x y => ?_⟩
  rw [e3]
  by_cases k : e = S 0 5
  · have a1 : S' 16 e = a := by rw [k, ← hS]; simp only [mS_iff, Int.reduceEq, and_false, false_and, true_and, and_true, and_self, eq_self, ↓reduceIte]
    have a2 : S' 17 e = day := by rw [k, ← hS]; simp only [mS_iff, Int.reduceEq, and_false, false_and, true_and, and_true, and_self, eq_self, ↓reduceIte]
    have a3 : S' 18 e = 10000 := by rw [k, ← hS]; simp only [mS_iff, Int.reduceEq, and_false, false_and, true_and, and_true, and_self, eq_self, ↓reduceIte]
    omega
  · have a1 : S' 16 e = S 16 e := by rw [← hS, mS_iff, if_neg (by omega), mS_iff, if_neg (by omega), mS_iff, if_neg (by omega), mS_iff, if_neg (by omega)]
    have a2 : S' 17 e = S 17 e := by rw [← hS, mS_iff, if_neg (by omega), mS_iff, if_neg (by omega), mS_iff, if_neg (by omega), mS_iff, if_neg (by omega)]
    have a3 : S' 18 e = S 18 e := by rw [← hS, mS_iff, if_neg (by omega), mS_iff, if_neg (by omega), mS_iff, if_neg (by omega), mS_iff, if_neg (by omega)]
    have := h2 e x (by omega)
    omega
theorem sEs.str {S : aM} {e day : Int} (h : sEs S) (hd : 0 ≤ day ∧ day ≤ 9999) : sEs (mS S 18 e day) := by
  obtain ⟨h1, h2⟩ := h
  have e5 : mS S 18 e day 0 5 = S 0 5 := by rw [mS_iff, if_neg (by omega)]
  have e3 : mS S 18 e day 0 3 = S 0 3 := by rw [mS_iff, if_neg (by omega)]
  refine ⟨by omega, fun x a b => ?_⟩
  have := h2 x a (by omega)
  rw [e3, show mS S 18 e day 16 x = S 16 x by rw [mS_iff, if_neg (by omega)], show mS S 18 e day 17 x = S 17 x by rw [mS_iff, if_neg (by omega)], mS_iff]
  split <;> omega
theorem hs_42 {d : Nat} {m : aM} {Q : aO → aM → Prop} {S : aM} {F : Int → aD} {lo hi cl ch : Int → Int} {i : Int} (hd : 60 ≤ d) (h : hI S F lo hi cl ch m) (hr : hRo 1 m) (si : sI S F) (hQ : ∀ m', hFr 90 m m' → Q (.inl (some (aI (c_out S i)))) m') : am_wpc am_G am_T d 42 [aR 1, aI i] m Q := by
  have fr := hFr.rfl m
  obtain ⟨r1, r2, r3, r4, r5⟩ := id hr
  have hS := h.2.2.2.1
  have h0 := h.1
  have s1 := hS.1
  obtain ⟨dk, hdk⟩ : ∃ k, d = k + 1 := ⟨d - 1, by omega⟩
  refine am_in (k := dk) rfl (by omega) (fun d hd => ?_)
  refine am_go 400 [] (am_wpc_cm _ _ _) wf_42 ?_
  obtain ⟨n1, n2, n3, n4, n5, n6, n7, n8, n9⟩ := id h.2.2.1
  have s11 := si.2.2.1
  refine And.intro (rfl) ?_
  refine And.intro (show -2147483648 ≤ (m 1 3) - 1 ∧ (m 1 3) - 1 ≤ 2147483647 by first | omega | (simp only [mS_iff, eq_self, Int.reduceEq, true_and, and_true, false_and, and_false, and_self, ↓reduceIte]; omega) | (simp only [mS_iff, eq_self, Int.reduceEq, true_and, and_true, false_and, and_false, and_self, ↓reduceIte] at *; omega)) ?_
  refine ct_39 (by omega) (fun h1 => ?_) (fun h1 => ?_)
  · refine And.intro (fun h => absurd h (by decide)) (fun _ => ?_)
    skip
    refine And.intro (rfl) ?_
    refine And.intro (⟨rfl, by first | omega | (simp only [mS_iff, eq_self, Int.reduceEq, true_and, and_true, false_and, and_false, and_self, ↓reduceIte]; omega) | (simp only [mS_iff, eq_self, Int.reduceEq, true_and, and_true, false_and, and_false, and_self, ↓reduceIte] at *; omega)⟩) ?_
    have ev := n4 i (by omega) (by omega)
    have ev0 : c_out S i = (m 4 i) := by
      unfold c_out
      repeat' split
      all_goals omega
    have hz := hQ m (fr.wd (by omega))
    rw [ev0] at hz
    exact hz
  · refine And.intro (fun _ => ?_) (fun h => absurd h (by decide))
    have ev0 : c_out S i = (-1) := by
      unfold c_out
      repeat' split
      all_goals omega
    have hz := hQ m (fr.wd (by omega))
    rw [ev0] at hz
    exact hz
theorem ms_178 {d : Nat} {m : aM} {Q : aO → aM → Prop} {S : aM} {F : Int → aD} {i : Int} (hd : 60 ≤ d) (h : mI S F m) (si : sI S F) (hQ : ∀ m', mFr m m' → Q (.inl (some (aI (c_out S i)))) m') : am_wpc am_G am_T d 178 [aR 41, aI i] m Q := by
  have fr := mFr.rfl m
  have hS := h.2.1
  have s1 := hS.1
  obtain ⟨dk, hdk⟩ : ∃ k, d = k + 1 := ⟨d - 1, by omega⟩
  refine am_in (k := dk) rfl (by omega) (fun d hd => ?_)
  refine am_go 400 [] (am_wpc_cm _ _ _) wf_178 ?_
  obtain ⟨n1, n2, n3, n4, n5, n6, n7, n8⟩ := id h.1
  have s11 := si.2.2.1
  refine And.intro (fun h1 => ?_) (fun h1 => ?_)
  · have ev0 : c_out S i = (-1) := by
      unfold c_out
      repeat' split
      all_goals omega
    have hz := hQ m fr
    rw [ev0] at hz
    exact hz
  · refine And.intro (rfl) ?_
    refine And.intro (fun h2 => ?_) (fun h2 => ?_)
    · skip
      refine And.intro (rfl) ?_
      refine And.intro (⟨rfl, by first | omega | (simp only [mS_iff, eq_self, Int.reduceEq, true_and, and_true, false_and, and_false, and_self, ↓reduceIte]; omega) | (simp only [mS_iff, eq_self, Int.reduceEq, true_and, and_true, false_and, and_false, and_self, ↓reduceIte] at *; omega)⟩) ?_
      have ev := n4 i (by omega) (by omega)
      have ev0 : c_out S i = (m 44 i) := by
        unfold c_out
        repeat' split
        all_goals omega
      have hz := hQ m fr
      rw [ev0] at hz
      exact hz
    · have ev0 : c_out S i = (-1) := by
        unfold c_out
        repeat' split
        all_goals omega
      have hz := hQ m fr
      rw [ev0] at hz
      exact hz
theorem hs_40 {d : Nat} {m : aM} {Q : aO → aM → Prop} {S : aM} {F : Int → aD} {lo hi cl ch : Int → Int} {n : Int} {k : Int} (hd : 60 ≤ d) (hk : 0 ≤ k) (hz0 : hZ (k + 1) S F lo hi cl ch m) (si : sI S F) (hQ : ∀ m', hZ k (c_cut S n).2 F lo hi cl ch m' → (∀ x j, 41 ≤ x → x ≤ 76 → m' x j = m x j) → Q (.inl (some (aI (c_cut S n).1))) m') : am_wpc am_G am_T d 40 [aR 1, aI n] m Q := by
  have h := hz0.1
  have hr := hz0.2
  have fr := hFr.rfl m
  obtain ⟨r1, r2, r3, r4, r5⟩ := id hr
  have hS := h.2.2.2.1
  have h0 := h.1
  have s1 := hS.1
  obtain ⟨n1, n2, n3, n4, n5, n6, n7, n8, n9⟩ := id h.2.2.1
  have hE := h.2.2.2.2.1
  have e5 := hE.2.1
  have e6 := hE.1.1
  have e7 := hE.1.2
  obtain ⟨dk, hdk⟩ : ∃ k, d = k + 1 := ⟨d - 1, by omega⟩
  refine am_in (k := dk) rfl (by omega) (fun d hd => ?_)
  refine am_go 400 [] (am_wpc_cm _ _ _) wf_40 ?_
  have s10 := si.1
  refine And.intro (rfl) ?_
  refine ct_39 (by omega) (fun h1 => ?_) (fun h1 => ?_)
  · refine And.intro (fun _ => ?_) (fun h => absurd h (by decide))
    refine And.intro (rfl) ?_
    refine And.intro (show -2147483648 ≤ (m 1 17) - n ∧ (m 1 17) - n ≤ 2147483647 by first | omega | (simp only [mS_iff, eq_self, Int.reduceEq, true_and, and_true, false_and, and_false, and_self, ↓reduceIte]; omega) | (simp only [mS_iff, eq_self, Int.reduceEq, true_and, and_true, false_and, and_false, and_self, ↓reduceIte] at *; omega)) ?_
    refine And.intro (rfl) ?_
    have ev0 : c_cut S n = (S 0 0 - n, mS S 0 0 n) := by
      unfold c_cut
      repeat' split
      all_goals first | rfl | (exfalso; omega) | (refine Prod.ext ?_ ?_ <;> first | rfl | (show _ = _; omega))
    rw [ev0] at hQ
    dsimp only at hQ
    have hn : hNm (mS S 0 0 n) (mS m 1 17 n) := by
      have S0 : ∀ j, j ≠ 0 → mS S 0 0 n 0 j = S 0 j := fun j u => by rw [mS_iff, if_neg (by omega)]
      have S1 : mS S 0 0 n 1 = S 1 := funext fun j => by rw [mS_iff, if_neg (by omega)]
      have S2 : mS S 0 0 n 2 = S 2 := funext fun j => by rw [mS_iff, if_neg (by omega)]
      have S00 : mS S 0 0 n 0 0 = n := by rw [mS_iff, if_pos ⟨rfl, rfl⟩]
      unfold hNm
      rw [S00, S1, S2, S0 1 (by omega), S0 2 (by omega), S0 7 (by omega), S0 8 (by omega), S0 9 (by omega)]
      refine ⟨by rw [mS_iff, if_pos ⟨rfl, rfl⟩], fun i a b => by rw [mS_iff, if_neg (by omega)]; exact n2 i a (by omega), by rw [mS_iff, if_neg (by omega)]; exact n3, fun i a b => by rw [mS_iff, if_neg (by omega)]; exact n4 i a b, by rw [mS_iff, if_neg (by omega)]; exact n5, by rw [mS_iff, if_neg (by omega)]; exact n6, by rw [mS_iff, if_neg (by omega)]; exact n7, by rw [mS_iff, if_neg (by omega)]; exact n8, by rw [mS_iff, if_neg (by omega)]; exact n9⟩
    have he : hEs (mS S 0 0 n) (mS m 1 17 n) := by
      refine (hE.keep (by rw [mS_iff, if_neg (by omega)]) (fun x u => funext fun j => by rw [mS_iff, if_neg (by omega)])).cg (by rw [mS_iff, if_neg (by omega)]) (by rw [mS_iff, if_neg (by omega)]) (fun x a b => funext fun j => by rw [mS_iff, if_neg (by omega)])
    rw [n1]
    exact hQ _ ⟨h.up (fun x j u => by rw [mS_iff, if_neg (by omega)]) hn he (fun j u => by rw [mS_iff, if_neg (by omega)]) (fun x u => funext fun j => by rw [mS_iff, if_neg (by omega)]) ⟨by rw [mS_iff, if_neg (by omega)], by rw [mS_iff, if_neg (by omega)]⟩ (by rw [mS_iff, if_neg (by omega)]) (by rw [mS_iff, if_neg (by omega)]) (by rw [mS_iff, if_neg (by omega)]) (fun x u => funext fun j => by rw [mS_iff, if_neg (by omega)]), hr.up (fun j => by rw [mS_iff, if_neg (by omega)]) (by rw [mS_iff, if_neg (by omega)])⟩ (fun x j u v => by rw [mS_iff, if_neg (by omega)])
  · refine And.intro (fun h => absurd h (by decide)) (fun _ => ?_)
    have ev0 : c_cut S n = ((-3), S) := by
      unfold c_cut
      repeat' split
      all_goals first | rfl | (exfalso; omega) | (refine Prod.ext ?_ ?_ <;> first | rfl | (show _ = _; omega))
    rw [ev0] at hQ
    dsimp only at hQ
    exact hQ m (hz0.fr fr (by omega)) fr.M
theorem ms_176 {d : Nat} {m : aM} {Q : aO → aM → Prop} {S : aM} {F : Int → aD} {n : Int} {k : Int} (hd : 60 ≤ d) (hk : 0 ≤ k) (hz0 : mZ (k + 1) S F m) (si : sI S F) (hQ : ∀ m', mZ k (c_cut S n).2 F m' → (∀ x j, x < 41 ∨ 76 < x → m' x j = m x j) → Q (.inl (some (aI (c_cut S n).1))) m') : am_wpc am_G am_T d 176 [aR 41, aI n] m Q := by
  have h := hz0.1
  have hr := hz0.2
  have fr := mFr.rfl m
  have hS := h.2.1
  have s1 := hS.1
  obtain ⟨n1, n2, n3, n4, n5, n6, n7, n8⟩ := id h.1
  have hE := h.2.2.1
  have e5 := hE.2.1
  have e6 := hE.1.1
  have e7 := hE.1.2
  obtain ⟨dk, hdk⟩ : ∃ k, d = k + 1 := ⟨d - 1, by omega⟩
  refine am_in (k := dk) rfl (by omega) (fun d hd => ?_)
  refine am_go 400 [] (am_wpc_cm _ _ _) wf_176 ?_
  have s10 := si.1
  refine And.intro (fun h1 => ?_) (fun h1 => ?_)
  · have ev0 : c_cut S n = ((-3), S) := by
      unfold c_cut
      repeat' split
      all_goals first | rfl | (exfalso; omega) | (refine Prod.ext ?_ ?_ <;> first | rfl | (show _ = _; omega))
    rw [ev0] at hQ
    dsimp only at hQ
    exact hQ m (hz0.fr fr) fr.1
  · refine And.intro (rfl) ?_
    refine And.intro (fun h2 => ?_) (fun h2 => ?_)
    · refine And.intro (rfl) ?_
      refine And.intro (show -2147483648 ≤ (m 41 3) - n ∧ (m 41 3) - n ≤ 2147483647 by first | omega | (simp only [mS_iff, eq_self, Int.reduceEq, true_and, and_true, false_and, and_false, and_self, ↓reduceIte]; omega) | (simp only [mS_iff, eq_self, Int.reduceEq, true_and, and_true, false_and, and_false, and_self, ↓reduceIte] at *; omega)) ?_
      refine And.intro (rfl) ?_
      have ev0 : c_cut S n = (S 0 0 - n, mS S 0 0 n) := by
        unfold c_cut
        repeat' split
        all_goals first | rfl | (exfalso; omega) | (refine Prod.ext ?_ ?_ <;> first | rfl | (show _ = _; omega))
      rw [ev0] at hQ
      dsimp only at hQ
      have hn : mNm (mS S 0 0 n) (mS m 41 3 n) := by
        have S0 : ∀ j, j ≠ 0 → mS S 0 0 n 0 j = S 0 j := fun j u => by rw [mS_iff, if_neg (by omega)]
        have S1 : mS S 0 0 n 1 = S 1 := funext fun j => by rw [mS_iff, if_neg (by omega)]
        have S2 : mS S 0 0 n 2 = S 2 := funext fun j => by rw [mS_iff, if_neg (by omega)]
        have S00 : mS S 0 0 n 0 0 = n := by rw [mS_iff, if_pos ⟨rfl, rfl⟩]
        unfold mNm
        rw [S00, S1, S2, S0 1 (by omega), S0 2 (by omega), S0 7 (by omega), S0 8 (by omega), S0 9 (by omega)]
        refine ⟨by rw [mS_iff, if_pos ⟨rfl, rfl⟩], fun i a b => by rw [mS_iff, if_neg (by omega)]; exact n2 i a (by omega), by rw [mS_iff, if_neg (by omega)]; exact n3, fun i a b => by rw [mS_iff, if_neg (by omega)]; exact n4 i a b, by rw [mS_iff, if_neg (by omega)]; exact n5, by rw [mS_iff, if_neg (by omega)]; exact n6, by rw [mS_iff, if_neg (by omega)]; exact n7, by rw [mS_iff, if_neg (by omega)]; exact n8⟩
      have he : mEs (mS S 0 0 n) (mS m 41 3 n) := by
        refine mEs.cg ?_ (by rw [mS_iff, if_neg (by omega)]) (by rw [mS_iff, if_neg (by omega)]) (fun x a b => funext fun j => by rw [mS_iff, if_neg (by omega)])
        unfold mEs
        rw [show (mS m 41 3 n) 41 40 = m 41 40 by rw [mS_iff, if_neg (by omega)], show (mS m 41 3 n) 65 = m 65 from funext fun j => by rw [mS_iff, if_neg (by omega)], show (mS m 41 3 n) 66 = m 66 from funext fun j => by rw [mS_iff, if_neg (by omega)], show (mS m 41 3 n) 67 = m 67 from funext fun j => by rw [mS_iff, if_neg (by omega)]]
        exact hE
      rw [n1]
      exact hQ _ ⟨h.up hn he (fun j u => by rw [mS_iff, if_neg (by omega)]) (fun x u => funext fun j => by rw [mS_iff, if_neg (by omega)]) (fun j u => by rw [mS_iff, if_neg (by omega)]) (by rw [mS_iff, if_neg (by omega)]) (by rw [mS_iff, if_neg (by omega)]) (by rw [mS_iff, if_neg (by omega)]) (fun x u => funext fun j => by rw [mS_iff, if_neg (by omega)]), hr.up (by rw [mS_iff, if_neg (by omega)])⟩ (fun x j u => by rw [mS_iff, if_neg (by omega)])
    · have ev0 : c_cut S n = ((-3), S) := by
        unfold c_cut
        repeat' split
        all_goals first | rfl | (exfalso; omega) | (refine Prod.ext ?_ ?_ <;> first | rfl | (show _ = _; omega))
      rw [ev0] at hQ
      dsimp only at hQ
      exact hQ m (hz0.fr fr) fr.1
theorem hs_109 {d : Nat} {m : aM} {Q : aO → aM → Prop} {S : aM} {F : Int → aD} {lo hi cl ch : Int → Int} {a day : Int} {k : Int} (hd : 60 ≤ d) (hk : 0 ≤ k) (hz0 : hZ (k + 1) S F lo hi cl ch m)  (hQ : ∀ m', hZ k (c_ent S a day).2 F lo hi cl ch m' → (∀ x j, 41 ≤ x → x ≤ 76 → m' x j = m x j) → Q (.inl (some (aI (c_ent S a day).1))) m') : am_wpc am_G am_T d 109 [aR 1, aI a, aI day] m Q := by
  have h := hz0.1
  have hr := hz0.2
  have fr := hFr.rfl m
  obtain ⟨r1, r2, r3, r4, r5⟩ := id hr
  have hS := h.2.2.2.1
  have h0 := h.1
  have s1 := hS.1
  obtain ⟨n1, n2, n3, n4, n5, n6, n7, n8, n9⟩ := id h.2.2.1
  have hE := h.2.2.2.2.1
  have e5 := hE.2.1
  have e6 := hE.1.1
  have e7 := hE.1.2
  obtain ⟨dk, hdk⟩ : ∃ k, d = k + 1 := ⟨d - 1, by omega⟩
  refine am_in (k := dk) rfl (by omega) (fun d hd => ?_)
  refine am_go 400 [] (am_wpc_cm _ _ _) wf_109 ?_
  refine And.intro (rfl) ?_
  refine ct_59 (by omega) h (by omega) (fun t1 => ?_) (fun t1 mw1 fx => ?_)
  · have hA1 := hS.2.2.1 a t1.1 t1.2
    have hB1 := hA1.basic
    refine And.intro (fun _ => ?_) (fun h => absurd h (by decide))
    refine ct_95 (by omega) (fun h2 => ?_) (fun h2 => ?_)
    · have dy := h2
      refine And.intro (fun _ => ?_) (fun h => absurd h (by decide))
      refine And.intro (rfl) ?_
      refine And.intro (fun h3 => ?_) (fun h3 => ?_)
      · refine And.intro (rfl) ?_
        refine And.intro (rfl) ?_
        refine And.intro (rfl) ?_
        refine And.intro (⟨rfl, by first | omega | (simp only [mS_iff, eq_self, Int.reduceEq, true_and, and_true, false_and, and_false, and_self, ↓reduceIte]; omega) | (simp only [mS_iff, eq_self, Int.reduceEq, true_and, and_true, false_and, and_false, and_self, ↓reduceIte] at *; omega)⟩) ?_
        refine And.intro (⟨rfl, by omega, by omega, Or.inr ⟨by omega, hB1.2.2.2.2.1⟩⟩) ?_
        refine And.intro (rfl) ?_
        refine And.intro (rfl) ?_
        refine And.intro (⟨rfl, by first | omega | (simp only [mS_iff, eq_self, Int.reduceEq, true_and, and_true, false_and, and_false, and_self, ↓reduceIte]; omega) | (simp only [mS_iff, eq_self, Int.reduceEq, true_and, and_true, false_and, and_false, and_self, ↓reduceIte] at *; omega)⟩) ?_
        refine And.intro (rfl) ?_
        refine And.intro (rfl) ?_
        refine And.intro (⟨rfl, by first | omega | (simp only [mS_iff, eq_self, Int.reduceEq, true_and, and_true, false_and, and_false, and_self, ↓reduceIte]; omega) | (simp only [mS_iff, eq_self, Int.reduceEq, true_and, and_true, false_and, and_false, and_self, ↓reduceIte] at *; omega)⟩) ?_
        refine And.intro (rfl) ?_
        refine And.intro (show -2147483648 ≤ (m 1 29) + 1 ∧ (m 1 29) + 1 ≤ 2147483647 by first | omega | (simp only [mS_iff, eq_self, Int.reduceEq, true_and, and_true, false_and, and_false, and_self, ↓reduceIte]; omega) | (simp only [mS_iff, eq_self, Int.reduceEq, true_and, and_true, false_and, and_false, and_self, ↓reduceIte] at *; omega)) ?_
        refine And.intro (rfl) ?_
        refine And.intro (rfl) ?_
        refine And.intro (show -2147483648 ≤ ((m 1 29) + 1) - 1 ∧ ((m 1 29) + 1) - 1 ≤ 2147483647 by first | omega | (simp only [mS_iff, eq_self, Int.reduceEq, true_and, and_true, false_and, and_false, and_self, ↓reduceIte]; omega) | (simp only [mS_iff, eq_self, Int.reduceEq, true_and, and_true, false_and, and_false, and_self, ↓reduceIte] at *; omega)) ?_
        have ev0 : c_ent S a day = (S 0 5, mS (mS (mS (mS S 16 (S 0 5) a) 17 (S 0 5) day) 18 (S 0 5) 10000) 0 5 (S 0 5 + 1)) := by
          unfold c_ent
          repeat' split
          all_goals first | rfl | (exfalso; omega) | (refine Prod.ext ?_ ?_ <;> first | rfl | (show _ = _; omega))
        rw [ev0] at hQ
        dsimp only at hQ
        have hn : hNm (mS (mS (mS (mS S 16 (S 0 5) a) 17 (S 0 5) day) 18 (S 0 5) 10000) 0 5 (S 0 5 + 1)) (mS (mS (mS (mS m 23 (m 1 29) (m 19 a)) 24 (m 1 29) day) 25 (m 1 29) 10000) 1 29 ((m 1 29) + 1)) := by
          have S0 : ∀ j, j ≠ 5 → (mS (mS (mS (mS S 16 (S 0 5) a) 17 (S 0 5) day) 18 (S 0 5) 10000) 0 5 (S 0 5 + 1)) 0 j = S 0 j := fun j u => by rw [mS_iff, if_neg (by omega), mS_iff, if_neg (by omega), mS_iff, if_neg (by omega), mS_iff, if_neg (by omega)]
          have S1 : (mS (mS (mS (mS S 16 (S 0 5) a) 17 (S 0 5) day) 18 (S 0 5) 10000) 0 5 (S 0 5 + 1)) 1 = S 1 := funext fun j => by rw [mS_iff, if_neg (by omega), mS_iff, if_neg (by omega), mS_iff, if_neg (by omega), mS_iff, if_neg (by omega)]
          have S2 : (mS (mS (mS (mS S 16 (S 0 5) a) 17 (S 0 5) day) 18 (S 0 5) 10000) 0 5 (S 0 5 + 1)) 2 = S 2 := funext fun j => by rw [mS_iff, if_neg (by omega), mS_iff, if_neg (by omega), mS_iff, if_neg (by omega), mS_iff, if_neg (by omega)]
          unfold hNm
          rw [S1, S2, S0 0 (by omega), S0 1 (by omega), S0 2 (by omega), S0 7 (by omega), S0 8 (by omega), S0 9 (by omega)]
          refine ⟨by rw [mS_iff, if_neg (by omega), mS_iff, if_neg (by omega), mS_iff, if_neg (by omega), mS_iff, if_neg (by omega)]; exact n1, fun i a b => by rw [mS_iff, if_neg (by omega), mS_iff, if_neg (by omega), mS_iff, if_neg (by omega), mS_iff, if_neg (by omega)]; exact n2 i a b, by rw [mS_iff, if_neg (by omega), mS_iff, if_neg (by omega), mS_iff, if_neg (by omega), mS_iff, if_neg (by omega)]; exact n3, fun i a b => by rw [mS_iff, if_neg (by omega), mS_iff, if_neg (by omega), mS_iff, if_neg (by omega), mS_iff, if_neg (by omega)]; exact n4 i a b, by rw [mS_iff, if_neg (by omega), mS_iff, if_neg (by omega), mS_iff, if_neg (by omega), mS_iff, if_neg (by omega)]; exact n5, by rw [mS_iff, if_neg (by omega), mS_iff, if_neg (by omega), mS_iff, if_neg (by omega), mS_iff, if_neg (by omega)]; exact n6, by rw [mS_iff, if_neg (by omega), mS_iff, if_neg (by omega), mS_iff, if_neg (by omega), mS_iff, if_neg (by omega)]; exact n7, by rw [mS_iff, if_neg (by omega), mS_iff, if_neg (by omega), mS_iff, if_neg (by omega), mS_iff, if_neg (by omega)]; exact n8, by rw [mS_iff, if_neg (by omega), mS_iff, if_neg (by omega), mS_iff, if_neg (by omega), mS_iff, if_neg (by omega)]; exact n9⟩
        have he : hEs (mS (mS (mS (mS S 16 (S 0 5) a) 17 (S 0 5) day) 18 (S 0 5) 10000) 0 5 (S 0 5 + 1)) (mS (mS (mS (mS m 23 (m 1 29) (m 19 a)) 24 (m 1 29) day) 25 (m 1 29) 10000) 1 29 ((m 1 29) + 1)) := by
          refine ⟨hE.1.ent t1 dy (by omega), ?_, fun e u v => ?_⟩
          · rw [show (mS (mS (mS (mS S 16 (S 0 5) a) 17 (S 0 5) day) 18 (S 0 5) 10000) 0 5 (S 0 5 + 1)) 0 5 = S 0 5 + 1 by rw [mS_iff, if_pos ⟨rfl, rfl⟩], mS_iff, if_pos ⟨rfl, rfl⟩]
            omega
          · rw [show (mS (mS (mS (mS S 16 (S 0 5) a) 17 (S 0 5) day) 18 (S 0 5) 10000) 0 5 (S 0 5 + 1)) 0 5 = S 0 5 + 1 by rw [mS_iff, if_pos ⟨rfl, rfl⟩]] at v
            by_cases k : e = S 0 5
            · rw [← e5] at k
              subst k
              rw [← e5]
              simp only [mS_iff, eq_self, Int.reduceEq, true_and, and_true, false_and, and_false, and_self, ↓reduceIte]
              done
            · rw [show (mS (mS (mS (mS S 16 (S 0 5) a) 17 (S 0 5) day) 18 (S 0 5) 10000) 0 5 (S 0 5 + 1)) 16 e = S 16 e by rw [mS_iff, if_neg (by omega), mS_iff, if_neg (by omega), mS_iff, if_neg (by omega), mS_iff, if_neg (by omega)], show (mS (mS (mS (mS S 16 (S 0 5) a) 17 (S 0 5) day) 18 (S 0 5) 10000) 0 5 (S 0 5 + 1)) 17 e = S 17 e by rw [mS_iff, if_neg (by omega), mS_iff, if_neg (by omega), mS_iff, if_neg (by omega), mS_iff, if_neg (by omega)], show (mS (mS (mS (mS S 16 (S 0 5) a) 17 (S 0 5) day) 18 (S 0 5) 10000) 0 5 (S 0 5 + 1)) 18 e = S 18 e by rw [mS_iff, if_neg (by omega), mS_iff, if_neg (by omega), mS_iff, if_neg (by omega), mS_iff, if_neg (by omega)]]
              obtain ⟨q1, q2, q3⟩ := hE.2.2 e u (by omega)
              exact ⟨by rw [show ((mS (mS (mS (mS m 23 (m 1 29) (m 19 a)) 24 (m 1 29) day) 25 (m 1 29) 10000) 1 29 ((m 1 29) + 1))) 19 (S 16 e) = m 19 (S 16 e) by rw [mS_iff, if_neg (by omega), mS_iff, if_neg (by omega), mS_iff, if_neg (by omega), mS_iff, if_neg (by omega)]]; rw [mS_iff, if_neg (by omega), mS_iff, if_neg (by omega), mS_iff, if_neg (by omega), mS_iff, if_neg (by omega)]; exact q1, by rw [mS_iff, if_neg (by omega), mS_iff, if_neg (by omega), mS_iff, if_neg (by omega), mS_iff, if_neg (by omega)]; exact q2, by rw [mS_iff, if_neg (by omega), mS_iff, if_neg (by omega), mS_iff, if_neg (by omega), mS_iff, if_neg (by omega)]; exact q3⟩
        show Q (.inl (some (aI (((m 1 29) + 1) - 1)))) ((mS (mS (mS (mS m 23 (m 1 29) (m 19 a)) 24 (m 1 29) day) 25 (m 1 29) 10000) 1 29 ((m 1 29) + 1)))
        rw [show (((m 1 29) + 1) - 1) = S 0 5 by omega]
        exact hQ _ ⟨h.up (fun x j u => by rw [mS_iff, if_neg (by omega), mS_iff, if_neg (by omega), mS_iff, if_neg (by omega), mS_iff, if_neg (by omega)]) hn he (fun j u => by rw [mS_iff, if_neg (by omega), mS_iff, if_neg (by omega), mS_iff, if_neg (by omega), mS_iff, if_neg (by omega)]) (fun x u => funext fun j => by rw [mS_iff, if_neg (by omega), mS_iff, if_neg (by omega), mS_iff, if_neg (by omega), mS_iff, if_neg (by omega)]) ⟨by rw [mS_iff, if_neg (by omega), mS_iff, if_neg (by omega), mS_iff, if_neg (by omega), mS_iff, if_neg (by omega)], by rw [mS_iff, if_neg (by omega), mS_iff, if_neg (by omega), mS_iff, if_neg (by omega), mS_iff, if_neg (by omega)]⟩ (by rw [mS_iff, if_neg (by omega), mS_iff, if_neg (by omega), mS_iff, if_neg (by omega), mS_iff, if_neg (by omega)]) (by rw [mS_iff, if_neg (by omega), mS_iff, if_neg (by omega), mS_iff, if_neg (by omega), mS_iff, if_neg (by omega)]) (by rw [mS_iff, if_neg (by omega), mS_iff, if_neg (by omega), mS_iff, if_neg (by omega), mS_iff, if_neg (by omega)]) (fun x u => funext fun j => by rw [mS_iff, if_neg (by omega), mS_iff, if_neg (by omega), mS_iff, if_neg (by omega), mS_iff, if_neg (by omega)]), hr.up (fun j => by rw [mS_iff, if_neg (by omega), mS_iff, if_neg (by omega), mS_iff, if_neg (by omega), mS_iff, if_neg (by omega)]) (by rw [mS_iff, if_neg (by omega), mS_iff, if_neg (by omega), mS_iff, if_neg (by omega), mS_iff, if_neg (by omega)])⟩ (fun x j u v => by rw [mS_iff, if_neg (by omega), mS_iff, if_neg (by omega), mS_iff, if_neg (by omega), mS_iff, if_neg (by omega)])
      · have ev0 : c_ent S a day = ((-5), S) := by
          unfold c_ent
          repeat' split
          all_goals first | rfl | (exfalso; omega) | (refine Prod.ext ?_ ?_ <;> first | rfl | (show _ = _; omega))
        rw [ev0] at hQ
        dsimp only at hQ
        exact hQ m (hz0.fr fr (by omega)) fr.M
    · have dn := h2
      refine And.intro (fun h => absurd h (by decide)) (fun _ => ?_)
      have ev0 : c_ent S a day = ((-3), S) := by
        unfold c_ent
        repeat' split
        all_goals first | rfl | (exfalso; omega) | (refine Prod.ext ?_ ?_ <;> first | rfl | (show _ = _; omega))
      rw [ev0] at hQ
      dsimp only at hQ
      exact hQ m (hz0.fr fr (by omega)) fr.M
  · have fr := fr.trans fx
    have cn := fr.1
    have cs := fr.2.1
    refine And.intro (fun h => absurd h (by decide)) (fun _ => ?_)
    have ev0 : c_ent S a day = ((-2), S) := by
      unfold c_ent
      repeat' split
      all_goals first | rfl | (exfalso; omega) | (refine Prod.ext ?_ ?_ <;> first | rfl | (show _ = _; omega))
    rw [ev0] at hQ
    dsimp only at hQ
    exact hQ mw1 (hz0.fr fr (by omega)) fr.M
theorem ms_268 {d : Nat} {m : aM} {Q : aO → aM → Prop} {S : aM} {F : Int → aD} {a day : Int} {k : Int} (hd : 60 ≤ d) (hk : 0 ≤ k) (hz0 : mZ (k + 1) S F m)  (hQ : ∀ m', mZ k (c_ent S a day).2 F m' → (∀ x j, x < 41 ∨ 76 < x → m' x j = m x j) → Q (.inl (some (aI (c_ent S a day).1))) m') : am_wpc am_G am_T d 268 [aR 41, aI a, aI day] m Q := by
  have h := hz0.1
  have hr := hz0.2
  have fr := mFr.rfl m
  have hS := h.2.1
  have s1 := hS.1
  obtain ⟨n1, n2, n3, n4, n5, n6, n7, n8⟩ := id h.1
  have hE := h.2.2.1
  have e5 := hE.2.1
  have e6 := hE.1.1
  have e7 := hE.1.2
  obtain ⟨dk, hdk⟩ : ∃ k, d = k + 1 := ⟨d - 1, by omega⟩
  refine am_in (k := dk) rfl (by omega) (fun d hd => ?_)
  refine am_go 400 [] (am_wpc_cm _ _ _) wf_268 ?_
  refine And.intro (rfl) ?_
  refine ct_222 (by omega) h (fun t1 => ?_) (fun t1 => ?_)
  · have hA1 := (hS.2.2 a t1.1 t1.2).1
    have ok1 := (hS.2.2 a t1.1 t1.2).2
    refine And.intro (fun _ => ?_) (fun h => absurd h (by decide))
    refine ct_254 (by omega) (fun h1 => ?_) (fun h1 => ?_)
    · have dy := h1
      refine And.intro (fun _ => ?_) (fun h => absurd h (by decide))
      refine And.intro (rfl) ?_
      refine And.intro (fun h2 => ?_) (fun h2 => ?_)
      · refine And.intro (rfl) ?_
        refine And.intro (rfl) ?_
        refine And.intro (⟨rfl, by first | omega | (simp only [mS_iff, eq_self, Int.reduceEq, true_and, and_true, false_and, and_false, and_self, ↓reduceIte]; omega) | (simp only [mS_iff, eq_self, Int.reduceEq, true_and, and_true, false_and, and_false, and_self, ↓reduceIte] at *; omega)⟩) ?_
        refine And.intro (rfl) ?_
        refine And.intro (rfl) ?_
        refine And.intro (⟨rfl, by first | omega | (simp only [mS_iff, eq_self, Int.reduceEq, true_and, and_true, false_and, and_false, and_self, ↓reduceIte]; omega) | (simp only [mS_iff, eq_self, Int.reduceEq, true_and, and_true, false_and, and_false, and_self, ↓reduceIte] at *; omega)⟩) ?_
        refine And.intro (rfl) ?_
        refine And.intro (rfl) ?_
        refine And.intro (⟨rfl, by first | omega | (simp only [mS_iff, eq_self, Int.reduceEq, true_and, and_true, false_and, and_false, and_self, ↓reduceIte]; omega) | (simp only [mS_iff, eq_self, Int.reduceEq, true_and, and_true, false_and, and_false, and_self, ↓reduceIte] at *; omega)⟩) ?_
        refine And.intro (rfl) ?_
        refine And.intro (show -2147483648 ≤ (m 41 40) + 1 ∧ (m 41 40) + 1 ≤ 2147483647 by first | omega | (simp only [mS_iff, eq_self, Int.reduceEq, true_and, and_true, false_and, and_false, and_self, ↓reduceIte]; omega) | (simp only [mS_iff, eq_self, Int.reduceEq, true_and, and_true, false_and, and_false, and_self, ↓reduceIte] at *; omega)) ?_
        refine And.intro (rfl) ?_
        refine And.intro (rfl) ?_
        refine And.intro (show -2147483648 ≤ ((m 41 40) + 1) - 1 ∧ ((m 41 40) + 1) - 1 ≤ 2147483647 by first | omega | (simp only [mS_iff, eq_self, Int.reduceEq, true_and, and_true, false_and, and_false, and_self, ↓reduceIte]; omega) | (simp only [mS_iff, eq_self, Int.reduceEq, true_and, and_true, false_and, and_false, and_self, ↓reduceIte] at *; omega)) ?_
        have ev0 : c_ent S a day = (S 0 5, mS (mS (mS (mS S 16 (S 0 5) a) 17 (S 0 5) day) 18 (S 0 5) 10000) 0 5 (S 0 5 + 1)) := by
          unfold c_ent
          repeat' split
          all_goals first | rfl | (exfalso; omega) | (refine Prod.ext ?_ ?_ <;> first | rfl | (show _ = _; omega))
        rw [ev0] at hQ
        dsimp only at hQ
        have hn : mNm (mS (mS (mS (mS S 16 (S 0 5) a) 17 (S 0 5) day) 18 (S 0 5) 10000) 0 5 (S 0 5 + 1)) (mS (mS (mS (mS m 65 (m 41 40) a) 66 (m 41 40) day) 67 (m 41 40) 10000) 41 40 ((m 41 40) + 1)) := by
          have S0 : ∀ j, j ≠ 5 → (mS (mS (mS (mS S 16 (S 0 5) a) 17 (S 0 5) day) 18 (S 0 5) 10000) 0 5 (S 0 5 + 1)) 0 j = S 0 j := fun j u => by rw [mS_iff, if_neg (by omega), mS_iff, if_neg (by omega), mS_iff, if_neg (by omega), mS_iff, if_neg (by omega)]
          have S1 : (mS (mS (mS (mS S 16 (S 0 5) a) 17 (S 0 5) day) 18 (S 0 5) 10000) 0 5 (S 0 5 + 1)) 1 = S 1 := funext fun j => by rw [mS_iff, if_neg (by omega), mS_iff, if_neg (by omega), mS_iff, if_neg (by omega), mS_iff, if_neg (by omega)]
          have S2 : (mS (mS (mS (mS S 16 (S 0 5) a) 17 (S 0 5) day) 18 (S 0 5) 10000) 0 5 (S 0 5 + 1)) 2 = S 2 := funext fun j => by rw [mS_iff, if_neg (by omega), mS_iff, if_neg (by omega), mS_iff, if_neg (by omega), mS_iff, if_neg (by omega)]
          unfold mNm
          rw [S1, S2, S0 0 (by omega), S0 1 (by omega), S0 2 (by omega), S0 7 (by omega), S0 8 (by omega), S0 9 (by omega)]
          refine ⟨by rw [mS_iff, if_neg (by omega), mS_iff, if_neg (by omega), mS_iff, if_neg (by omega), mS_iff, if_neg (by omega)]; exact n1, fun i a b => by rw [mS_iff, if_neg (by omega), mS_iff, if_neg (by omega), mS_iff, if_neg (by omega), mS_iff, if_neg (by omega)]; exact n2 i a b, by rw [mS_iff, if_neg (by omega), mS_iff, if_neg (by omega), mS_iff, if_neg (by omega), mS_iff, if_neg (by omega)]; exact n3, fun i a b => by rw [mS_iff, if_neg (by omega), mS_iff, if_neg (by omega), mS_iff, if_neg (by omega), mS_iff, if_neg (by omega)]; exact n4 i a b, by rw [mS_iff, if_neg (by omega), mS_iff, if_neg (by omega), mS_iff, if_neg (by omega), mS_iff, if_neg (by omega)]; exact n5, by rw [mS_iff, if_neg (by omega), mS_iff, if_neg (by omega), mS_iff, if_neg (by omega), mS_iff, if_neg (by omega)]; exact n6, by rw [mS_iff, if_neg (by omega), mS_iff, if_neg (by omega), mS_iff, if_neg (by omega), mS_iff, if_neg (by omega)]; exact n7, by rw [mS_iff, if_neg (by omega), mS_iff, if_neg (by omega), mS_iff, if_neg (by omega), mS_iff, if_neg (by omega)]; exact n8⟩
        have he : mEs (mS (mS (mS (mS S 16 (S 0 5) a) 17 (S 0 5) day) 18 (S 0 5) 10000) 0 5 (S 0 5 + 1)) (mS (mS (mS (mS m 65 (m 41 40) a) 66 (m 41 40) day) 67 (m 41 40) 10000) 41 40 ((m 41 40) + 1)) := by
          refine ⟨hE.1.ent t1 dy (by omega), ?_, fun e u v => ?_⟩
          · rw [show (mS (mS (mS (mS S 16 (S 0 5) a) 17 (S 0 5) day) 18 (S 0 5) 10000) 0 5 (S 0 5 + 1)) 0 5 = S 0 5 + 1 by rw [mS_iff, if_pos ⟨rfl, rfl⟩], mS_iff, if_pos ⟨rfl, rfl⟩]
            omega
          · rw [show (mS (mS (mS (mS S 16 (S 0 5) a) 17 (S 0 5) day) 18 (S 0 5) 10000) 0 5 (S 0 5 + 1)) 0 5 = S 0 5 + 1 by rw [mS_iff, if_pos ⟨rfl, rfl⟩]] at v
            by_cases k : e = S 0 5
            · rw [← e5] at k
              subst k
              rw [← e5]
              simp only [mS_iff, eq_self, Int.reduceEq, true_and, and_true, false_and, and_false, and_self, ↓reduceIte]
              done
            · rw [show (mS (mS (mS (mS S 16 (S 0 5) a) 17 (S 0 5) day) 18 (S 0 5) 10000) 0 5 (S 0 5 + 1)) 16 e = S 16 e by rw [mS_iff, if_neg (by omega), mS_iff, if_neg (by omega), mS_iff, if_neg (by omega), mS_iff, if_neg (by omega)], show (mS (mS (mS (mS S 16 (S 0 5) a) 17 (S 0 5) day) 18 (S 0 5) 10000) 0 5 (S 0 5 + 1)) 17 e = S 17 e by rw [mS_iff, if_neg (by omega), mS_iff, if_neg (by omega), mS_iff, if_neg (by omega), mS_iff, if_neg (by omega)], show (mS (mS (mS (mS S 16 (S 0 5) a) 17 (S 0 5) day) 18 (S 0 5) 10000) 0 5 (S 0 5 + 1)) 18 e = S 18 e by rw [mS_iff, if_neg (by omega), mS_iff, if_neg (by omega), mS_iff, if_neg (by omega), mS_iff, if_neg (by omega)]]
              obtain ⟨q1, q2, q3⟩ := hE.2.2 e u (by omega)
              exact ⟨by rw [mS_iff, if_neg (by omega), mS_iff, if_neg (by omega), mS_iff, if_neg (by omega), mS_iff, if_neg (by omega)]; exact q1, by rw [mS_iff, if_neg (by omega), mS_iff, if_neg (by omega), mS_iff, if_neg (by omega), mS_iff, if_neg (by omega)]; exact q2, by rw [mS_iff, if_neg (by omega), mS_iff, if_neg (by omega), mS_iff, if_neg (by omega), mS_iff, if_neg (by omega)]; exact q3⟩
        show Q (.inl (some (aI (((m 41 40) + 1) - 1)))) ((mS (mS (mS (mS m 65 (m 41 40) a) 66 (m 41 40) day) 67 (m 41 40) 10000) 41 40 ((m 41 40) + 1)))
        rw [show (((m 41 40) + 1) - 1) = S 0 5 by omega]
        exact hQ _ ⟨h.up hn he (fun j u => by rw [mS_iff, if_neg (by omega), mS_iff, if_neg (by omega), mS_iff, if_neg (by omega), mS_iff, if_neg (by omega)]) (fun x u => funext fun j => by rw [mS_iff, if_neg (by omega), mS_iff, if_neg (by omega), mS_iff, if_neg (by omega), mS_iff, if_neg (by omega)]) (fun j u => by rw [mS_iff, if_neg (by omega), mS_iff, if_neg (by omega), mS_iff, if_neg (by omega), mS_iff, if_neg (by omega)]) (by rw [mS_iff, if_neg (by omega), mS_iff, if_neg (by omega), mS_iff, if_neg (by omega), mS_iff, if_neg (by omega)]) (by rw [mS_iff, if_neg (by omega), mS_iff, if_neg (by omega), mS_iff, if_neg (by omega), mS_iff, if_neg (by omega)]) (by rw [mS_iff, if_neg (by omega), mS_iff, if_neg (by omega), mS_iff, if_neg (by omega), mS_iff, if_neg (by omega)]) (fun x u => funext fun j => by rw [mS_iff, if_neg (by omega), mS_iff, if_neg (by omega), mS_iff, if_neg (by omega), mS_iff, if_neg (by omega)]), hr.up (by rw [mS_iff, if_neg (by omega), mS_iff, if_neg (by omega), mS_iff, if_neg (by omega), mS_iff, if_neg (by omega)])⟩ (fun x j u => by rw [mS_iff, if_neg (by omega), mS_iff, if_neg (by omega), mS_iff, if_neg (by omega), mS_iff, if_neg (by omega)])
      · have ev0 : c_ent S a day = ((-5), S) := by
          unfold c_ent
          repeat' split
          all_goals first | rfl | (exfalso; omega) | (refine Prod.ext ?_ ?_ <;> first | rfl | (show _ = _; omega))
        rw [ev0] at hQ
        dsimp only at hQ
        exact hQ m (hz0.fr fr) fr.1
    · have dn := h1
      refine And.intro (fun h => absurd h (by decide)) (fun _ => ?_)
      have ev0 : c_ent S a day = ((-3), S) := by
        unfold c_ent
        repeat' split
        all_goals first | rfl | (exfalso; omega) | (refine Prod.ext ?_ ?_ <;> first | rfl | (show _ = _; omega))
      rw [ev0] at hQ
      dsimp only at hQ
      exact hQ m (hz0.fr fr) fr.1
  · refine And.intro (fun h => absurd h (by decide)) (fun _ => ?_)
    have ev0 : c_ent S a day = ((-2), S) := by
      unfold c_ent
      repeat' split
      all_goals first | rfl | (exfalso; omega) | (refine Prod.ext ?_ ?_ <;> first | rfl | (show _ = _; omega))
    rw [ev0] at hQ
    dsimp only at hQ
    exact hQ m (hz0.fr fr) fr.1
theorem hs_110 {d : Nat} {m : aM} {Q : aO → aM → Prop} {S : aM} {F : Int → aD} {lo hi cl ch : Int → Int} {e day : Int} {k : Int} (hd : 60 ≤ d) (hk : 0 ≤ k) (hz0 : hZ (k + 1) S F lo hi cl ch m)  (hQ : ∀ m', hZ k (c_str S e day).2 F lo hi cl ch m' → (∀ x j, 41 ≤ x → x ≤ 76 → m' x j = m x j) → Q (.inl (some (aI (c_str S e day).1))) m') : am_wpc am_G am_T d 110 [aR 1, aI e, aI day] m Q := by
  have h := hz0.1
  have hr := hz0.2
  have fr := hFr.rfl m
  obtain ⟨r1, r2, r3, r4, r5⟩ := id hr
  have hS := h.2.2.2.1
  have h0 := h.1
  have s1 := hS.1
  obtain ⟨n1, n2, n3, n4, n5, n6, n7, n8, n9⟩ := id h.2.2.1
  have hE := h.2.2.2.2.1
  have e5 := hE.2.1
  have e6 := hE.1.1
  have e7 := hE.1.2
  obtain ⟨dk, hdk⟩ : ∃ k, d = k + 1 := ⟨d - 1, by omega⟩
  refine am_in (k := dk) rfl (by omega) (fun d hd => ?_)
  refine am_go 400 [] (am_wpc_cm _ _ _) wf_110 ?_
  refine And.intro (rfl) ?_
  refine And.intro (show -2147483648 ≤ (m 1 29) - 1 ∧ (m 1 29) - 1 ≤ 2147483647 by first | omega | (simp only [mS_iff, eq_self, Int.reduceEq, true_and, and_true, false_and, and_false, and_self, ↓reduceIte]; omega) | (simp only [mS_iff, eq_self, Int.reduceEq, true_and, and_true, false_and, and_false, and_self, ↓reduceIte] at *; omega)) ?_
  refine ct_39 (by omega) (fun h1 => ?_) (fun h1 => ?_)
  · refine And.intro (fun _ => ?_) (fun h => absurd h (by decide))
    have z7 := e7 e (by omega) (by omega)
    have zz := hE.2.2 e (by omega) (by omega)
    have zf := zz.2.1
    have zt := zz.2.2
    refine And.intro (rfl) ?_
    refine And.intro (⟨rfl, by omega⟩) ?_
    refine ct_39 (by omega) (fun h2 => ?_) (fun h2 => ?_)
    · refine And.intro (fun _ => ?_) (fun h => absurd h (by decide))
      refine And.intro (rfl) ?_
      refine And.intro (⟨rfl, by omega⟩) ?_
      refine And.intro (fun h3 => ?_) (fun h3 => ?_)
      · refine And.intro (rfl) ?_
        refine And.intro (⟨rfl, by omega⟩) ?_
        have ev0 : c_str S e day = (1, mS S 18 e day) := by
          unfold c_str
          repeat' split
          all_goals first | rfl | (exfalso; omega) | (refine Prod.ext ?_ ?_ <;> first | rfl | (show _ = _; omega))
        rw [ev0] at hQ
        dsimp only at hQ
        have hn : hNm (mS S 18 e day) (mS m 25 e day) := by
          have S0 : ∀ j, j ≠ 5 → (mS S 18 e day) 0 j = S 0 j := fun j u => by rw [mS_iff, if_neg (by omega)]
          have S1 : (mS S 18 e day) 1 = S 1 := funext fun j => by rw [mS_iff, if_neg (by omega)]
          have S2 : (mS S 18 e day) 2 = S 2 := funext fun j => by rw [mS_iff, if_neg (by omega)]
          unfold hNm
          rw [S1, S2, S0 0 (by omega), S0 1 (by omega), S0 2 (by omega), S0 7 (by omega), S0 8 (by omega), S0 9 (by omega)]
          refine ⟨by rw [mS_iff, if_neg (by omega)]; exact n1, fun i a b => by rw [mS_iff, if_neg (by omega)]; exact n2 i a b, by rw [mS_iff, if_neg (by omega)]; exact n3, fun i a b => by rw [mS_iff, if_neg (by omega)]; exact n4 i a b, by rw [mS_iff, if_neg (by omega)]; exact n5, by rw [mS_iff, if_neg (by omega)]; exact n6, by rw [mS_iff, if_neg (by omega)]; exact n7, by rw [mS_iff, if_neg (by omega)]; exact n8, by rw [mS_iff, if_neg (by omega)]; exact n9⟩
        have he : hEs (mS S 18 e day) (mS m 25 e day) := by
          refine ⟨hE.1.str (by omega), ?_, fun e2 u v => ?_⟩
          · rw [show (mS S 18 e day) 0 5 = S 0 5 by rw [mS_iff, if_neg (by omega)], show ((mS m 25 e day)) 1 29 = m 1 29 by rw [mS_iff, if_neg (by omega)]]
            exact e5
          · rw [show (mS S 18 e day) 0 5 = S 0 5 by rw [mS_iff, if_neg (by omega)]] at v
            obtain ⟨q1, q2, q3⟩ := hE.2.2 e2 u v
            rw [show (mS S 18 e day) 16 e2 = S 16 e2 by rw [mS_iff, if_neg (by omega)], show (mS S 18 e day) 17 e2 = S 17 e2 by rw [mS_iff, if_neg (by omega)]]
            refine ⟨by rw [show ((mS m 25 e day)) 19 (S 16 e2) = m 19 (S 16 e2) by rw [mS_iff, if_neg (by omega)]]; rw [mS_iff, if_neg (by omega)]; exact q1, by rw [mS_iff, if_neg (by omega)]; exact q2, ?_⟩
            rw [mS_iff, mS_iff]
            split
            · rw [if_pos (by omega)]
            · rw [if_neg (by omega)]
              exact q3
        exact hQ _ ⟨h.up (fun x j u => by rw [mS_iff, if_neg (by omega)]) hn he (fun j u => by rw [mS_iff, if_neg (by omega)]) (fun x u => funext fun j => by rw [mS_iff, if_neg (by omega)]) ⟨by rw [mS_iff, if_neg (by omega)], by rw [mS_iff, if_neg (by omega)]⟩ (by rw [mS_iff, if_neg (by omega)]) (by rw [mS_iff, if_neg (by omega)]) (by rw [mS_iff, if_neg (by omega)]) (fun x u => funext fun j => by rw [mS_iff, if_neg (by omega)]), hr.up (fun j => by rw [mS_iff, if_neg (by omega)]) (by rw [mS_iff, if_neg (by omega)])⟩ (fun x j u v => by rw [mS_iff, if_neg (by omega)])
      · have ev0 : c_str S e day = ((-4), S) := by
          unfold c_str
          repeat' split
          all_goals first | rfl | (exfalso; omega) | (refine Prod.ext ?_ ?_ <;> first | rfl | (show _ = _; omega))
        rw [ev0] at hQ
        dsimp only at hQ
        exact hQ m (hz0.fr fr (by omega)) fr.M
    · refine And.intro (fun h => absurd h (by decide)) (fun _ => ?_)
      have ev0 : c_str S e day = ((-3), S) := by
        unfold c_str
        repeat' split
        all_goals first | rfl | (exfalso; omega) | (refine Prod.ext ?_ ?_ <;> first | rfl | (show _ = _; omega))
      rw [ev0] at hQ
      dsimp only at hQ
      exact hQ m (hz0.fr fr (by omega)) fr.M
  · refine And.intro (fun h => absurd h (by decide)) (fun _ => ?_)
    have ev0 : c_str S e day = ((-2), S) := by
      unfold c_str
      repeat' split
      all_goals first | rfl | (exfalso; omega) | (refine Prod.ext ?_ ?_ <;> first | rfl | (show _ = _; omega))
    rw [ev0] at hQ
    dsimp only at hQ
    exact hQ m (hz0.fr fr (by omega)) fr.M
theorem ms_269 {d : Nat} {m : aM} {Q : aO → aM → Prop} {S : aM} {F : Int → aD} {e day : Int} {k : Int} (hd : 60 ≤ d) (hk : 0 ≤ k) (hz0 : mZ (k + 1) S F m)  (hQ : ∀ m', mZ k (c_str S e day).2 F m' → (∀ x j, x < 41 ∨ 76 < x → m' x j = m x j) → Q (.inl (some (aI (c_str S e day).1))) m') : am_wpc am_G am_T d 269 [aR 41, aI e, aI day] m Q := by
  have h := hz0.1
  have hr := hz0.2
  have fr := mFr.rfl m
  have hS := h.2.1
  have s1 := hS.1
  obtain ⟨n1, n2, n3, n4, n5, n6, n7, n8⟩ := id h.1
  have hE := h.2.2.1
  have e5 := hE.2.1
  have e6 := hE.1.1
  have e7 := hE.1.2
  obtain ⟨dk, hdk⟩ : ∃ k, d = k + 1 := ⟨d - 1, by omega⟩
  refine am_in (k := dk) rfl (by omega) (fun d hd => ?_)
  refine am_go 400 [] (am_wpc_cm _ _ _) wf_269 ?_
  refine And.intro (fun h1 => ?_) (fun h1 => ?_)
  · have ev0 : c_str S e day = ((-2), S) := by
      unfold c_str
      repeat' split
      all_goals first | rfl | (exfalso; omega) | (refine Prod.ext ?_ ?_ <;> first | rfl | (show _ = _; omega))
    rw [ev0] at hQ
    dsimp only at hQ
    exact hQ m (hz0.fr fr) fr.1
  · refine And.intro (rfl) ?_
    refine And.intro (fun h2 => ?_) (fun h2 => ?_)
    · have z7 := e7 e (by omega) (by omega)
      have zz := hE.2.2 e (by omega) (by omega)
      have zf := zz.2.1
      have zt := zz.2.2
      refine ct_254 (by omega) (fun h3 => ?_) (fun h3 => ?_)
      · have dy := h3
        refine And.intro (fun h => absurd h (by decide)) (fun _ => ?_)
        refine And.intro (rfl) ?_
        refine And.intro (⟨rfl, by omega⟩) ?_
        refine And.intro (fun h4 => ?_) (fun h4 => ?_)
        · refine And.intro (rfl) ?_
          refine And.intro (⟨rfl, by omega⟩) ?_
          refine And.intro (fun h5 => ?_) (fun h5 => ?_)
          · refine And.intro (rfl) ?_
            refine And.intro (⟨rfl, by omega⟩) ?_
            have ev0 : c_str S e day = (1, mS S 18 e day) := by
              unfold c_str
              repeat' split
              all_goals first | rfl | (exfalso; omega) | (refine Prod.ext ?_ ?_ <;> first | rfl | (show _ = _; omega))
            rw [ev0] at hQ
            dsimp only at hQ
            have hn : mNm (mS S 18 e day) (mS m 67 e day) := by
              have S0 : ∀ j, j ≠ 5 → (mS S 18 e day) 0 j = S 0 j := fun j u => by rw [mS_iff, if_neg (by omega)]
              have S1 : (mS S 18 e day) 1 = S 1 := funext fun j => by rw [mS_iff, if_neg (by omega)]
              have S2 : (mS S 18 e day) 2 = S 2 := funext fun j => by rw [mS_iff, if_neg (by omega)]
              unfold mNm
              rw [S1, S2, S0 0 (by omega), S0 1 (by omega), S0 2 (by omega), S0 7 (by omega), S0 8 (by omega), S0 9 (by omega)]
              refine ⟨by rw [mS_iff, if_neg (by omega)]; exact n1, fun i a b => by rw [mS_iff, if_neg (by omega)]; exact n2 i a b, by rw [mS_iff, if_neg (by omega)]; exact n3, fun i a b => by rw [mS_iff, if_neg (by omega)]; exact n4 i a b, by rw [mS_iff, if_neg (by omega)]; exact n5, by rw [mS_iff, if_neg (by omega)]; exact n6, by rw [mS_iff, if_neg (by omega)]; exact n7, by rw [mS_iff, if_neg (by omega)]; exact n8⟩
            have he : mEs (mS S 18 e day) (mS m 67 e day) := by
              refine ⟨hE.1.str (by omega), ?_, fun e2 u v => ?_⟩
              · rw [show (mS S 18 e day) 0 5 = S 0 5 by rw [mS_iff, if_neg (by omega)], show ((mS m 67 e day)) 41 40 = m 41 40 by rw [mS_iff, if_neg (by omega)]]
                exact e5
              · rw [show (mS S 18 e day) 0 5 = S 0 5 by rw [mS_iff, if_neg (by omega)]] at v
                obtain ⟨q1, q2, q3⟩ := hE.2.2 e2 u v
                rw [show (mS S 18 e day) 16 e2 = S 16 e2 by rw [mS_iff, if_neg (by omega)], show (mS S 18 e day) 17 e2 = S 17 e2 by rw [mS_iff, if_neg (by omega)]]
                refine ⟨by rw [mS_iff, if_neg (by omega)]; exact q1, by rw [mS_iff, if_neg (by omega)]; exact q2, ?_⟩
                rw [mS_iff, mS_iff]
                split
                · rw [if_pos (by omega)]
                · rw [if_neg (by omega)]
                  exact q3
            exact hQ _ ⟨h.up hn he (fun j u => by rw [mS_iff, if_neg (by omega)]) (fun x u => funext fun j => by rw [mS_iff, if_neg (by omega)]) (fun j u => by rw [mS_iff, if_neg (by omega)]) (by rw [mS_iff, if_neg (by omega)]) (by rw [mS_iff, if_neg (by omega)]) (by rw [mS_iff, if_neg (by omega)]) (fun x u => funext fun j => by rw [mS_iff, if_neg (by omega)]), hr.up (by rw [mS_iff, if_neg (by omega)])⟩ (fun x j u => by rw [mS_iff, if_neg (by omega)])
          · have ev0 : c_str S e day = ((-4), S) := by
              unfold c_str
              repeat' split
              all_goals first | rfl | (exfalso; omega) | (refine Prod.ext ?_ ?_ <;> first | rfl | (show _ = _; omega))
            rw [ev0] at hQ
            dsimp only at hQ
            exact hQ m (hz0.fr fr) fr.1
        · have ev0 : c_str S e day = ((-3), S) := by
            unfold c_str
            repeat' split
            all_goals first | rfl | (exfalso; omega) | (refine Prod.ext ?_ ?_ <;> first | rfl | (show _ = _; omega))
          rw [ev0] at hQ
          dsimp only at hQ
          exact hQ m (hz0.fr fr) fr.1
      · have dn := h3
        refine And.intro (fun _ => ?_) (fun h => absurd h (by decide))
        have ev0 : c_str S e day = ((-3), S) := by
          unfold c_str
          repeat' split
          all_goals first | rfl | (exfalso; omega) | (refine Prod.ext ?_ ?_ <;> first | rfl | (show _ = _; omega))
        rw [ev0] at hQ
        dsimp only at hQ
        exact hQ m (hz0.fr fr) fr.1
    · have ev0 : c_str S e day = ((-2), S) := by
        unfold c_str
        repeat' split
        all_goals first | rfl | (exfalso; omega) | (refine Prod.ext ?_ ?_ <;> first | rfl | (show _ = _; omega))
      rw [ev0] at hQ
      dsimp only at hQ
      exact hQ m (hz0.fr fr) fr.1
