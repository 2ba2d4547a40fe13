/-! needs: a08 -/
/-! CONTRACTS: reading arms, of the house: the end; by tools/gena9.py -/
set_option maxRecDepth 100000
/-- reading arms: what stood ahead stands, but for the text's places and the row of layers being read -/
def fr_R (c s : Int) (m m' : aM) : Prop := (m 0 0 ≤ m' 0 0 ∧ m' 0 0 ≤ m 0 0 + c) ∧ (m 0 1 ≤ m' 0 1 ∧ m' 0 1 ≤ m 0 1 + s) ∧ (∀ x j, x ≠ 0 → x ≤ m 0 0 → (x ≠ 13 ∨ (j ≠ 5 ∧ j ≠ 6 ∧ j ≠ 7)) → (x ≠ 3 ∨ j < 0) → m' x j = m x j) ∧ (∀ j, j ≠ 0 → j ≠ 1 → m' 0 j = m 0 j)
theorem fr_P.R {c s : Int} {m m' : aM} (h : fr_P c s m m') : fr_R c s m m' := ⟨h.1, h.2.1, fun x j a b c _ => h.2.2.1 x j a b c, h.2.2.2⟩
theorem fr_R.P {c s c' s' : Int} {a b e : aM} (h : fr_R c s a b) (g : fr_P c' s' b e) : fr_R (c + c') (s + s') a e := by
  obtain ⟨h1, h2, h3, h4⟩ := h
  obtain ⟨g1, g2, g3, g4⟩ := g
  exact ⟨by omega, by omega, fun x j a b c d => (g3 x j a (by omega) c).trans (h3 x j a b c d), fun j a b => (g4 j a b).trans (h4 j a b)⟩
theorem fr_R.put {c s : Int} {a b : aM} {i r : Int} (h : fr_R c s a b) (hi : 0 ≤ i) : fr_R c s a (mS b 3 i r) := by
  obtain ⟨h1, h2, h3, h4⟩ := h
  refine ⟨by rw [mS_a _ _ _ _ (by omega)]; exact h1, by rw [mS_a _ _ _ _ (by omega)]; exact h2, fun x j a b c d => by rw [mS_iff, if_neg (by omega)]; exact h3 x j a b c d, fun j a b => by rw [mS_a _ _ _ _ (by omega)]; exact h4 j a b⟩
theorem fr_R.mono {c s c' s' : Int} {a b : aM} (h : fr_R c s a b) (hc : c ≤ c') (hs : s ≤ s') : fr_R c' s' a b := ⟨by have := h.1; omega, by have := h.2.1; omega, h.2.2⟩
theorem hFld.fr {c s : Int} {m m' : aM} {lo r : Int} {w : Int → Int} (h : hFld m lo (m 0 0) r w) (f : fr_P c s m m') (hl : 14 ≤ lo) : hFld m' lo (m' 0 0) r w := (h.keep (f.kp hl)).wd (by omega) f.1.1
theorem hFld.put {m : aM} {lo r i x : Int} {w : Int → Int} (h : hFld m lo (m 0 0) r w) (hl : 14 ≤ lo) : hFld (mS m 3 i x) lo (mS m 3 i x 0 0) r w := (h.keep (m' := mS m 3 i x) (fun x u v => ⟨mS_a _ _ _ _ (by omega), fun _ => funext fun j => mS_a _ _ _ _ (by omega)⟩)).wd (by omega) (by rw [mS_a _ _ _ _ (show (0 : Int) ≠ 3 by omega)]; omega)
theorem e_rf_l {m : aM} {n : Nat} : (e_rf m n).length = n := by unfold e_rf; simp
theorem e_rf_g {m : aM} {n k : Nat} (h : k < n) : (e_rf m n).getD k 0 = m 3 k := by unfold e_rf; simp [h]
theorem e_rf_m {m : aM} {n : Nat} {x : Int} (h : x ∈ e_rf m n) : ∃ k : Nat, k < n ∧ x = m 3 k := by
  unfold e_rf at h; simp at h
  obtain ⟨k, hk, e⟩ := h
  exact ⟨k, hk, e.symm⟩
theorem lp_45e {d : Nat} {m : aM} {Q : aO → aM → Prop} {lo f i t q p N : Int} {e : Nat → Int} {ls : List (Int → Int)} {K A V w : Int → Int} {z5 z6 : aV} (hd : 3 ≤ d) (hx : hTx m K A V N q 0 p) (h : hLs m lo e ls) (hlo : 77 ≤ lo) (hn : ls.length ≤ 6) (hf : hFld m (lo + 1) (m 0 0) f w) (ok : okF w) (tz : m 3 (-1) = 45 ∧ m 3 (-2) = 6) (hi : i = (ls.length : Int)) (h0 : m 0 0 + 2 ≤ amC ∧ 0 ≤ m 0 1 ∧ m 0 1 + 30 ≤ amS) (hQ : ∀ m' r, m' 0 0 = m 0 0 + 2 → (m 0 1 ≤ m' 0 1 ∧ m' 0 1 ≤ m 0 1 + 20) → (∀ x j, x ≠ 0 → x ≤ lo → m' x j = m x j) → (∀ j, j ≠ 0 → j ≠ 1 → m' 0 j = m 0 j) → hArms m' (lo + 1) (m' 0 0) r (p_row w (p_set ls)) → Q (.inl (some (aR r))) m') : am_WP am_G (am_wpc am_G am_T d) [] cd_45 Q 241 [aR 1, aR 13, aR f, aI i, aI t, z5, z6] [] m := by
  have hm0 : lo ≤ m 0 0 := by have := h.1; have := h.2.1; have := h.mo (j := 0) (k := ls.length) (by omega) (by omega); omega
  refine am_go 400 [] (am_wpc_cm _ _ _) wf_45 ?_
  refine And.intro (rfl) ?_
  refine And.intro (fun _ => ?_) (fun h => absurd h (by have := hx.2.2.2.1; have := hx.2.2.2.2.1; omega))
  refine And.intro (by first | omega | (simp only [mS_iff, eq_self, Int.reduceEq, true_and, and_true, false_and, and_false, and_self, ↓reduceIte]; omega) | (simp only [mS_iff, eq_self, Int.reduceEq, true_and, and_true, false_and, and_false, and_self, ↓reduceIte] at *; omega)) ?_
  generalize h3 : mN m 4 2 = mw1
  generalize h4 : m 0 0 + 1 = r2
  obtain ⟨n1, n2, n3, n4, n5, n6⟩ := mN_f h3 h4 (by omega)
  refine And.intro (show 0 < r2 by first | omega | (simp only [mS_iff, eq_self, Int.reduceEq, true_and, and_true, false_and, and_false, and_self, ↓reduceIte]; omega) | (simp only [mS_iff, eq_self, Int.reduceEq, true_and, and_true, false_and, and_false, and_self, ↓reduceIte] at *; omega)) ?_
  refine am_in rfl (by omega) (fun d hd => ?_)
  refine am_go 400 [] (am_wpc_cm _ _ _) wf_162 ?_
  refine And.intro (show 0 < r2 by first | omega | (simp only [mS_iff, eq_self, Int.reduceEq, true_and, and_true, false_and, and_false, and_self, ↓reduceIte]; omega) | (simp only [mS_iff, eq_self, Int.reduceEq, true_and, and_true, false_and, and_false, and_self, ↓reduceIte] at *; omega)) ?_
  refine And.intro (⟨by omega, n3⟩) ?_
  refine And.intro (by first | omega | (simp only [mS_iff, eq_self, Int.reduceEq, true_and, and_true, false_and, and_false, and_self, ↓reduceIte]; omega) | (simp only [mS_iff, eq_self, Int.reduceEq, true_and, and_true, false_and, and_false, and_self, ↓reduceIte] at *; omega)) ?_
  generalize h7 : mA (mS mw1 r2 0 f) 45 i = mw5
  generalize h8 : (mS mw1 r2 0 f) 0 0 + 1 = r6
  have q0 : (mS mw1 r2 0 f) 0 0 = r2 := by rw [mS_a _ _ _ _ (by omega)]; exact n1
  obtain ⟨a1, a2, a3, a4, a5, a6, a7⟩ := mA_f h7 h8 (by rw [q0]; omega)
  have q1 : r6 = m 0 0 + 2 := by rw [← h8, q0]; omega
  rw [mS_a _ _ _ _ (by omega)] at a2
  have q2 : mw5 r2 (-1) = 4 := by rw [a6 _ _ (by omega) (by omega), mS_iff, if_neg (by omega)]; exact n3
  have q3 : mw5 r2 0 = f := by rw [a6 _ _ (by omega) (by omega), mS_iff, if_pos ⟨rfl, rfl⟩]
  refine And.intro (⟨by omega, q2⟩) ?_
  refine And.intro (rfl) ?_
  refine And.intro (by rw [mS_iff, if_neg (by omega)]; exact q2) ?_
  have ck : ∀ x j, x ≠ 0 → x ≤ m 0 0 → (mS mw5 r2 1 r6) x j = m x j := fun x j x0 x1 => by rw [mS_a _ _ _ _ (by omega), a6 x j x0 (by omega), mS_a _ _ _ _ (by omega), n5 x j x0 (by omega)]
  have lt : ∀ k : Nat, k < ls.length → (lo + 1 ≤ m 3 k ∧ m 3 k ≤ m 0 0) ∧ m (m 3 k) (-1) = 7 := fun k hk => by
    have g := h.2.2.2 k hk
    have q0 := h.mo (j := 0) (k := k) (by omega) (by omega)
    have q1 := h.mo (j := k + 1) (k := ls.length) (by omega) (by omega)
    have := g.1; have := h.1; have := h.2.1
    exact ⟨by omega, g.2.1⟩
  rw [show (mS mw5 r2 1 r6) r2 1 = r6 by rw [mS_iff, if_pos ⟨rfl, rfl⟩]]
  refine And.intro ⟨by omega, by omega, by rw [ck _ _ (by omega) (by omega)]; exact tz.1, by rw [mS_iff, if_neg (by omega)]; exact a3, by omega, by omega, by omega, by rw [ck _ _ (by omega) (by omega)]; omega, by rw [mS_iff, if_neg (by omega), a4]; omega, fun j j0 j1 => Or.inr ?_⟩ ?_
  · obtain ⟨k, rfl⟩ : ∃ k : Nat, j = k := ⟨j.toNat, by omega⟩
    have g := lt k (by omega)
    rw [ck 3 _ (by omega) (by omega), ck _ _ (by omega) (by omega)]
    exact ⟨by omega, g.2⟩
  obtain ⟨mc, ec⟩ : ∃ z, z = mC (mS mw5 r2 1 r6) 3 0 r6 0 i := ⟨_, rfl⟩
  rw [← ec]
  have c0 : mc 0 0 = m 0 0 + 2 := by rw [ec]; unfold mC; rw [if_neg (by omega), mS_a _ _ _ _ (by omega)]; omega
  have c01 : mc 0 1 = mw5 0 1 := by rw [ec]; unfold mC; rw [if_neg (by omega), mS_a _ _ _ _ (by omega)]
  have c0j : ∀ j, j ≠ 0 → j ≠ 1 → mc 0 j = m 0 j := fun j x y => by rw [ec]; unfold mC; rw [if_neg (by omega), mS_a _ _ _ _ (by omega), a7 j x y, mS_a _ _ _ _ (by omega), n6 j x y]
  have ck2 : ∀ x j, x ≠ 0 → x ≤ m 0 0 → mc x j = m x j := fun x j x0 x1 => by rw [ec]; unfold mC; rw [if_neg (by omega)]; exact ck x j x0 x1
  have d1 : mc r2 (-1) = 4 := by rw [ec]; unfold mC; rw [if_neg (by omega), mS_iff, if_neg (by omega)]; exact q2
  have d2 : mc r2 0 = f := by rw [ec]; unfold mC; rw [if_neg (by omega), mS_iff, if_neg (by omega)]; exact q3
  have d3 : mc r2 1 = r6 := by rw [ec]; unfold mC; rw [if_neg (by omega), mS_iff, if_pos ⟨rfl, rfl⟩]
  have al : aLs mc r6 (e_rf m ls.length) := by
    refine ⟨?_, ?_, fun k hk => ?_⟩
    · rw [ec]; unfold mC; rw [if_pos rfl, if_neg (by omega), mS_iff, if_neg (by omega)]; exact a3
    · rw [ec]; unfold mC; rw [if_pos rfl, if_neg (by omega), mS_iff, if_neg (by omega), e_rf_l, a4, hi]
    · rw [e_rf_l] at hk
      rw [ec, e_rf_g hk]; unfold mC; rw [if_pos rfl, if_pos (by omega), show (0 : Int) + (k - 0) = k by omega]
      exact ck 3 k (by omega) (by omega)
  have tl : ∀ x ∈ e_rf m ls.length, 0 < x ∧ mc x (-1) = 7 := fun x hx => by
    obtain ⟨k, hk, ek⟩ := e_rf_m hx
    have g := lt k hk
    rw [ek]
    exact ⟨by omega, by rw [ck2 _ _ (by omega) (by omega)]; exact g.2⟩
  refine And.intro (d1) ?_
  refine ct_54 (by omega) (by omega) (by rw [e_rf_l]; exact hn) (by rw [d3]; exact al) tl (fun mz s1 s2 => ?_)
  rw [d3] at s1 s2
  have hd1 : ∀ x, x ≤ lo → ∀ j, e_m1 mc (e_rf m ls.length) x j = mc x j := fun x hx j => e_m1_a (fun y hy => by
    have hy' : y ∈ e_rf m ls.length := List.mem_of_mem_head? hy
    obtain ⟨k, hk, ek⟩ := e_rf_m hy'
    have := lt k hk
    omega)
  refine hQ _ _ ?_ ?_ (fun x j x0 x1 => ?_) (fun j x0 x1 => ?_) (h.arms hlo hn hf ok (by omega) (by omega) c0 ck2 d1 d2 d3 s1 s2)
  · rw [s1 0 0 (by omega), hd1 0 (by omega)]; exact c0
  · rw [s1 0 1 (by omega), hd1 0 (by omega), c01]; omega
  · rw [s1 x j (by omega), hd1 x x1]; exact ck2 x j x0 (by omega)
  · rw [s1 0 j (by omega), hd1 0 (by omega)]; exact c0j j x0 x1
