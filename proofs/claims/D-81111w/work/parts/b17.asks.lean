/-! needs: b15 b16 -/
/-! CONTRACTS: what a clause tells of arms, house and reference; by tools/genb17.py -/
set_option maxRecDepth 100000
set_option maxHeartbeats 8000000
def fr_A (lo hi alo ahi c : Int) (m m' : aM) : Prop := (m 0 0 ≤ m' 0 0 ∧ m' 0 0 ≤ m 0 0 + c) ∧ (m 0 1 ≤ m' 0 1 ∧ 3 * m' 0 1 ≤ 3 * m 0 1 + 1000 * c) ∧ (∀ x j, x ≠ 0 → x ≤ m 0 0 → (x ≠ 1 ∨ (j ≠ 5 ∧ j ≠ 32 ∧ j ≠ 33 ∧ j ≠ 40)) → x ≠ 5 → (j ≠ 0 ∨ m x (-1) ≠ 6 ∨ ((x < lo ∨ hi < x) ∧ (x < alo ∨ ahi < x))) → m' x j = m x j) ∧ (∀ j, j ≠ 0 → j ≠ 1 → m' 0 j = m 0 j)
theorem fr_A.of {lo hi alo ahi c c' : Int} {m m1 : aM} (h : fr_E lo hi alo ahi c (mS m 1 39 (m 1 39 + 1)) m1) (h1 : 1 ≤ m 0 0) (hc : c ≤ c') : fr_A lo hi alo ahi c' m (mS m1 1 39 (m1 1 39 - 1)) := by
  obtain ⟨g1, g2, g3, g4⟩ := h
  have e0 : mS m 1 39 (m 1 39 + 1) 0 0 = m 0 0 := by rw [mS_iff, if_neg (by omega)]
  have e1 : mS m 1 39 (m 1 39 + 1) 0 1 = m 0 1 := by rw [mS_iff, if_neg (by omega)]
  rw [e0] at g1 g3
  rw [e1] at g2
  refine ⟨by rw [mS_iff, if_neg (by omega)]; omega, by rw [mS_iff, if_neg (by omega)]; omega, fun x j a b c e k => ?_, fun j a b => by rw [mS_iff, if_neg (by omega), g4 j a b, mS_iff, if_neg (by omega)]⟩
  by_cases z : x = 1 ∧ j = 39
  · obtain ⟨z1, z2⟩ := z
    subst z1 z2
    rw [mS_iff, if_pos ⟨rfl, rfl⟩, g3 1 39 (by omega) (by omega) (by omega) (by omega) (by omega), mS_iff, if_pos ⟨rfl, rfl⟩]
    omega
  · rw [mS_iff, if_neg z, g3 x j a b (by omega) e (by rw [mS_iff, if_neg (by omega)]; exact k), mS_iff, if_neg z]
theorem mX_t (m : aM) : mX m 63 3 1000 (m 0 0 + 3) (-1) = 63 := by unfold mX; simp
theorem ct_134 {d : Nat} {m : aM} {Q : aO → aM → Prop} {r ar lo hi alo ahi p : Int} {f : aD} {w : Int → Int} (hd : 2 * p + 14 ≤ (d : Int)) (hn : hNd m lo hi r f p) (hA : hArms m alo ahi ar w) (hR : hRm m lo hi alo ahi p) (hrm : m 0 0 + p + 4 ≤ amC ∧ 3 * m 0 1 + 1000 * (p + 4) ≤ 3 * amS) (h39 : 0 ≤ m 1 39 ∧ m 1 39 ≤ 1000) (hQ : ∀ v, f w = .inr (0, v) → ∀ m', fr_A lo hi alo ahi (p + 2) m m' → Q (.inl (some (aL v))) m') (hQc : ∀ s v, f w = .inr (s, v) → s ≠ 0 → ∀ m' y, fr_A lo hi alo ahi (p + 2) m m' → Q (.inr (63, y)) m') (hQe : ∀ c q, f w = .inl (c, q) → ∀ m', fr_A lo hi alo ahi (p + 2) m m' → m' 1 32 = c → m' 1 33 = q → Q (.inr (3, 26)) m') : am_wpc am_G am_T d 134 [aR 1, aR r, aR ar] m Q := by
  have hp := hn.2.2.1
  have hr := hn.1
  have hB := hA.basic
  obtain ⟨k, hk⟩ : ∃ k, d = k + 1 := ⟨d - 1, by omega⟩
  obtain ⟨R1, R2, R3, R4, R5, R6, R7, R8⟩ := id hR
  have hB := hA.basic
  refine am_in (k := k) rfl (by omega) (fun d hd => ?_)
  refine am_go 400 [] (am_wpc_cm _ _ _) wf_134 ?_
  refine And.intro (rfl) ?_
  refine And.intro (show -2147483648 ≤ (m 1 39) + 1 ∧ (m 1 39) + 1 ≤ 2147483647 by first | omega | (simp only [mS_iff, eq_self, Int.reduceEq, true_and, and_true, false_and, and_false, and_self, ↓reduceIte]; omega) | (simp only [mS_iff, eq_self, Int.reduceEq, true_and, and_true, false_and, and_false, and_self, ↓reduceIte] at *; omega)) ?_
  refine And.intro (rfl) ?_
  obtain ⟨ma, ea⟩ : ∃ z, z = (mS m 1 39 ((m 1 39) + 1)) := ⟨_, rfl⟩
  rw [← ea]
  have af : ∀ x j, (x ≠ 1 ∨ j ≠ 39) → ma x j = m x j := fun x j h => by rw [ea, mS_iff, if_neg (by omega)]
  have a00 := af 0 0 (by omega)
  have a01 := af 0 1 (by omega)
  have ka : ∀ a b, 6 ≤ a → hKeep m ma a b := fun a b h r u v => ⟨af r (-1) (by omega), fun _ => funext fun j => af r j (by omega)⟩
  have hna := hn.keep (ka lo hi (by omega))
  have hAa := hA.keep (ka alo ahi (by omega)) (by omega)
  have hRa : hRm ma lo hi alo ahi p := ⟨by omega, by omega, by rw [af 26 _ (by omega)]; exact R3, R4, by omega, by omega, by omega, fun i x y => by rw [af (-4) i (by omega)]; exact R8 i x y⟩
  refine And.intro (hna.2.1) ?_
  refine hna.2.2.2 ma (hKeep.rfl ma _ _) _ _ ar alo ahi w (by omega) hAa hRa (fun s v e m1 x fe hv => ?_) (fun c q e m1 fe e1 e2 => ?_)
  · have hA1 := fe.arms hAa
    have xt := hv.tag hA1 (by omega)
    have xb := xt.1
    have f1 := fe.1
    have f2 := fe.2.1
    have n1 := hna.keep (fe.kp (by omega) (by omega))
    have n2 := n1.2.1
    have w39 : m1 1 39 = m 1 39 + 1 := by rw [fe.2.2.1 1 39 (by omega) (by omega) (by omega) (by omega) (by omega), ea, mS_iff, if_pos ⟨rfl, rfl⟩]
    by_cases t0 : s = 0
    · have xv := xt.2.2.1 t0
      refine And.intro (n2) ?_
      refine ct_325 (by omega) xb xt.2.1 (fun _ => ?_) (fun h => absurd xv.1 h)
      refine And.intro (rfl) ?_
      refine And.intro (show -2147483648 ≤ (m1 1 39) - 1 ∧ (m1 1 39) - 1 ≤ 2147483647 by first | omega | (simp only [mS_iff, eq_self, Int.reduceEq, true_and, and_true, false_and, and_false, and_self, ↓reduceIte]; omega) | (simp only [mS_iff, eq_self, Int.reduceEq, true_and, and_true, false_and, and_false, and_self, ↓reduceIte] at *; omega)) ?_
      refine And.intro (rfl) ?_
      rw [ea] at fe
      rw [xv.2]
      exact hQ v (by rw [← t0]; exact e) _ (fr_A.of fe (by omega) (by omega))
    · have xn := xt.2.2.2 t0
      refine And.intro (n2) ?_
      refine ct_325 (by omega) xb xt.2.1 (fun h => absurd h xn) (fun _ => And.intro (by omega) ?_)
      · have xtg := mX_t m1
        have fx := fe.X (t := 63) (k := 3) (by omega) (by omega)
        obtain ⟨mx, ex⟩ : ∃ z, z = mX m1 63 3 1000 := ⟨_, rfl⟩
        rw [← ex] at xtg fx ⊢
        have w40 : mx 1 39 = m 1 39 + 1 := by rw [fx.2.2.1 1 39 (by omega) (by omega) (by omega) (by omega) (by omega), ea, mS_iff, if_pos ⟨rfl, rfl⟩]
        refine And.intro (rfl) ?_
        refine And.intro (show -2147483648 ≤ (mx 1 39) - 1 ∧ (mx 1 39) - 1 ≤ 2147483647 by first | omega | (simp only [mS_iff, eq_self, Int.reduceEq, true_and, and_true, false_and, and_false, and_self, ↓reduceIte]; omega) | (simp only [mS_iff, eq_self, Int.reduceEq, true_and, and_true, false_and, and_false, and_self, ↓reduceIte] at *; omega)) ?_
        refine And.intro (rfl) ?_
        have xt2 : (mS mx 1 39 ((mx 1 39) - 1)) (m1 0 0 + 3) (-1) = 63 := by rw [mS_iff, if_neg (by omega)]; exact xtg
        refine And.intro ⟨by omega, Or.inr xt2⟩ (And.intro rfl ?_)
        rw [xt2]
        rw [ea] at fx
        exact hQc s v e t0 _ _ (fr_A.of fx (by omega) (by omega))
  · have w39 : m1 1 39 = m 1 39 + 1 := by rw [fe.2.2.1 1 39 (by omega) (by omega) (by omega) (by omega) (by omega), ea, mS_iff, if_pos ⟨rfl, rfl⟩]
    have t26 : m1 26 (-1) = 3 := (fe.tag (by omega) (by omega) (by omega)).trans (by rw [af 26 _ (by omega)]; exact R3)
    refine And.intro (rfl) ?_
    refine And.intro (show -2147483648 ≤ (m1 1 39) - 1 ∧ (m1 1 39) - 1 ≤ 2147483647 by first | omega | (simp only [mS_iff, eq_self, Int.reduceEq, true_and, and_true, false_and, and_false, and_self, ↓reduceIte]; omega) | (simp only [mS_iff, eq_self, Int.reduceEq, true_and, and_true, false_and, and_false, and_self, ↓reduceIte] at *; omega)) ?_
    refine And.intro (rfl) ?_
    have xt2 : (mS m1 1 39 ((m1 1 39) - 1)) 26 (-1) = 3 := by rw [mS_iff, if_neg (by omega)]; exact t26
    refine And.intro ⟨by omega, Or.inl xt2⟩ (And.intro rfl ?_)
    rw [xt2]
    rw [ea] at fe
    exact hQe c q e _ (fr_A.of fe (by omega) (by omega)) (by rw [mS_iff, if_neg (by omega)]; exact e1) (by rw [mS_iff, if_neg (by omega)]; exact e2)
theorem fr_A.S {lo hi alo ahi c j v : Int} {m m1 : aM} (h : fr_A lo hi alo ahi c m m1) (hj : j = 40 ∨ j = 33) : fr_A lo hi alo ahi c m (mS m1 1 j v) := ⟨by rw [mS_iff, if_neg (by omega)]; exact h.1, by rw [mS_iff, if_neg (by omega)]; exact h.2.1, fun x i a b c e k => by rw [mS_iff, if_neg (by omega)]; exact h.2.2.1 x i a b c e k, fun i a b => by rw [mS_iff, if_neg (by omega)]; exact h.2.2.2 i a b⟩
theorem ct_133 {d : Nat} {m : aM} {Q : aO → aM → Prop} {i r ar lo hi alo ahi p : Int} {f : aD} {w : Int → Int} (hd : 2 * p + 15 ≤ (d : Int)) (hn : hNd m lo hi r f p) (hA : hArms m alo ahi ar w) (hR : hRm m lo hi alo ahi p) (hrm : m 0 0 + p + 4 ≤ amC ∧ 3 * m 0 1 + 1000 * (p + 4) ≤ 3 * amS) (h39 : 0 ≤ m 1 39 ∧ m 1 39 ≤ 1000) (hc : 0 ≤ i ∧ i < 20) (hri : m 27 i = r) (hQ : ∀ v, f w = .inr (0, v) → ∀ m', fr_A lo hi alo ahi (p + 2) m m' → m' 1 40 = v → Q (.inl (some (aI 0))) m') (hQc : ∀ s v, f w = .inr (s, v) → s ≠ 0 → ∀ m', fr_A lo hi alo ahi (p + 2) m m' → m' 1 33 = m 28 i → Q (.inl (some (aI 2))) m') (hQe : ∀ c q, f w = .inl (c, q) → ∀ m', fr_A lo hi alo ahi (p + 2) m m' → m' 1 33 = q → Q (.inl (some (aI c))) m') : am_wpc am_G am_T d 133 [aR 1, aI i, aR ar] m Q := by
  have hp := hn.2.2.1
  have hr := hn.1
  have hB := hA.basic
  obtain ⟨k, hk⟩ : ∃ k, d = k + 1 := ⟨d - 1, by omega⟩
  have R1 := hR.1
  subst hri
  refine am_in (k := k) rfl (by omega) (fun d hd => ?_)
  refine am_go 400 [] (am_wpc_cm _ _ _) wf_133 ?_
  refine And.intro (rfl) ?_
  refine And.intro (⟨rfl, hc⟩) ?_
  refine And.intro (rfl) ?_
  refine ct_134 (by omega) hn hA hR hrm h39 (fun v e m1 fa => ?_) (fun s v e n m1 y fa => ?_) (fun c q e m1 fa e1 e2 => ?_)
  · refine And.intro (rfl) ?_
    exact hQ v e _ (fa.S (by omega)) (by rw [mS_iff, if_pos ⟨rfl, rfl⟩])
  · have a28 : m1 28 i = m 28 i := fa.2.2.1 28 i (by omega) (by omega) (by omega) (by omega) (by omega)
    refine And.intro (rfl) ?_
    refine And.intro (⟨rfl, hc⟩) ?_
    refine And.intro (rfl) ?_
    exact hQc s v e n _ (fa.S (by omega)) (by rw [mS_iff, if_pos ⟨rfl, rfl⟩]; exact a28)
  · refine And.intro (rfl) ?_
    rw [e1]
    exact hQe c q e _ fa e2
def fr_K (m m' : aM) : Prop := ∀ x j, (x ≠ 41 ∨ j < 57 ∨ 61 < j) → m' x j = m x j
theorem ct_298 {d : Nat} {m : aM} {Q : aO → aM → Prop} {i a lo hi p : Int} {f : aD} {w : Int → Int} (hd : 2 * p + 12 ≤ (d : Int)) (hn : mNd m lo hi (m 69 i) f p) (hA : mRow m a w) (ok : okRow w) (hc : 0 ≤ i ∧ i < 20) (hQ : ∀ v, f w = .inr (0, v) → ∀ m', fr_K m m' → m' 41 58 = v → Q (.inl (some (aI 0))) m') (hQc : ∀ s v, f w = .inr (s, v) → s ≠ 0 → ∀ m', fr_K m m' → m' 41 60 = m 70 i → Q (.inl (some (aI 2))) m') (hQe : ∀ c q, f w = .inl (c, q) → ∀ m', fr_K m m' → m' 41 60 = q → Q (.inl (some (aI c))) m') : am_wpc am_G am_T d 298 [aR 41, aI i, aI a] m Q := by
  obtain ⟨k, hk⟩ : ∃ k, d = k + 1 := ⟨d - 1, by have := hn.2.1; omega⟩
  have hp := hn.2.1
  refine am_in (k := k) rfl (by omega) (fun d hd => ?_)
  refine am_go 400 [] (am_wpc_cm _ _ _) wf_298 ?_
  refine And.intro (rfl) ?_
  refine And.intro (rfl) ?_
  obtain ⟨ma, ea⟩ : ∃ z, z = (mS (mS m 41 61 a) 41 59 0) := ⟨_, rfl⟩
  rw [← ea]
  have af : ∀ x j, (x ≠ 41 ∨ (j ≠ 59 ∧ j ≠ 61)) → ma x j = m x j := fun x j h => by rw [ea, mS_iff, if_neg (by omega), mS_iff, if_neg (by omega)]
  have a59 : ma 41 59 = 0 := by rw [ea, mS_iff, if_pos ⟨rfl, rfl⟩]
  have a61 : ma 41 61 = a := by rw [ea, mS_iff, if_neg (by omega), mS_iff, if_pos ⟨rfl, rfl⟩]
  have hna := hn.keep (m' := ma) (fun x j u v _ _ => af x j (by omega))
  have hAa := hA.keep (m' := ma) (fun j => af 42 j (by omega))
  refine And.intro (rfl) ?_
  refine And.intro (⟨rfl, by omega⟩) ?_
  rw [af 69 i (by omega)]
  refine And.intro (rfl) ?_
  refine hna.2.2.2 ma (mKp.rfl ma _ _) _ _ a w (by omega) hAa ok a61 a59 (fun s v e m1 fz g57 g58 g59 => ?_) (fun c q e m1 fz g59 g1 gq => ?_)
  · have fk : fr_K m m1 := fun x j u => (fz x j (by omega)).trans (af x j (by omega))
    refine And.intro (rfl) ?_
    refine And.intro (fun h => absurd h (by omega)) (fun _ => ?_)
    refine And.intro (rfl) ?_
    refine And.intro (fun h1 => ?_) (fun h1 => ?_)
    · refine And.intro (rfl) ?_
      rw [g59]
      exact hQ v (by rw [show (0 : Int) = s by omega]; exact e) _ fk g58
    · refine And.intro (rfl) ?_
      refine And.intro (rfl) ?_
      refine And.intro (⟨rfl, by omega⟩) ?_
      refine And.intro (rfl) ?_
      refine And.intro (rfl) ?_
      exact hQc s v e (by omega) _ (fun x j u => by rw [mS_iff, if_neg (by omega), mS_iff, if_neg (by omega)]; exact fk x j u) (by rw [mS_iff, if_pos ⟨rfl, rfl⟩, mS_iff, if_neg (by omega)]; exact fk 70 i (by omega))
  · have fk : fr_K m m1 := fun x j u => (fz x j (by omega)).trans (af x j (by omega))
    refine And.intro (rfl) ?_
    refine And.intro (fun _ => ?_) (fun h => absurd h (by omega))
    refine And.intro (rfl) ?_
    rw [g59]
    exact hQe c q e _ fk gq
