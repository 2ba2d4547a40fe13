/-! needs: 76 -/
/-! CONTRACTS: places of members, both; by tools/gen77.py -/
set_option maxRecDepth 100000
theorem bx_all {d : Nat} {m : aM} {Q : aO → aM → Prop} {n x0 x1 y0 y1 : Int} {p : aV} (hn : 1 ≤ n ∧ n ≤ 12) (hb : 0 ≤ x0 ∧ x0 ≤ x1 ∧ x1 ≤ 100 ∧ 0 ≤ y0 ∧ y0 ≤ y1 ∧ y1 ≤ 100) (hC : hCst m) (hQ : ∀ m', fr_2 11 12 m m' → (∀ k, 0 ≤ k → k < n → m' 11 k = s_bx n k x0 x1 ∧ m' 12 k = s_by n k y0 y1) → Q (.inl none) m') : am_WP am_G (am_wpc am_G am_T d) [] cd_86 Q 145 [aR 1, aI n, p, aI x0, aI x1, aI y0, aI y1, aI 1, aI 1, aU, aU, aU, aU] [] m := by
  have : n = 1 ∨ n = 2 ∨ n = 3 ∨ n = 4 ∨ n = 5 ∨ n = 6 ∨ n = 7 ∨ n = 8 ∨ n = 9 ∨ n = 10 ∨ n = 11 ∨ n = 12 := by omega
  rcases this with rfl | rfl | rfl | rfl | rfl | rfl | rfl | rfl | rfl | rfl | rfl | rfl
  · exact bx_1 hb hC hQ
  · exact bx_2 hb hC hQ
  · exact bx_3 hb hC hQ
  · exact bx_4 hb hC hQ
  · exact bx_5 hb hC hQ
  · exact bx_6 hb hC hQ
  · exact bx_7 hb hC hQ
  · exact bx_8 hb hC hQ
  · exact bx_9 hb hC hQ
  · exact bx_10 hb hC hQ
  · exact bx_11 hb hC hQ
  · exact bx_12 hb hC hQ
theorem ct_86 {d : Nat} {m : aM} {Q : aO → aM → Prop} {n p : Int} (hd : 1 ≤ d) (hn : 1 ≤ n ∧ n ≤ 12) (hp : 0 ≤ p ∧ p ≤ 4) (hC : hCst m) (hQ : ∀ m', fr_2 11 12 m m' → (∀ k, 0 ≤ k → k < n → m' 11 k = s_bx n k (s_x0 p) (s_x1 p) ∧ m' 12 k = s_by n k (s_y0 p) (s_y1 p)) → Q (.inl none) m') : am_wpc am_G am_T d 86 [aR 1, aI n, aI p] m Q := by
  have : p = 0 ∨ p = 1 ∨ p = 2 ∨ p = 3 ∨ p = 4 := by omega
  rcases this with rfl | rfl | rfl | rfl | rfl
  · refine am_in rfl hd (fun d hd => ?_)
    refine am_go 400 [145] (am_wpc_cm _ _ _) wf_86 ?_
    refine And.intro (fun _ => ?_) (fun h => absurd h (by decide))
    refine And.intro (fun _ => ?_) (fun h => absurd h (by decide))
    refine And.intro (fun h => absurd h (by decide)) (fun _ => ?_)
    refine And.intro (fun h => absurd h (by decide)) (fun _ => ?_)
    exact bx_all hn (by decide) hC hQ
  · refine am_in rfl hd (fun d hd => ?_)
    refine am_go 400 [145] (am_wpc_cm _ _ _) wf_86 ?_
    refine And.intro (fun h => absurd h (by decide)) (fun _ => ?_)
    refine And.intro (fun h => absurd h (by decide)) (fun _ => ?_)
    refine And.intro (fun h => absurd h (by decide)) (fun _ => ?_)
    refine And.intro (fun h => absurd h (by decide)) (fun _ => ?_)
    refine And.intro (fun _ => ?_) (fun h => absurd h (by decide))
    refine And.intro (fun h => absurd h (by decide)) (fun _ => ?_)
    refine And.intro (fun _ => ?_) (fun h => absurd h (by decide))
    refine And.intro (fun h => absurd h (by decide)) (fun _ => ?_)
    exact bx_all hn (by decide) hC hQ
  · refine am_in rfl hd (fun d hd => ?_)
    refine am_go 400 [145] (am_wpc_cm _ _ _) wf_86 ?_
    refine And.intro (fun h => absurd h (by decide)) (fun _ => ?_)
    refine And.intro (fun _ => ?_) (fun h => absurd h (by decide))
    refine And.intro (fun h => absurd h (by decide)) (fun _ => ?_)
    refine And.intro (fun h => absurd h (by decide)) (fun _ => ?_)
    refine And.intro (fun _ => ?_) (fun h => absurd h (by decide))
    refine And.intro (fun h => absurd h (by decide)) (fun _ => ?_)
    refine And.intro (fun _ => ?_) (fun h => absurd h (by decide))
    refine And.intro (fun _ => ?_) (fun h => absurd h (by decide))
    refine And.intro (fun h => absurd h (by decide)) (fun _ => ?_)
    refine And.intro (fun _ => ?_) (fun h => absurd h (by decide))
    refine And.intro (fun _ => ?_) (fun h => absurd h (by decide))
    refine And.intro (fun h => absurd h (by decide)) (fun _ => ?_)
    exact bx_all hn (by decide) hC hQ
  · refine am_in rfl hd (fun d hd => ?_)
    refine am_go 400 [145] (am_wpc_cm _ _ _) wf_86 ?_
    refine And.intro (fun h => absurd h (by decide)) (fun _ => ?_)
    refine And.intro (fun _ => ?_) (fun h => absurd h (by decide))
    refine And.intro (fun _ => ?_) (fun h => absurd h (by decide))
    refine And.intro (fun h => absurd h (by decide)) (fun _ => ?_)
    refine And.intro (fun h => absurd h (by decide)) (fun _ => ?_)
    refine And.intro (fun _ => ?_) (fun h => absurd h (by decide))
    refine And.intro (fun _ => ?_) (fun h => absurd h (by decide))
    refine And.intro (fun h => absurd h (by decide)) (fun _ => ?_)
    refine And.intro (fun _ => ?_) (fun h => absurd h (by decide))
    refine And.intro (fun _ => ?_) (fun h => absurd h (by decide))
    refine And.intro (fun _ => ?_) (fun h => absurd h (by decide))
    refine And.intro (fun _ => ?_) (fun h => absurd h (by decide))
    refine And.intro (fun _ => ?_) (fun h => absurd h (by decide))
    refine And.intro (fun _ => ?_) (fun h => absurd h (by decide))
    exact bx_all hn (by decide) hC hQ
  · refine am_in rfl hd (fun d hd => ?_)
    refine am_go 400 [145] (am_wpc_cm _ _ _) wf_86 ?_
    refine And.intro (fun h => absurd h (by decide)) (fun _ => ?_)
    refine And.intro (fun _ => ?_) (fun h => absurd h (by decide))
    refine And.intro (fun _ => ?_) (fun h => absurd h (by decide))
    refine And.intro (fun _ => ?_) (fun h => absurd h (by decide))
    refine And.intro (fun h => absurd h (by decide)) (fun _ => ?_)
    refine And.intro (fun _ => ?_) (fun h => absurd h (by decide))
    refine And.intro (fun _ => ?_) (fun h => absurd h (by decide))
    refine And.intro (fun _ => ?_) (fun h => absurd h (by decide))
    refine And.intro (fun _ => ?_) (fun h => absurd h (by decide))
    refine And.intro (fun _ => ?_) (fun h => absurd h (by decide))
    refine And.intro (fun _ => ?_) (fun h => absurd h (by decide))
    refine And.intro (fun _ => ?_) (fun h => absurd h (by decide))
    refine And.intro (fun _ => ?_) (fun h => absurd h (by decide))
    refine And.intro (fun _ => ?_) (fun h => absurd h (by decide))
    exact bx_all hn (by decide) hC hQ
theorem hLay.grp {m : aM} {lo hi l : Int} {w : Int → Int} {b : Int} (h : hLay m lo hi l w b) (hg : m l 2 ≠ 0) : (lo ≤ m l 2 ∧ m l 2 ≤ hi ∧ m (m l 2) (-1) = 10 ∧ okGrp w b ∧ m (m l 2) 0 = w (b + 5) ∧ m (m l 2) 1 = w (b + 6) ∧ m (m l 2) 2 = w (b + 7) ∧ m (m l 2) 3 = w (b + 8) ∧ hTold m lo hi (m (m l 2) 4)) := h.2.2.2.2.2.1.resolve_left (fun q => hg q.1)
theorem hLay.ord {m : aM} {lo hi l : Int} {w : Int → Int} {b : Int} (h : hLay m lo hi l w b) (hg : m l 1 ≠ 0) : (lo ≤ m l 1 ∧ m l 1 ≤ hi ∧ m (m l 1) (-1) = 8 ∧ okOrd w b ∧ m (m l 1) 0 = w (b + 1) ∧ m (m l 1) 1 = w (b + 2) ∧ m (m l 1) 2 = w (b + 3) ∧ hTold m lo hi (m (m l 1) 3)) := h.2.2.2.2.1.resolve_left (fun q => hg q.1)
theorem fr_2.hK {a b lo hi : Int} {m m' : aM} (h : fr_2 a b m m') (ha : a < 29 ∧ b < 29 ∧ 29 ≤ lo) : hKeep m m' lo hi := fun r x y => by
  have := h r (by omega) (by omega)
  exact ⟨by rw [this], fun _ => this⟩
theorem ct_85 {d : Nat} {m : aM} {Q : aO → aM → Prop} {l lo hi b : Int} {w : Int → Int} (hd : 2 ≤ d) (hlo : 29 ≤ lo) (hC : hCst m) (hL : hLay m lo hi l w b) (hg : m l 2 ≠ 0) (hQ : ∀ m', fr_2 11 12 m m' → (∀ k, 0 ≤ k → k < w (b + 5) → m' 11 k = s_px w b k ∧ m' 12 k = s_py w b k) → Q (.inl none) m') : am_wpc am_G am_T d 85 [aR 1, aR l] m Q := by
  obtain ⟨g1, g2, g3, ⟨u1, u2, u3, u4, u5, u6, u7, u8, u9, u10, u11, u12, -⟩, g5, -⟩ := hL.grp hg
  obtain ⟨l1, l2, -, -, -, -, l7, l8, l9, -⟩ := id hL
  refine am_in rfl hd (fun d hd => ?_)
  have K28 : ∀ (N : Nat), ∀ (k : Int) (x : aV), ∀ (m2 : aM), (12 - k).toNat = N → (0 ≤ k ∧ k ≤ w (b + 5) ∧ w (b + 4) = 3) → (fr_2 11 12 m m2) → (∀ j, 0 ≤ j → j < k → m2 11 j = s_ox (w (b + 1)) (w (b + 5)) j ∧ m2 12 j = s_oy (w (b + 1)) (w (b + 5)) j) → am_WP am_G (am_wpc am_G am_T d) [] cd_85 Q 28 [aR 1, aR l, aI (w (b + 5)), aI k, x] [] m2 := by
    intro N
    induction N using Nat.strongRecOn with
    | _ N ih28 =>
      intro k x m2 hN i0 fr i1
      have f1 := fr.hK (lo := lo) (hi := hi) ⟨by omega, by omega, hlo⟩
      have hL2 := hL.keep f1
      obtain ⟨c1, c2, -, -, -, -, c7, c8, -, -⟩ := id hL2
      have el : m2 l = m l := fr l (by omega) (by omega)
      obtain ⟨o1, o2, o3, ⟨v1, v2, v3, v4, v5, v6⟩, o5, -⟩ := hL.ord (by have := l9; have := hL.2.2.2.2.1; unfold hOrd noOrd at this; omega)
      have e1 : m2 l 1 = m l 1 := by rw [el]
      have e2 : m2 (m l 1) = m (m l 1) := fr _ (by omega) (by omega)
      have o3b : m2 (m2 l 1) (-1) = 8 := by rw [e1, e2]; exact o3
      have o5b : m2 (m2 l 1) 0 = w (b + 1) := by rw [e1, e2]; exact o5
      refine am_go 400 [28] (am_wpc_cm _ _ _) wf_85 ?_
      refine And.intro (fun h1 => ?_) (fun h1 => ?_)
      · refine hQ _ fr (fun j j0 j1 => ?_)
        unfold s_px s_py
        rw [if_pos i0.2.2, if_pos i0.2.2]
        exact i1 j j0 (by omega)
      · refine And.intro (show -2147483648 ≤ 2 * k ∧ 2 * k ≤ 2147483647 by first | omega | (simp only [mS_iff, eq_self, Int.reduceEq, true_and, and_true, false_and, and_false, and_self, ↓reduceIte]; omega) | (simp only [mS_iff, eq_self, Int.reduceEq, true_and, and_true, false_and, and_false, and_self, ↓reduceIte] at *; omega)) ?_
        refine And.intro (show -2147483648 ≤ (2 * k) + 1 ∧ (2 * k) + 1 ≤ 2147483647 by first | omega | (simp only [mS_iff, eq_self, Int.reduceEq, true_and, and_true, false_and, and_false, and_self, ↓reduceIte]; omega) | (simp only [mS_iff, eq_self, Int.reduceEq, true_and, and_true, false_and, and_false, and_self, ↓reduceIte] at *; omega)) ?_
        refine And.intro (show -2147483648 ≤ ((2 * k) + 1) * 24 ∧ ((2 * k) + 1) * 24 ≤ 2147483647 by first | omega | (simp only [mS_iff, eq_self, Int.reduceEq, true_and, and_true, false_and, and_false, and_self, ↓reduceIte]; omega) | (simp only [mS_iff, eq_self, Int.reduceEq, true_and, and_true, false_and, and_false, and_self, ↓reduceIte] at *; omega)) ?_
        refine And.intro (show 0 < (w (b + 5)) by first | omega | (simp only [mS_iff, eq_self, Int.reduceEq, true_and, and_true, false_and, and_false, and_self, ↓reduceIte]; omega) | (simp only [mS_iff, eq_self, Int.reduceEq, true_and, and_true, false_and, and_false, and_self, ↓reduceIte] at *; omega)) ?_
        have h2 : (((2 * k) + 1) * 24).tdiv (w (b + 5)) = (((2 * k) + 1) * 24) / (w (b + 5)) := Int.tdiv_eq_ediv_of_nonneg (by omega)
        have ab1 := Int.ediv_nonneg (a := (2 * k + 1) * 24) (b := w (b + 5)) (by omega) (by omega)
        have ab2 := Int.ediv_le_self (a := (2 * k + 1) * 24) (w (b + 5)) (by omega)
        refine And.intro (show (m2 l (-1)) = 7 by first | assumption | omega | (simp only [mS_iff, eq_self, Int.reduceEq, true_and, and_true, false_and, and_false, and_self, ↓reduceIte]; omega) | (simp only [mS_iff, eq_self, Int.reduceEq, true_and, and_true, false_and, and_false, and_self, ↓reduceIte] at *; omega)) ?_
        refine And.intro (show (m2 (m2 l 1) (-1)) = 8 by first | assumption | omega | (simp only [mS_iff, eq_self, Int.reduceEq, true_and, and_true, false_and, and_false, and_self, ↓reduceIte]; omega) | (simp only [mS_iff, eq_self, Int.reduceEq, true_and, and_true, false_and, and_false, and_self, ↓reduceIte] at *; omega)) ?_
        refine And.intro rfl ?_
        refine And.intro (And.intro (fun h3 => ?_) (And.intro (fun h3 => ?_) (And.intro (fun h3 => ?_) (And.intro (fun h3 => ?_) (And.intro (fun h3 => ?_) (And.intro (fun h3 => ?_) (And.intro (fun h3 => ?_) (True.intro)))))))) (fun h3 => ?_)
        · replace h3 : (m2 (m2 l 1) 0) = 1 := h3
          refine And.intro (rfl) ?_
          refine And.intro (⟨rfl, by first | omega | (simp only [mS_iff, eq_self, Int.reduceEq, true_and, and_true, false_and, and_false, and_self, ↓reduceIte]; omega) | (simp only [mS_iff, eq_self, Int.reduceEq, true_and, and_true, false_and, and_false, and_self, ↓reduceIte] at *; omega)⟩) ?_
          refine And.intro (rfl) ?_
          refine And.intro (⟨rfl, by first | omega | (simp only [mS_iff, eq_self, Int.reduceEq, true_and, and_true, false_and, and_false, and_self, ↓reduceIte]; omega) | (simp only [mS_iff, eq_self, Int.reduceEq, true_and, and_true, false_and, and_false, and_self, ↓reduceIte] at *; omega)⟩) ?_
          refine And.intro (show -2147483648 ≤ k + 1 ∧ k + 1 ≤ 2147483647 by first | omega | (simp only [mS_iff, eq_self, Int.reduceEq, true_and, and_true, false_and, and_false, and_self, ↓reduceIte]; omega) | (simp only [mS_iff, eq_self, Int.reduceEq, true_and, and_true, false_and, and_false, and_self, ↓reduceIte] at *; omega)) ?_
          refine ih28 _ ?_ _ _ _ (Eq.refl _) ?_ ?_ ?_
          · omega
          · first | omega | (simp only [mS_iff, eq_self, Int.reduceEq, true_and, and_true, false_and, and_false, and_self, ↓reduceIte]; omega) | (simp only [mS_iff, eq_self, Int.reduceEq, true_and, and_true, false_and, and_false, and_self, ↓reduceIte] at *; omega)
          · exact (fr.S (by decide)).S (by decide)
          · intro j j0 j1
            by_cases e : j = k
            · subst e
              refine ⟨?_, ?_⟩
              · rw [mS_a _ _ _ _ (by omega), mS_eq]; unfold s_ox; rw [if_pos (by omega)]
              · rw [mS_eq]; unfold s_oy; rw [if_pos (by omega)]
            · refine ⟨?_, ?_⟩
              · rw [mS_a _ _ _ _ (by omega), mS_i _ _ _ _ e]; exact (i1 j j0 (by omega)).1
              · rw [mS_i _ _ _ _ e, mS_a _ _ _ _ (by omega)]; exact (i1 j j0 (by omega)).2
        · replace h3 : (m2 (m2 l 1) 0) = 2 := h3
          refine And.intro (rfl) ?_
          refine And.intro (⟨rfl, by first | omega | (simp only [mS_iff, eq_self, Int.reduceEq, true_and, and_true, false_and, and_false, and_self, ↓reduceIte]; omega) | (simp only [mS_iff, eq_self, Int.reduceEq, true_and, and_true, false_and, and_false, and_self, ↓reduceIte] at *; omega)⟩) ?_
          refine And.intro (rfl) ?_
          refine And.intro (show -2147483648 ≤ 5 * ((((2 * k) + 1) * 24).tdiv (w (b + 5))) ∧ 5 * ((((2 * k) + 1) * 24).tdiv (w (b + 5))) ≤ 2147483647 by first | omega | (simp only [mS_iff, eq_self, Int.reduceEq, true_and, and_true, false_and, and_false, and_self, ↓reduceIte]; omega) | (simp only [mS_iff, eq_self, Int.reduceEq, true_and, and_true, false_and, and_false, and_self, ↓reduceIte] at *; omega)) ?_
          refine And.intro (show 0 < 4 by first | omega | (simp only [mS_iff, eq_self, Int.reduceEq, true_and, and_true, false_and, and_false, and_self, ↓reduceIte]; omega) | (simp only [mS_iff, eq_self, Int.reduceEq, true_and, and_true, false_and, and_false, and_self, ↓reduceIte] at *; omega)) ?_
          have h4 : (5 * ((((2 * k) + 1) * 24).tdiv (w (b + 5)))).tdiv 4 = (5 * ((((2 * k) + 1) * 24).tdiv (w (b + 5)))) / 4 := Int.tdiv_eq_ediv_of_nonneg (by omega)
          refine And.intro (⟨rfl, by first | omega | (simp only [mS_iff, eq_self, Int.reduceEq, true_and, and_true, false_and, and_false, and_self, ↓reduceIte]; omega) | (simp only [mS_iff, eq_self, Int.reduceEq, true_and, and_true, false_and, and_false, and_self, ↓reduceIte] at *; omega)⟩) ?_
          refine And.intro (show -2147483648 ≤ k + 1 ∧ k + 1 ≤ 2147483647 by first | omega | (simp only [mS_iff, eq_self, Int.reduceEq, true_and, and_true, false_and, and_false, and_self, ↓reduceIte]; omega) | (simp only [mS_iff, eq_self, Int.reduceEq, true_and, and_true, false_and, and_false, and_self, ↓reduceIte] at *; omega)) ?_
          refine ih28 _ ?_ _ _ _ (Eq.refl _) ?_ ?_ ?_
          · omega
          · first | omega | (simp only [mS_iff, eq_self, Int.reduceEq, true_and, and_true, false_and, and_false, and_self, ↓reduceIte]; omega) | (simp only [mS_iff, eq_self, Int.reduceEq, true_and, and_true, false_and, and_false, and_self, ↓reduceIte] at *; omega)
          · exact (fr.S (by decide)).S (by decide)
          · intro j j0 j1
            by_cases e : j = k
            · subst e
              refine ⟨?_, ?_⟩
              · rw [mS_a _ _ _ _ (by omega), mS_eq]; unfold s_ox; rw [if_pos (by omega)]
              · rw [mS_eq]; unfold s_oy; rw [if_neg (by omega), if_pos (by omega)]
            · refine ⟨?_, ?_⟩
              · rw [mS_a _ _ _ _ (by omega), mS_i _ _ _ _ e]; exact (i1 j j0 (by omega)).1
              · rw [mS_i _ _ _ _ e, mS_a _ _ _ _ (by omega)]; exact (i1 j j0 (by omega)).2
        · replace h3 : (m2 (m2 l 1) 0) = 3 := h3
          refine And.intro (rfl) ?_
          refine And.intro (⟨rfl, by first | omega | (simp only [mS_iff, eq_self, Int.reduceEq, true_and, and_true, false_and, and_false, and_self, ↓reduceIte]; omega) | (simp only [mS_iff, eq_self, Int.reduceEq, true_and, and_true, false_and, and_false, and_self, ↓reduceIte] at *; omega)⟩) ?_
          refine And.intro (rfl) ?_
          refine And.intro (show -2147483648 ≤ 2 * k ∧ 2 * k ≤ 2147483647 by first | omega | (simp only [mS_iff, eq_self, Int.reduceEq, true_and, and_true, false_and, and_false, and_self, ↓reduceIte]; omega) | (simp only [mS_iff, eq_self, Int.reduceEq, true_and, and_true, false_and, and_false, and_self, ↓reduceIte] at *; omega)) ?_
          refine And.intro (show -2147483648 ≤ (2 * k) + 1 ∧ (2 * k) + 1 ≤ 2147483647 by first | omega | (simp only [mS_iff, eq_self, Int.reduceEq, true_and, and_true, false_and, and_false, and_self, ↓reduceIte]; omega) | (simp only [mS_iff, eq_self, Int.reduceEq, true_and, and_true, false_and, and_false, and_self, ↓reduceIte] at *; omega)) ?_
          refine And.intro (show -2147483648 ≤ ((2 * k) + 1) * 30 ∧ ((2 * k) + 1) * 30 ≤ 2147483647 by first | omega | (simp only [mS_iff, eq_self, Int.reduceEq, true_and, and_true, false_and, and_false, and_self, ↓reduceIte]; omega) | (simp only [mS_iff, eq_self, Int.reduceEq, true_and, and_true, false_and, and_false, and_self, ↓reduceIte] at *; omega)) ?_
          refine And.intro (show 0 < (w (b + 5)) by first | omega | (simp only [mS_iff, eq_self, Int.reduceEq, true_and, and_true, false_and, and_false, and_self, ↓reduceIte]; omega) | (simp only [mS_iff, eq_self, Int.reduceEq, true_and, and_true, false_and, and_false, and_self, ↓reduceIte] at *; omega)) ?_
          have h5 : (((2 * k) + 1) * 30).tdiv (w (b + 5)) = (((2 * k) + 1) * 30) / (w (b + 5)) := Int.tdiv_eq_ediv_of_nonneg (by omega)
          refine And.intro (⟨rfl, by first | omega | (simp only [mS_iff, eq_self, Int.reduceEq, true_and, and_true, false_and, and_false, and_self, ↓reduceIte]; omega) | (simp only [mS_iff, eq_self, Int.reduceEq, true_and, and_true, false_and, and_false, and_self, ↓reduceIte] at *; omega)⟩) ?_
          refine And.intro (show -2147483648 ≤ k + 1 ∧ k + 1 ≤ 2147483647 by first | omega | (simp only [mS_iff, eq_self, Int.reduceEq, true_and, and_true, false_and, and_false, and_self, ↓reduceIte]; omega) | (simp only [mS_iff, eq_self, Int.reduceEq, true_and, and_true, false_and, and_false, and_self, ↓reduceIte] at *; omega)) ?_
          refine ih28 _ ?_ _ _ _ (Eq.refl _) ?_ ?_ ?_
          · omega
          · first | omega | (simp only [mS_iff, eq_self, Int.reduceEq, true_and, and_true, false_and, and_false, and_self, ↓reduceIte]; omega) | (simp only [mS_iff, eq_self, Int.reduceEq, true_and, and_true, false_and, and_false, and_self, ↓reduceIte] at *; omega)
          · exact (fr.S (by decide)).S (by decide)
          · intro j j0 j1
            by_cases e : j = k
            · subst e
              refine ⟨?_, ?_⟩
              · rw [mS_a _ _ _ _ (by omega), mS_eq]; unfold s_ox; rw [if_neg (by omega)]
              · rw [mS_eq]; unfold s_oy; rw [if_neg (by omega), if_neg (by omega), if_neg (by omega)]
            · refine ⟨?_, ?_⟩
              · rw [mS_a _ _ _ _ (by omega), mS_i _ _ _ _ e]; exact (i1 j j0 (by omega)).1
              · rw [mS_i _ _ _ _ e, mS_a _ _ _ _ (by omega)]; exact (i1 j j0 (by omega)).2
        · replace h3 : (m2 (m2 l 1) 0) = 4 := h3
          refine And.intro (rfl) ?_
          refine And.intro (⟨rfl, by first | omega | (simp only [mS_iff, eq_self, Int.reduceEq, true_and, and_true, false_and, and_false, and_self, ↓reduceIte]; omega) | (simp only [mS_iff, eq_self, Int.reduceEq, true_and, and_true, false_and, and_false, and_self, ↓reduceIte] at *; omega)⟩) ?_
          refine And.intro (rfl) ?_
          refine And.intro (show -2147483648 ≤ 2 * k ∧ 2 * k ≤ 2147483647 by first | omega | (simp only [mS_iff, eq_self, Int.reduceEq, true_and, and_true, false_and, and_false, and_self, ↓reduceIte]; omega) | (simp only [mS_iff, eq_self, Int.reduceEq, true_and, and_true, false_and, and_false, and_self, ↓reduceIte] at *; omega)) ?_
          refine And.intro (show -2147483648 ≤ (2 * k) + 1 ∧ (2 * k) + 1 ≤ 2147483647 by first | omega | (simp only [mS_iff, eq_self, Int.reduceEq, true_and, and_true, false_and, and_false, and_self, ↓reduceIte]; omega) | (simp only [mS_iff, eq_self, Int.reduceEq, true_and, and_true, false_and, and_false, and_self, ↓reduceIte] at *; omega)) ?_
          refine And.intro (show -2147483648 ≤ ((2 * k) + 1) * 30 ∧ ((2 * k) + 1) * 30 ≤ 2147483647 by first | omega | (simp only [mS_iff, eq_self, Int.reduceEq, true_and, and_true, false_and, and_false, and_self, ↓reduceIte]; omega) | (simp only [mS_iff, eq_self, Int.reduceEq, true_and, and_true, false_and, and_false, and_self, ↓reduceIte] at *; omega)) ?_
          refine And.intro (show 0 < (w (b + 5)) by first | omega | (simp only [mS_iff, eq_self, Int.reduceEq, true_and, and_true, false_and, and_false, and_self, ↓reduceIte]; omega) | (simp only [mS_iff, eq_self, Int.reduceEq, true_and, and_true, false_and, and_false, and_self, ↓reduceIte] at *; omega)) ?_
          have h6 : (((2 * k) + 1) * 30).tdiv (w (b + 5)) = (((2 * k) + 1) * 30) / (w (b + 5)) := Int.tdiv_eq_ediv_of_nonneg (by omega)
          refine And.intro (⟨rfl, by first | omega | (simp only [mS_iff, eq_self, Int.reduceEq, true_and, and_true, false_and, and_false, and_self, ↓reduceIte]; omega) | (simp only [mS_iff, eq_self, Int.reduceEq, true_and, and_true, false_and, and_false, and_self, ↓reduceIte] at *; omega)⟩) ?_
          refine And.intro (show -2147483648 ≤ k + 1 ∧ k + 1 ≤ 2147483647 by first | omega | (simp only [mS_iff, eq_self, Int.reduceEq, true_and, and_true, false_and, and_false, and_self, ↓reduceIte]; omega) | (simp only [mS_iff, eq_self, Int.reduceEq, true_and, and_true, false_and, and_false, and_self, ↓reduceIte] at *; omega)) ?_
          refine ih28 _ ?_ _ _ _ (Eq.refl _) ?_ ?_ ?_
          · omega
          · first | omega | (simp only [mS_iff, eq_self, Int.reduceEq, true_and, and_true, false_and, and_false, and_self, ↓reduceIte]; omega) | (simp only [mS_iff, eq_self, Int.reduceEq, true_and, and_true, false_and, and_false, and_self, ↓reduceIte] at *; omega)
          · exact (fr.S (by decide)).S (by decide)
          · intro j j0 j1
            by_cases e : j = k
            · subst e
              refine ⟨?_, ?_⟩
              · rw [mS_a _ _ _ _ (by omega), mS_eq]; unfold s_ox; rw [if_neg (by omega)]
              · rw [mS_eq]; unfold s_oy; rw [if_neg (by omega), if_neg (by omega), if_neg (by omega)]
            · refine ⟨?_, ?_⟩
              · rw [mS_a _ _ _ _ (by omega), mS_i _ _ _ _ e]; exact (i1 j j0 (by omega)).1
              · rw [mS_i _ _ _ _ e, mS_a _ _ _ _ (by omega)]; exact (i1 j j0 (by omega)).2
        · replace h3 : (m2 (m2 l 1) 0) = 5 := h3
          refine And.intro (rfl) ?_
          refine And.intro (⟨rfl, by first | omega | (simp only [mS_iff, eq_self, Int.reduceEq, true_and, and_true, false_and, and_false, and_self, ↓reduceIte]; omega) | (simp only [mS_iff, eq_self, Int.reduceEq, true_and, and_true, false_and, and_false, and_self, ↓reduceIte] at *; omega)⟩) ?_
          refine And.intro (rfl) ?_
          refine And.intro (show -2147483648 ≤ 2 * k ∧ 2 * k ≤ 2147483647 by first | omega | (simp only [mS_iff, eq_self, Int.reduceEq, true_and, and_true, false_and, and_false, and_self, ↓reduceIte]; omega) | (simp only [mS_iff, eq_self, Int.reduceEq, true_and, and_true, false_and, and_false, and_self, ↓reduceIte] at *; omega)) ?_
          refine And.intro (show -2147483648 ≤ (2 * k) + 1 ∧ (2 * k) + 1 ≤ 2147483647 by first | omega | (simp only [mS_iff, eq_self, Int.reduceEq, true_and, and_true, false_and, and_false, and_self, ↓reduceIte]; omega) | (simp only [mS_iff, eq_self, Int.reduceEq, true_and, and_true, false_and, and_false, and_self, ↓reduceIte] at *; omega)) ?_
          refine And.intro (show -2147483648 ≤ ((2 * k) + 1) * 30 ∧ ((2 * k) + 1) * 30 ≤ 2147483647 by first | omega | (simp only [mS_iff, eq_self, Int.reduceEq, true_and, and_true, false_and, and_false, and_self, ↓reduceIte]; omega) | (simp only [mS_iff, eq_self, Int.reduceEq, true_and, and_true, false_and, and_false, and_self, ↓reduceIte] at *; omega)) ?_
          refine And.intro (show 0 < (w (b + 5)) by first | omega | (simp only [mS_iff, eq_self, Int.reduceEq, true_and, and_true, false_and, and_false, and_self, ↓reduceIte]; omega) | (simp only [mS_iff, eq_self, Int.reduceEq, true_and, and_true, false_and, and_false, and_self, ↓reduceIte] at *; omega)) ?_
          have h7 : (((2 * k) + 1) * 30).tdiv (w (b + 5)) = (((2 * k) + 1) * 30) / (w (b + 5)) := Int.tdiv_eq_ediv_of_nonneg (by omega)
          refine And.intro (⟨rfl, by first | omega | (simp only [mS_iff, eq_self, Int.reduceEq, true_and, and_true, false_and, and_false, and_self, ↓reduceIte]; omega) | (simp only [mS_iff, eq_self, Int.reduceEq, true_and, and_true, false_and, and_false, and_self, ↓reduceIte] at *; omega)⟩) ?_
          refine And.intro (show -2147483648 ≤ k + 1 ∧ k + 1 ≤ 2147483647 by first | omega | (simp only [mS_iff, eq_self, Int.reduceEq, true_and, and_true, false_and, and_false, and_self, ↓reduceIte]; omega) | (simp only [mS_iff, eq_self, Int.reduceEq, true_and, and_true, false_and, and_false, and_self, ↓reduceIte] at *; omega)) ?_
          refine ih28 _ ?_ _ _ _ (Eq.refl _) ?_ ?_ ?_
          · omega
          · first | omega | (simp only [mS_iff, eq_self, Int.reduceEq, true_and, and_true, false_and, and_false, and_self, ↓reduceIte]; omega) | (simp only [mS_iff, eq_self, Int.reduceEq, true_and, and_true, false_and, and_false, and_self, ↓reduceIte] at *; omega)
          · exact (fr.S (by decide)).S (by decide)
          · intro j j0 j1
            by_cases e : j = k
            · subst e
              refine ⟨?_, ?_⟩
              · rw [mS_a _ _ _ _ (by omega), mS_eq]; unfold s_ox; rw [if_neg (by omega)]
              · rw [mS_eq]; unfold s_oy; rw [if_neg (by omega), if_neg (by omega), if_neg (by omega)]
            · refine ⟨?_, ?_⟩
              · rw [mS_a _ _ _ _ (by omega), mS_i _ _ _ _ e]; exact (i1 j j0 (by omega)).1
              · rw [mS_i _ _ _ _ e, mS_a _ _ _ _ (by omega)]; exact (i1 j j0 (by omega)).2
        · replace h3 : (m2 (m2 l 1) 0) = 6 := h3
          refine And.intro (rfl) ?_
          refine And.intro (⟨rfl, by first | omega | (simp only [mS_iff, eq_self, Int.reduceEq, true_and, and_true, false_and, and_false, and_self, ↓reduceIte]; omega) | (simp only [mS_iff, eq_self, Int.reduceEq, true_and, and_true, false_and, and_false, and_self, ↓reduceIte] at *; omega)⟩) ?_
          refine And.intro (rfl) ?_
          refine And.intro (⟨rfl, by first | omega | (simp only [mS_iff, eq_self, Int.reduceEq, true_and, and_true, false_and, and_false, and_self, ↓reduceIte]; omega) | (simp only [mS_iff, eq_self, Int.reduceEq, true_and, and_true, false_and, and_false, and_self, ↓reduceIte] at *; omega)⟩) ?_
          refine And.intro (show -2147483648 ≤ k + 1 ∧ k + 1 ≤ 2147483647 by first | omega | (simp only [mS_iff, eq_self, Int.reduceEq, true_and, and_true, false_and, and_false, and_self, ↓reduceIte]; omega) | (simp only [mS_iff, eq_self, Int.reduceEq, true_and, and_true, false_and, and_false, and_self, ↓reduceIte] at *; omega)) ?_
          refine ih28 _ ?_ _ _ _ (Eq.refl _) ?_ ?_ ?_
          · omega
          · first | omega | (simp only [mS_iff, eq_self, Int.reduceEq, true_and, and_true, false_and, and_false, and_self, ↓reduceIte]; omega) | (simp only [mS_iff, eq_self, Int.reduceEq, true_and, and_true, false_and, and_false, and_self, ↓reduceIte] at *; omega)
          · exact (fr.S (by decide)).S (by decide)
          · intro j j0 j1
            by_cases e : j = k
            · subst e
              refine ⟨?_, ?_⟩
              · rw [mS_a _ _ _ _ (by omega), mS_eq]; unfold s_ox; rw [if_pos (by omega)]
              · rw [mS_eq]; unfold s_oy; rw [if_neg (by omega), if_neg (by omega), if_pos (by omega)]
            · refine ⟨?_, ?_⟩
              · rw [mS_a _ _ _ _ (by omega), mS_i _ _ _ _ e]; exact (i1 j j0 (by omega)).1
              · rw [mS_i _ _ _ _ e, mS_a _ _ _ _ (by omega)]; exact (i1 j j0 (by omega)).2
        · replace h3 : (m2 (m2 l 1) 0) = 7 := h3
          refine And.intro (rfl) ?_
          refine And.intro (⟨rfl, by first | omega | (simp only [mS_iff, eq_self, Int.reduceEq, true_and, and_true, false_and, and_false, and_self, ↓reduceIte]; omega) | (simp only [mS_iff, eq_self, Int.reduceEq, true_and, and_true, false_and, and_false, and_self, ↓reduceIte] at *; omega)⟩) ?_
          refine And.intro (rfl) ?_
          refine And.intro (⟨rfl, by first | omega | (simp only [mS_iff, eq_self, Int.reduceEq, true_and, and_true, false_and, and_false, and_self, ↓reduceIte]; omega) | (simp only [mS_iff, eq_self, Int.reduceEq, true_and, and_true, false_and, and_false, and_self, ↓reduceIte] at *; omega)⟩) ?_
          refine And.intro (show -2147483648 ≤ k + 1 ∧ k + 1 ≤ 2147483647 by first | omega | (simp only [mS_iff, eq_self, Int.reduceEq, true_and, and_true, false_and, and_false, and_self, ↓reduceIte]; omega) | (simp only [mS_iff, eq_self, Int.reduceEq, true_and, and_true, false_and, and_false, and_self, ↓reduceIte] at *; omega)) ?_
          refine ih28 _ ?_ _ _ _ (Eq.refl _) ?_ ?_ ?_
          · omega
          · first | omega | (simp only [mS_iff, eq_self, Int.reduceEq, true_and, and_true, false_and, and_false, and_self, ↓reduceIte]; omega) | (simp only [mS_iff, eq_self, Int.reduceEq, true_and, and_true, false_and, and_false, and_self, ↓reduceIte] at *; omega)
          · exact (fr.S (by decide)).S (by decide)
          · intro j j0 j1
            by_cases e : j = k
            · subst e
              refine ⟨?_, ?_⟩
              · rw [mS_a _ _ _ _ (by omega), mS_eq]; unfold s_ox; rw [if_pos (by omega)]
              · rw [mS_eq]; unfold s_oy; rw [if_pos (by omega)]
            · refine ⟨?_, ?_⟩
              · rw [mS_a _ _ _ _ (by omega), mS_i _ _ _ _ e]; exact (i1 j j0 (by omega)).1
              · rw [mS_i _ _ _ _ e, mS_a _ _ _ _ (by omega)]; exact (i1 j j0 (by omega)).2
        · refine And.intro (rfl) ?_
          refine And.intro (⟨rfl, by first | omega | (simp only [mS_iff, eq_self, Int.reduceEq, true_and, and_true, false_and, and_false, and_self, ↓reduceIte]; omega) | (simp only [mS_iff, eq_self, Int.reduceEq, true_and, and_true, false_and, and_false, and_self, ↓reduceIte] at *; omega)⟩) ?_
          refine And.intro (rfl) ?_
          refine And.intro (show -2147483648 ≤ 2 * k ∧ 2 * k ≤ 2147483647 by first | omega | (simp only [mS_iff, eq_self, Int.reduceEq, true_and, and_true, false_and, and_false, and_self, ↓reduceIte]; omega) | (simp only [mS_iff, eq_self, Int.reduceEq, true_and, and_true, false_and, and_false, and_self, ↓reduceIte] at *; omega)) ?_
          refine And.intro (show -2147483648 ≤ (2 * k) + 1 ∧ (2 * k) + 1 ≤ 2147483647 by first | omega | (simp only [mS_iff, eq_self, Int.reduceEq, true_and, and_true, false_and, and_false, and_self, ↓reduceIte]; omega) | (simp only [mS_iff, eq_self, Int.reduceEq, true_and, and_true, false_and, and_false, and_self, ↓reduceIte] at *; omega)) ?_
          refine And.intro (show -2147483648 ≤ ((2 * k) + 1) * 30 ∧ ((2 * k) + 1) * 30 ≤ 2147483647 by first | omega | (simp only [mS_iff, eq_self, Int.reduceEq, true_and, and_true, false_and, and_false, and_self, ↓reduceIte]; omega) | (simp only [mS_iff, eq_self, Int.reduceEq, true_and, and_true, false_and, and_false, and_self, ↓reduceIte] at *; omega)) ?_
          refine And.intro (show 0 < (w (b + 5)) by first | omega | (simp only [mS_iff, eq_self, Int.reduceEq, true_and, and_true, false_and, and_false, and_self, ↓reduceIte]; omega) | (simp only [mS_iff, eq_self, Int.reduceEq, true_and, and_true, false_and, and_false, and_self, ↓reduceIte] at *; omega)) ?_
          have h8 : (((2 * k) + 1) * 30).tdiv (w (b + 5)) = (((2 * k) + 1) * 30) / (w (b + 5)) := Int.tdiv_eq_ediv_of_nonneg (by omega)
          refine And.intro (⟨rfl, by first | omega | (simp only [mS_iff, eq_self, Int.reduceEq, true_and, and_true, false_and, and_false, and_self, ↓reduceIte]; omega) | (simp only [mS_iff, eq_self, Int.reduceEq, true_and, and_true, false_and, and_false, and_self, ↓reduceIte] at *; omega)⟩) ?_
          refine And.intro (show -2147483648 ≤ k + 1 ∧ k + 1 ≤ 2147483647 by first | omega | (simp only [mS_iff, eq_self, Int.reduceEq, true_and, and_true, false_and, and_false, and_self, ↓reduceIte]; omega) | (simp only [mS_iff, eq_self, Int.reduceEq, true_and, and_true, false_and, and_false, and_self, ↓reduceIte] at *; omega)) ?_
          refine ih28 _ ?_ _ _ _ (Eq.refl _) ?_ ?_ ?_
          · omega
          · first | omega | (simp only [mS_iff, eq_self, Int.reduceEq, true_and, and_true, false_and, and_false, and_self, ↓reduceIte]; omega) | (simp only [mS_iff, eq_self, Int.reduceEq, true_and, and_true, false_and, and_false, and_self, ↓reduceIte] at *; omega)
          · exact (fr.S (by decide)).S (by decide)
          · intro j j0 j1
            by_cases e : j = k
            · subst e
              refine ⟨?_, ?_⟩
              · rw [mS_a _ _ _ _ (by omega), mS_eq]; unfold s_ox; rw [if_neg (by omega)]
              · rw [mS_eq]; unfold s_oy; rw [if_neg (by omega), if_neg (by omega), if_neg (by omega)]
            · refine ⟨?_, ?_⟩
              · rw [mS_a _ _ _ _ (by omega), mS_i _ _ _ _ e]; exact (i1 j j0 (by omega)).1
              · rw [mS_i _ _ _ _ e, mS_a _ _ _ _ (by omega)]; exact (i1 j j0 (by omega)).2
  refine am_go 400 [28] (am_wpc_cm _ _ _) wf_85 ?_
  refine And.intro (show (m l (-1)) = 7 by first | assumption | omega | (simp only [mS_iff, eq_self, Int.reduceEq, true_and, and_true, false_and, and_false, and_self, ↓reduceIte]; omega) | (simp only [mS_iff, eq_self, Int.reduceEq, true_and, and_true, false_and, and_false, and_self, ↓reduceIte] at *; omega)) ?_
  refine And.intro (show (m (m l 2) (-1)) = 10 by first | assumption | omega | (simp only [mS_iff, eq_self, Int.reduceEq, true_and, and_true, false_and, and_false, and_self, ↓reduceIte]; omega) | (simp only [mS_iff, eq_self, Int.reduceEq, true_and, and_true, false_and, and_false, and_self, ↓reduceIte] at *; omega)) ?_
  rw [g5]
  refine And.intro (show (m l (-1)) = 7 by first | assumption | omega | (simp only [mS_iff, eq_self, Int.reduceEq, true_and, and_true, false_and, and_false, and_self, ↓reduceIte]; omega) | (simp only [mS_iff, eq_self, Int.reduceEq, true_and, and_true, false_and, and_false, and_self, ↓reduceIte] at *; omega)) ?_
  refine And.intro (fun h9 => ?_) (fun h9 => ?_)
  · refine K28 _ _ _ _ (Eq.refl _) ?_ ?_ ?_
    · first | omega | (simp only [mS_iff, eq_self, Int.reduceEq, true_and, and_true, false_and, and_false, and_self, ↓reduceIte]; omega) | (simp only [mS_iff, eq_self, Int.reduceEq, true_and, and_true, false_and, and_false, and_self, ↓reduceIte] at *; omega)
    · exact fr_2.rfl _ _ _
    · intro j a b
      omega
  · refine And.intro (show (m l (-1)) = 7 by first | assumption | omega | (simp only [mS_iff, eq_self, Int.reduceEq, true_and, and_true, false_and, and_false, and_self, ↓reduceIte]; omega) | (simp only [mS_iff, eq_self, Int.reduceEq, true_and, and_true, false_and, and_false, and_self, ↓reduceIte] at *; omega)) ?_
    refine And.intro (rfl) ?_
    refine ct_86 (by omega) (by omega) (by omega) hC (fun mw10 h11 h12 => ?_)
    refine hQ _ h11 (fun k k0 k1 => ?_)
    have e := h12 k k0 (by omega)
    unfold s_px s_py
    rw [if_neg (by omega), if_neg (by omega)]
    rw [← l8]
    exact e
