/-! needs: 90 -/
/-! CONTRACTS: the tokens of a text of the house; by tools/gen90.py -/
set_option maxRecDepth 100000
/-- tokens so far: q of them -/
def x_so (t : Int → Int) (n : Int) (K A V E : Int → Int) (q : Int) : Prop := (0 < q → x_sk t n 0 (A 0)) ∧ (∀ p, 0 ≤ p → p < q → x_tk t n (A p) (K p) (V p) (E p) ∧ K p ≠ 71 ∧ K p ≠ 72) ∧ (∀ p, 0 ≤ p → p + 1 < q → x_sk t n (E p) (A (p + 1)))
/-- where the last of them ends -/
def x_at (E : Int → Int) (q : Int) : Int := if q = 0 then 0 else E (q - 1)
theorem x_so.more {t : Int → Int} {n : Int} {K A V E K' A' V' : Int → Int} {q j e : Int} (hq : 0 ≤ q) (h : x_so t n K A V E q) (s : x_sk t n (x_at E q) j) (k : x_tk t n j (K' q) (V' q) e) (n1 : K' q ≠ 71) (n2 : K' q ≠ 72) (ea : A' q = j) (e1 : ∀ p, p ≠ q → K' p = K p) (e2 : ∀ p, p ≠ q → A' p = A p) (e3 : ∀ p, p ≠ q → V' p = V p) : x_so t n K' A' V' (fun x => if x = q then e else E x) (q + 1) := by
  obtain ⟨h1, h2, h3⟩ := h
  refine ⟨fun _ => ?_, fun p p0 p1 => ?_, fun p p0 p1 => ?_⟩
  · by_cases z : q = 0
    · subst z
      rw [ea]
      exact s
    · rw [e2 0 (by omega)]
      exact h1 (by omega)
  · by_cases z : p = q
    · subst z
      simp only [if_true]
      rw [ea]
      exact ⟨k, n1, n2⟩
    · simp only [if_neg z]
      rw [e1 p z, e2 p z, e3 p z]
      exact h2 p p0 (by omega)
  · have z : p ≠ q := by omega
    simp only [if_neg z]
    by_cases y : p + 1 = q
    · rw [y, ea]
      unfold x_at at s
      rw [if_neg (by omega), show q - 1 = p by omega] at s
      exact s
    · rw [e2 (p + 1) y]
      exact h3 p p0 (by omega)
theorem x_so.last {t : Int → Int} {n : Int} {K A V E K' A' V' : Int → Int} {q j e : Int} (hq : 0 ≤ q) (h : x_so t n K A V E q) (s : x_sk t n (x_at E q) j) (k : x_tk t n j (K' q) (V' q) e) (n1 : K' q = 71 ∨ K' q = 72) (ea : A' q = j) (e1 : ∀ p, p ≠ q → K' p = K p) (e2 : ∀ p, p ≠ q → A' p = A p) (e3 : ∀ p, p ≠ q → V' p = V p) : x_lx t n K' A' V' (fun x => if x = q then e else E x) (q + 1) := by
  obtain ⟨h1, h2, h3⟩ := h
  refine ⟨by omega, ?_, fun p p0 p1 => ?_, fun p p0 p1 => ?_, by rw [show q + 1 - 1 = q by omega]; exact n1⟩
  · by_cases z : q = 0
    · subst z
      rw [ea]
      exact s
    · rw [e2 0 (by omega)]
      exact h1 (by omega)
  · by_cases z : p = q
    · subst z
      simp only [if_true]
      rw [ea]
      exact k
    · simp only [if_neg z]
      rw [e1 p z, e2 p z, e3 p z]
      exact (h2 p p0 (by omega)).1
  · have z : p ≠ q := by omega
    simp only [if_neg z]
    refine ⟨?_, by rw [e1 p z]; exact (h2 p p0 (by omega)).2⟩
    by_cases y : p + 1 = q
    · rw [y, ea]
      unfold x_at at s
      rw [if_neg (by omega), show q - 1 = p by omega] at s
      exact s
    · rw [e2 (p + 1) y]
      exact h3 p p0 (by omega)
/-- what telling of tokens writes -/
def fr_X (m m' : aM) : Prop := ∀ r j, (r < 13 ∨ 17 < r) → m' r j = m r j
theorem fr_X.Wd {m m' : aM} (h : fr_X m m') (g : hWd m) : hWd m' := ⟨fun r hr => by rw [funext (fun j => h r j (by omega))]; exact g.1 r hr, fun w a b => by rw [h 2 w (by omega)]; exact g.2 w a b⟩
theorem ct_148 {d : Nat} {m : aM} {Q : aO → aM → Prop} {n : Int} (hd : 7 ≤ d) (hW : hWd m) (hn : 0 ≤ n ∧ n ≤ 1200) (ht : m 18 (-1) = 40 ∧ m 18 (-2) = 1200 ∧ m 14 (-1) = 40 ∧ m 14 (-2) = 1200) (hb : ∀ k, 0 ≤ k → k < n → 0 ≤ m 18 k ∧ m 18 k ≤ 255) (hQ : ∀ m' E N, fr_X m m' → (∀ k, 0 ≤ k → k < n → m' 14 k = m 18 k) → x_lx (m' 14) n (m' 15) (m' 16) (m' 17) E N → N ≤ 1201 → m' 13 5 = 0 → m' 13 6 = 0 → (∀ r, 13 ≤ r → r ≤ 17 → ∀ j, j < 0 → m' r j = m r j) → m' 13 9 = m 13 9 → Q (.inl none) m') : am_wpc am_G am_T d 148 [aR 13, aR 18, aI n] m Q := by
  refine am_in rfl hd (fun d hd => ?_)
  have K41 : ∀ (N : Nat), ∀ (E : Int → Int) (i : Int) (last : Int), ∀ (m2 : aM), (n - i).toNat = N → (0 ≤ i ∧ i ≤ n ∧ 0 ≤ m2 13 8 ∧ m2 13 8 ≤ i) → (fr_X m m2) → (∀ k, 0 ≤ k → k < n → m2 14 k = m 18 k) → (m2 13 4 = n ∧ m2 13 5 = 0 ∧ m2 13 6 = 0 ∧ m2 13 9 = m 13 9) → (∀ r, 13 ≤ r → r ≤ 17 → ∀ j, j < 0 → m2 r j = m r j) → (x_so (m2 14) n (m2 15) (m2 16) (m2 17) E (m2 13 8)) → (x_at E (m2 13 8) ≤ i ∧ ∀ k, x_at E (m2 13 8) ≤ k → k < i → x_bl (m2 14 k)) → am_WP am_G (am_wpc am_G am_T d) [] cd_148 Q 41 [aR 13, aR 18, aI n, aI i, aI last] [] m2 := by
    intro N
    induction N using Nat.strongRecOn with
    | _ N ih41 =>
      intro E i last m2 hN i0 fr c14 z4 ng so bl
      have K125 : ∀ (e : Int), ∀ (m5 : aM), (x_sk (m2 14) n (x_at E (m2 13 8)) i) → (fr_T (m2 13 8) (mS (mS m2 16 (m2 13 8) i) 17 (m2 13 8) 0) m5) → (x_tk (m2 14) n i (m5 15 (m2 13 8)) (m5 17 (m2 13 8)) e) → am_WP am_G (am_wpc am_G am_T d) [] cd_148 Q 125 [aR 13, aR 18, aI n, aI e, aI last] [] m5 := by
        intro e m5 sk fT tk
        have fr3 : fr_X m (mS (mS m2 16 (m2 13 8) i) 17 (m2 13 8) 0) := fun r j a => by rw [mS_a _ _ _ _ (by omega), mS_a _ _ _ _ (by omega)]; exact fr r j a
        have te := x_tk_e tk sk.2.1
        have t8 : m5 13 8 = m2 13 8 := fT 13 8 (by omega) (by omega)
        have t15 : m5 15 (m5 13 8) = m5 15 (m2 13 8) := by rw [t8]
        have t14 : m5 14 = m2 14 := funext fun k => fT 14 k (by omega) (by omega)
        have t16 : m5 16 (m2 13 8) = i := by rw [fT 16 _ (by omega) (by omega), mS_a _ _ _ _ (by omega), mS_eq]
        refine am_go 400 [41, 125] (am_wpc_cm _ _ _) wf_148 ?_
        refine And.intro (rfl) ?_
        refine And.intro (rfl) ?_
        refine And.intro (⟨rfl, by first | omega | (simp only [mS_iff, eq_self, Int.reduceEq, true_and, and_true, false_and, and_false, and_self, ↓reduceIte]; omega) | (simp only [mS_iff, eq_self, Int.reduceEq, true_and, and_true, false_and, and_false, and_self, ↓reduceIte] at *; omega)⟩) ?_
        refine And.intro (rfl) ?_
        refine And.intro (show -2147483648 ≤ (m5 13 8) + 1 ∧ (m5 13 8) + 1 ≤ 2147483647 by first | omega | (simp only [mS_iff, eq_self, Int.reduceEq, true_and, and_true, false_and, and_false, and_self, ↓reduceIte]; omega) | (simp only [mS_iff, eq_self, Int.reduceEq, true_and, and_true, false_and, and_false, and_self, ↓reduceIte] at *; omega)) ?_
        refine And.intro (rfl) ?_
        refine And.intro (fun h1 => ?_) (fun h1 => ?_)
        · replace h1 : (m5 15 (m5 13 8)) = 71 := h1
          refine hQ _ (fun x => if x = m2 13 8 then e else E x) (m2 13 8 + 1) ?_ ?_ ?_ (by omega) ?_ ?_ ?_ ?_
          · intro r j a
            rw [mS_a _ _ _ _ (by omega), fT r j (by omega) (by omega)]
            exact fr3 r j a
          · intro k a c
            show m5 14 k = _
            rw [t14]
            exact c14 k a c
          · show x_lx (m5 14) n (m5 15) (m5 16) (m5 17) _ _
            rw [t14]
            refine so.last (by omega) sk tk (by omega) t16 (fun p hp => by rw [fT 15 p (by omega) (by omega)]; rfl) (fun p hp => by rw [fT 16 p (by omega) (by omega), mS_a _ _ _ _ (by omega), mS_i _ _ _ _ hp]) (fun p hp => by rw [fT 17 p (by omega) (by omega), mS_i _ _ _ _ hp]; rfl)
          · show m5 13 5 = 0; rw [fT 13 5 (by omega) (by omega)]; exact z4.2.1
          · show m5 13 6 = 0; rw [fT 13 6 (by omega) (by omega)]; exact z4.2.2.1
          · intro r a c j hj
            rw [mS_i _ _ _ _ (by omega), fT r j (by omega) (by omega), mS_i _ _ _ _ (by omega), mS_i _ _ _ _ (by omega)]
            exact ng r a c j hj
          · show m5 13 9 = _; rw [fT 13 9 (by omega) (by omega)]; exact z4.2.2.2
        · replace h1 : (m5 15 (m5 13 8)) ≠ 71 := h1
          refine And.intro (fun h2 => ?_) (fun h2 => ?_)
          · replace h2 : (m5 15 (m5 13 8)) ≠ 72 := h2
            refine ih41 _ ?_ (fun x => if x = m2 13 8 then e else E x) _ _ _ (Eq.refl _) ?_ ?_ ?_ ?_ ?_ ?_ ?_
            · omega
            · show 0 ≤ e ∧ e ≤ n ∧ 0 ≤ m5 13 8 + 1 ∧ m5 13 8 + 1 ≤ e; rw [t8]; omega
            · intro r j a
              rw [mS_a _ _ _ _ (by omega), fT r j (by omega) (by omega)]
              exact fr3 r j a
            · intro k a b
              show m5 14 k = _
              rw [fT 14 k (by omega) (by omega)]
              exact c14 k a b
            · refine ⟨?_, ?_, ?_, ?_⟩
              · show m5 13 4 = n; rw [fT 13 4 (by omega) (by omega)]; exact z4.1
              · show m5 13 5 = 0; rw [fT 13 5 (by omega) (by omega)]; exact z4.2.1
              · show m5 13 6 = 0; rw [fT 13 6 (by omega) (by omega)]; exact z4.2.2.1
              · show m5 13 9 = _; rw [fT 13 9 (by omega) (by omega)]; exact z4.2.2.2
            · intro r a b j hj
              rw [mS_i _ _ _ _ (by omega), fT r j (by omega) (by omega), mS_i _ _ _ _ (by omega), mS_i _ _ _ _ (by omega)]
              exact ng r a b j hj
            · show x_so (m5 14) n (m5 15) (m5 16) (m5 17) _ (m5 13 8 + 1)
              rw [t8, t14]
              exact so.more (by omega) sk tk (by first | assumption | omega) (by first | assumption | omega) t16 (fun p hp => by rw [fT 15 p (by omega) (by omega)]; rfl) (fun p hp => by rw [fT 16 p (by omega) (by omega), mS_a _ _ _ _ (by omega), mS_i _ _ _ _ hp]) (fun p hp => by rw [fT 17 p (by omega) (by omega), mS_i _ _ _ _ hp]; rfl)
            · show x_at _ (m5 13 8 + 1) ≤ _ ∧ ∀ k, x_at _ (m5 13 8 + 1) ≤ k → _
              rw [t8]
              unfold x_at
              rw [if_neg (by omega), show m2 13 8 + 1 - 1 = m2 13 8 by omega]
              simp only [if_true]
              exact ⟨Int.le_refl _, fun k a b => by omega⟩
          · replace h2 : (m5 15 (m5 13 8)) = 72 := h2
            refine hQ _ (fun x => if x = m2 13 8 then e else E x) (m2 13 8 + 1) ?_ ?_ ?_ (by omega) ?_ ?_ ?_ ?_
            · intro r j a
              rw [mS_a _ _ _ _ (by omega), fT r j (by omega) (by omega)]
              exact fr3 r j a
            · intro k a c
              show m5 14 k = _
              rw [t14]
              exact c14 k a c
            · show x_lx (m5 14) n (m5 15) (m5 16) (m5 17) _ _
              rw [t14]
              refine so.last (by omega) sk tk (by omega) t16 (fun p hp => by rw [fT 15 p (by omega) (by omega)]; rfl) (fun p hp => by rw [fT 16 p (by omega) (by omega), mS_a _ _ _ _ (by omega), mS_i _ _ _ _ hp]) (fun p hp => by rw [fT 17 p (by omega) (by omega), mS_i _ _ _ _ hp]; rfl)
            · show m5 13 5 = 0; rw [fT 13 5 (by omega) (by omega)]; exact z4.2.1
            · show m5 13 6 = 0; rw [fT 13 6 (by omega) (by omega)]; exact z4.2.2.1
            · intro r a c j hj
              rw [mS_i _ _ _ _ (by omega), fT r j (by omega) (by omega), mS_i _ _ _ _ (by omega), mS_i _ _ _ _ (by omega)]
              exact ng r a c j hj
            · show m5 13 9 = _; rw [fT 13 9 (by omega) (by omega)]; exact z4.2.2.2
      refine am_go 400 [41, 125] (am_wpc_cm _ _ _) wf_148 ?_
      refine And.intro (rfl) ?_
      refine And.intro (fun h3 => ?_) (fun h3 => ?_)
      · have fr3 : fr_X m (mS (mS m2 16 (m2 13 8) i) 17 (m2 13 8) 0) := fun r j a => by rw [mS_a _ _ _ _ (by omega), mS_a _ _ _ _ (by omega)]; exact fr r j a
        have sk : x_sk (m2 14) n (x_at E (m2 13 8)) i := ⟨bl.1, by omega, bl.2, fun h => by unfold x_bl; omega⟩
        refine And.intro (rfl) ?_
        refine And.intro (rfl) ?_
        refine And.intro (⟨rfl, by first | omega | (simp only [mS_iff, eq_self, Int.reduceEq, true_and, and_true, false_and, and_false, and_self, ↓reduceIte]; omega) | (simp only [mS_iff, eq_self, Int.reduceEq, true_and, and_true, false_and, and_false, and_self, ↓reduceIte] at *; omega)⟩) ?_
        refine And.intro (rfl) ?_
        refine And.intro (rfl) ?_
        refine And.intro (⟨rfl, by first | omega | (simp only [mS_iff, eq_self, Int.reduceEq, true_and, and_true, false_and, and_false, and_self, ↓reduceIte]; omega) | (simp only [mS_iff, eq_self, Int.reduceEq, true_and, and_true, false_and, and_false, and_self, ↓reduceIte] at *; omega)⟩) ?_
        refine And.intro (rfl) ?_
        refine And.intro (fun h4 => ?_) (fun h4 => ?_)
        · replace h4 : i ≠ (m2 13 4) := h4
          refine And.intro (rfl) ?_
          refine ct_149 (m := (mS (mS m2 16 (m2 13 8) i) 17 (m2 13 8) 0)) (n := n) (by omega) (fr3.Wd hW) ⟨z4.1, hn.2⟩ (fun k a b => by show 0 ≤ m2 14 k ∧ m2 14 k ≤ 255; rw [c14 k a b]; exact hb k a b) (by omega) (by show 0 ≤ m2 13 8 ∧ m2 13 8 ≤ 1200; omega) (by show mS (mS m2 16 (m2 13 8) i) 17 (m2 13 8) 0 17 (m2 13 8) = 0; exact mS_eq _ _ _ _) (fun mw5 e6 h7 h8 => ?_)
          have fT : fr_T (m2 13 8) (mS (mS m2 16 (m2 13 8) i) 17 (m2 13 8) 0) mw5 := h7
          have tk : x_tk (m2 14) n i (mw5 15 (m2 13 8)) (mw5 17 (m2 13 8)) e6 := h8
          have te := x_tk_e tk (by omega)
          refine K125 _ _ ?_ ?_ ?_
          · exact sk
          · exact fT
          · exact tk
        · replace h4 : i = (m2 13 4) := h4
          refine And.intro (rfl) ?_
          refine And.intro (rfl) ?_
          refine And.intro (⟨rfl, by first | omega | (simp only [mS_iff, eq_self, Int.reduceEq, true_and, and_true, false_and, and_false, and_self, ↓reduceIte]; omega) | (simp only [mS_iff, eq_self, Int.reduceEq, true_and, and_true, false_and, and_false, and_self, ↓reduceIte] at *; omega)⟩) ?_
          refine K125 _ _ ?_ ?_ ?_
          · exact sk
          · intro r j a b
            show mS (mS (mS m2 16 (m2 13 8) i) 17 (m2 13 8) 0) 15 (m2 13 8) 71 r j = (mS (mS m2 16 (m2 13 8) i) 17 (m2 13 8) 0) r j
            rw [mS_iff, if_neg (by omega)]
          · exact Or.inl ⟨by omega, by show mS (mS (mS m2 16 (m2 13 8) i) 17 (m2 13 8) 0) 15 (m2 13 8) 71 15 (m2 13 8) = 71; exact mS_eq _ _ _ _, by show mS (mS (mS m2 16 (m2 13 8) i) 17 (m2 13 8) 0) 15 (m2 13 8) 71 17 (m2 13 8) = 0; rw [mS_a _ _ _ _ (by omega), mS_eq], by omega⟩
      · refine And.intro (rfl) ?_
        refine And.intro (⟨rfl, by first | omega | (simp only [mS_iff, eq_self, Int.reduceEq, true_and, and_true, false_and, and_false, and_self, ↓reduceIte]; omega) | (simp only [mS_iff, eq_self, Int.reduceEq, true_and, and_true, false_and, and_false, and_self, ↓reduceIte] at *; omega)⟩) ?_
        refine And.intro (fun h9 => ?_) (fun h9 => ?_)
        · refine And.intro (show -2147483648 ≤ i + 1 ∧ i + 1 ≤ 2147483647 by first | omega | (simp only [mS_iff, eq_self, Int.reduceEq, true_and, and_true, false_and, and_false, and_self, ↓reduceIte]; omega) | (simp only [mS_iff, eq_self, Int.reduceEq, true_and, and_true, false_and, and_false, and_self, ↓reduceIte] at *; omega)) ?_
          refine ih41 _ ?_ (E) _ _ _ (Eq.refl _) ?_ ?_ ?_ ?_ ?_ ?_ ?_
          · omega
          · omega
          · exact fr
          · exact c14
          · exact z4
          · exact ng
          · exact so
          · refine ⟨by omega, fun k a b => ?_⟩
            by_cases e : k = i
            · subst e; unfold x_bl; omega
            · exact bl.2 k a (by omega)
        · refine And.intro (rfl) ?_
          refine And.intro (⟨rfl, by first | omega | (simp only [mS_iff, eq_self, Int.reduceEq, true_and, and_true, false_and, and_false, and_self, ↓reduceIte]; omega) | (simp only [mS_iff, eq_self, Int.reduceEq, true_and, and_true, false_and, and_false, and_self, ↓reduceIte] at *; omega)⟩) ?_
          refine And.intro (fun h10 => ?_) (fun h10 => ?_)
          · have fr3 : fr_X m (mS (mS m2 16 (m2 13 8) i) 17 (m2 13 8) 0) := fun r j a => by rw [mS_a _ _ _ _ (by omega), mS_a _ _ _ _ (by omega)]; exact fr r j a
            have sk : x_sk (m2 14) n (x_at E (m2 13 8)) i := ⟨bl.1, by omega, bl.2, fun h => by unfold x_bl; omega⟩
            refine And.intro (rfl) ?_
            refine And.intro (rfl) ?_
            refine And.intro (⟨rfl, by first | omega | (simp only [mS_iff, eq_self, Int.reduceEq, true_and, and_true, false_and, and_false, and_self, ↓reduceIte]; omega) | (simp only [mS_iff, eq_self, Int.reduceEq, true_and, and_true, false_and, and_false, and_self, ↓reduceIte] at *; omega)⟩) ?_
            refine And.intro (rfl) ?_
            refine And.intro (rfl) ?_
            refine And.intro (⟨rfl, by first | omega | (simp only [mS_iff, eq_self, Int.reduceEq, true_and, and_true, false_and, and_false, and_self, ↓reduceIte]; omega) | (simp only [mS_iff, eq_self, Int.reduceEq, true_and, and_true, false_and, and_false, and_self, ↓reduceIte] at *; omega)⟩) ?_
            refine And.intro (rfl) ?_
            refine And.intro (fun h11 => ?_) (fun h11 => ?_)
            · replace h11 : i ≠ (m2 13 4) := h11
              refine And.intro (rfl) ?_
              refine ct_149 (m := (mS (mS m2 16 (m2 13 8) i) 17 (m2 13 8) 0)) (n := n) (by omega) (fr3.Wd hW) ⟨z4.1, hn.2⟩ (fun k a b => by show 0 ≤ m2 14 k ∧ m2 14 k ≤ 255; rw [c14 k a b]; exact hb k a b) (by omega) (by show 0 ≤ m2 13 8 ∧ m2 13 8 ≤ 1200; omega) (by show mS (mS m2 16 (m2 13 8) i) 17 (m2 13 8) 0 17 (m2 13 8) = 0; exact mS_eq _ _ _ _) (fun mw12 e13 h14 h15 => ?_)
              have fT : fr_T (m2 13 8) (mS (mS m2 16 (m2 13 8) i) 17 (m2 13 8) 0) mw12 := h14
              have tk : x_tk (m2 14) n i (mw12 15 (m2 13 8)) (mw12 17 (m2 13 8)) e13 := h15
              have te := x_tk_e tk (by omega)
              refine K125 _ _ ?_ ?_ ?_
              · exact sk
              · exact fT
              · exact tk
            · replace h11 : i = (m2 13 4) := h11
              refine And.intro (rfl) ?_
              refine And.intro (rfl) ?_
              refine And.intro (⟨rfl, by first | omega | (simp only [mS_iff, eq_self, Int.reduceEq, true_and, and_true, false_and, and_false, and_self, ↓reduceIte]; omega) | (simp only [mS_iff, eq_self, Int.reduceEq, true_and, and_true, false_and, and_false, and_self, ↓reduceIte] at *; omega)⟩) ?_
              refine K125 _ _ ?_ ?_ ?_
              · exact sk
              · intro r j a b
                show mS (mS (mS m2 16 (m2 13 8) i) 17 (m2 13 8) 0) 15 (m2 13 8) 71 r j = (mS (mS m2 16 (m2 13 8) i) 17 (m2 13 8) 0) r j
                rw [mS_iff, if_neg (by omega)]
              · exact Or.inl ⟨by omega, by show mS (mS (mS m2 16 (m2 13 8) i) 17 (m2 13 8) 0) 15 (m2 13 8) 71 15 (m2 13 8) = 71; exact mS_eq _ _ _ _, by show mS (mS (mS m2 16 (m2 13 8) i) 17 (m2 13 8) 0) 15 (m2 13 8) 71 17 (m2 13 8) = 0; rw [mS_a _ _ _ _ (by omega), mS_eq], by omega⟩
          · refine And.intro (show -2147483648 ≤ i + 1 ∧ i + 1 ≤ 2147483647 by first | omega | (simp only [mS_iff, eq_self, Int.reduceEq, true_and, and_true, false_and, and_false, and_self, ↓reduceIte]; omega) | (simp only [mS_iff, eq_self, Int.reduceEq, true_and, and_true, false_and, and_false, and_self, ↓reduceIte] at *; omega)) ?_
            refine ih41 _ ?_ (E) _ _ _ (Eq.refl _) ?_ ?_ ?_ ?_ ?_ ?_ ?_
            · omega
            · omega
            · exact fr
            · exact c14
            · exact z4
            · exact ng
            · exact so
            · refine ⟨by omega, fun k a b => ?_⟩
              by_cases e : k = i
              · subst e; unfold x_bl; omega
              · exact bl.2 k a (by omega)
  refine am_go 400 [41, 125] (am_wpc_cm _ _ _) wf_148 ?_
  refine And.intro (rfl) ?_
  refine And.intro (by omega) ?_
  generalize hm1 : mC m 18 0 14 0 n = m1
  have c14 : ∀ k, 0 ≤ k → k < n → m1 14 k = m 18 k := fun k a b => by rw [← hm1]; unfold mC; rw [if_pos rfl, if_pos (by omega)]; congr 1; omega
  have c0 : ∀ r j, (r ≠ 14 ∨ j < 0) → m1 r j = m r j := fun r j a => by
    rw [← hm1]; unfold mC
    by_cases e : r = 14
    · rw [if_pos e, if_neg (by omega)]
    · rw [if_neg e]
  refine And.intro (rfl) ?_
  refine And.intro (rfl) ?_
  refine And.intro (rfl) ?_
  refine And.intro (rfl) ?_
  refine And.intro (rfl) ?_
  refine K41 _ (fun _ => 0) _ _ _ (Eq.refl _) ?_ ?_ ?_ ?_ ?_ ?_ ?_
  · show 0 ≤ (0 : Int) ∧ 0 ≤ n ∧ 0 ≤ (0 : Int) ∧ (0 : Int) ≤ 0; omega
  · intro r j a
    rw [mS_a _ _ _ _ (by omega), mS_a _ _ _ _ (by omega), mS_a _ _ _ _ (by omega), mS_a _ _ _ _ (by omega), mS_a _ _ _ _ (by omega)]
    exact c0 r j (by omega)
  · intro k a b
    exact c14 k a b
  · exact ⟨rfl, rfl, rfl, c0 13 9 (by omega)⟩
  · intro r a b j hj
    rw [mS_i _ _ _ _ (by omega), mS_i _ _ _ _ (by omega), mS_i _ _ _ _ (by omega), mS_i _ _ _ _ (by omega), mS_i _ _ _ _ (by omega)]
    exact c0 r j (by omega)
  · exact ⟨fun h => absurd h (by show ¬ (0 : Int) < 0; omega), fun p a b => absurd b (by show ¬ p < 0; omega), fun p a b => absurd b (by show ¬ p + 1 < 0; omega)⟩
  · refine ⟨Int.le_refl _, fun k a b => ?_⟩
    have a2 : (0 : Int) ≤ k := a
    omega
