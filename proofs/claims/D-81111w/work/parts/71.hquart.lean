/-! needs: 70 -/
/-! CONTRACTS: quarters of the house; by tools/gen71.py -/
set_option maxRecDepth 100000
def hQr (m : aM) (p : Int) (l : List Int) : Prop := m 22 p = l.length ∧ ∀ j : Nat, j < l.length → m 21 (12 * p + j) = l.getD j 0
theorem q_getD {l : List Int} {j : Nat} (h : j < l.length) : l.getD j 0 ∈ l := by
  rw [List.getD_eq_getElem?_getD, List.getElem?_eq_getElem h]
  exact List.getElem_mem h
theorem q_forall {l : List Int} {P : Int → Prop} (h : ∀ j : Nat, j < l.length → P (l.getD j 0)) : ∀ b ∈ l, P b := fun b hb => by
  obtain ⟨j, hj, rfl⟩ := List.mem_iff_getElem.mp hb
  have := h j hj
  rw [List.getD_eq_getElem?_getD, List.getElem?_eq_getElem hj] at this
  exact this
theorem hQr.at {m : aM} {p : Int} {l : List Int} (h : hQr m p l) {k : Int} (h0 : 0 ≤ k) (h1 : k < l.length) : m 21 (12 * p + k) = l.getD k.toNat 0 ∧ l.getD k.toNat 0 ∈ l := by
  have a := h.2 k.toNat (by omega)
  rw [show ((k.toNat : Nat) : Int) = k by omega] at a
  exact ⟨a, q_getD (by omega)⟩
/-- only quarters of p are written -/
def fr_q (p : Int) (m m' : aM) : Prop := ∀ r j, (r ≠ 22 ∨ j ≠ p) → (r ≠ 21 ∨ j < 12 * p ∨ 12 * p + 12 ≤ j) → m' r j = m r j
theorem fr_q.trans {p : Int} {a b c : aM} (h : fr_q p a b) (g : fr_q p b c) : fr_q p a c := fun r j x y => (g r j x y).trans (h r j x y)
theorem fr_q.rfl (p : Int) (m : aM) : fr_q p m m := fun _ _ _ _ => Eq.refl _
theorem fr_q.oth {p p' : Int} {m m' : aM} (h : fr_q p m m') (hp : p' ≠ p) {l : List Int} (g : hQr m p' l) (hl : l.length ≤ 12) : hQr m' p' l := ⟨by rw [h 22 p' (by omega) (by omega)]; exact g.1, fun j hj => by rw [h 21 _ (by omega) (by omega)]; exact g.2 j hj⟩
/-- only quarters are written -/
def fr_Q (m m' : aM) : Prop := ∀ r j, r ≠ 21 → r ≠ 22 → m' r j = m r j
theorem fr_q.Q {p : Int} {m m' : aM} (h : fr_q p m m') : fr_Q m m' := fun r j a b => h r j (by omega) (by omega)
theorem fr_Q.trans {a b c : aM} (h : fr_Q a b) (g : fr_Q b c) : fr_Q a c := fun r j x y => (g r j x y).trans (h r j x y)
theorem fr_Q.K {m m' : aM} (h : fr_Q m m') : hK m m' := hK.of (h 0 0 (by omega) (by omega)) (fun r a _ j => h r j (by omega) (by omega))
theorem fr_Q.at {m m' : aM} (h : fr_Q m m') {r : Int} (h1 : r ≠ 21) (h2 : r ≠ 22) : m' r = m r := funext fun j => h r j h1 h2
theorem fr_Q.As {S m m' : aM} {lo hi : Int → Int} (h : fr_Q m m') (g : hAs S lo hi m) : hAs S lo hi m' := g.keep h.K (h 1 20 (by omega) (by omega)) (h.at (by omega) (by omega))
theorem fr_Q.Ps {S m m' : aM} (h : fr_Q m m') (g : hPs S m) : hPs S m' := g.keep h.K (h 1 22 (by omega) (by omega)) (h.at (by omega) (by omega))
theorem hAs.one {S m : aM} {lo hi : Int → Int} (h : hAs S lo hi m) {a b : Int} (a0 : 0 ≤ a) (a1 : a < S 0 3) (b0 : 0 ≤ b) (b1 : b < S 0 3) : s_pt (S (100 + a)) (S (100 + b)) = 0 ↔ s_one S a b := s_pt_0 (h.2.2.1 a a0 a1).row (h.2.2.1 b b0 b1).row
theorem s_pt_b (w v : Int → Int) : 0 ≤ s_pt w v ∧ s_pt w v ≤ 100 := by
  have a := s_fp_b w v
  have b := s_sum_b (s_lt_b w v) 6
  unfold s_pt
  omega
theorem q_len_in {S : aM} {l : List Int} {a b : Int} {n : Int} (h : ∀ b ∈ l, 0 ≤ b ∧ b < n) (ha : 0 ≤ a ∧ a < n) : b ∈ q_add S l a → 0 ≤ b ∧ b < n := by
  intro q
  by_cases e : q_in S l a
  · rw [q_add_y e] at q; exact h b q
  · rw [q_add_n e] at q
    rcases List.mem_append.mp q with q | q
    · exact h b q
    · rw [List.mem_singleton] at q; omega
theorem q_app_at {l : List Int} {a : Int} {j : Nat} (h : j < (l ++ [a]).length) : (l ++ [a]).getD j 0 = if j < l.length then l.getD j 0 else a := by
  rw [List.getD_eq_getElem?_getD, List.getD_eq_getElem?_getD]
  split
  · rw [List.getElem?_append_left (by omega)]
  · rw [List.length_append, List.length_singleton] at h
    rw [List.getElem?_append_right (by omega), show j - l.length = 0 by omega]
    rfl
theorem q_take_s {l : List Int} {k : Int} (h0 : 0 ≤ k) (h1 : k < l.length) : l.take (k + 1).toNat = l.take k.toNat ++ [l.getD k.toNat 0] := by
  obtain ⟨n, rfl⟩ := Int.eq_ofNat_of_zero_le h0
  have h2 : n < l.length := by omega
  show l.take (n + 1) = l.take n ++ [l.getD n 0]
  rw [List.getD_eq_getElem?_getD, List.getElem?_eq_getElem h2]
  exact List.take_succ_eq_append_getElem h2
theorem ct_100 {d : Nat} {m : aM} {Q : aO → aM → Prop} {S : aM} {lo hi : Int → Int} {p a : Int} {l : List Int} (hd : 4 ≤ d) (hS : hAs S lo hi m) (hp : 0 ≤ p ∧ p < 40) (ha : 0 ≤ a ∧ a < S 0 3) (hl : hQr m p l) (h12 : l.length ≤ 12) (hin : ∀ b ∈ l, 0 ≤ b ∧ b < S 0 3) (hQ : ∀ m', fr_q p m m' → hQr m' p (q_add S l a) → Q (.inl none) m') : am_wpc am_G am_T d 100 [aR 1, aI p, aI a] m Q := by
  have z0 := hS.1
  have z1 := hl.1
  refine am_in rfl hd (fun d hd => ?_)
  have K8 : ∀ (N : Nat), ∀ (k : Int), (12 - k).toNat = N → (0 ≤ k ∧ k ≤ l.length) → (∀ j : Nat, j < k → ¬ s_one S (l.getD j 0) a) → am_WP am_G (am_wpc am_G am_T d) [] cd_100 Q 8 [aR 1, aI p, aI a, aI (12 * p), aI k] [] m := by
    intro N
    induction N using Nat.strongRecOn with
    | _ N ih8 =>
      intro k hN i0 i1
      refine am_go 400 [8] (am_wpc_cm _ _ _) wf_100 ?_
      refine And.intro (rfl) ?_
      refine And.intro (⟨rfl, by first | omega | (simp only [mS_iff, eq_self, Int.reduceEq, true_and, and_true, false_and, and_false, and_self, ↓reduceIte]; omega) | (simp only [mS_iff, eq_self, Int.reduceEq, true_and, and_true, false_and, and_false, and_self, ↓reduceIte] at *; omega)⟩) ?_
      refine And.intro (fun h1 => ?_) (fun h1 => ?_)
      · refine And.intro (rfl) ?_
        refine And.intro (⟨rfl, by first | omega | (simp only [mS_iff, eq_self, Int.reduceEq, true_and, and_true, false_and, and_false, and_self, ↓reduceIte]; omega) | (simp only [mS_iff, eq_self, Int.reduceEq, true_and, and_true, false_and, and_false, and_self, ↓reduceIte] at *; omega)⟩) ?_
        refine And.intro (fun h2 => ?_) (fun h2 => ?_)
        · first
            | exact hQ m (fr_q.rfl p m) (by rw [q_add_y (Or.inl ⟨_, y.2, o1.mp (by omega)⟩)]; exact hl)
            | exact hQ m (fr_q.rfl p m) (by rw [q_add_y (Or.inr (by omega))]; exact hl)
        · have nin : ¬ q_in S l a := by
            intro q
            rcases q with ⟨b, b1, b2⟩ | q
            · exact q_forall (P := fun b => ¬ s_one S b a) (fun j hj => i1 j (by omega)) b b1 b2
            · omega
          refine And.intro (rfl) ?_
          refine And.intro (rfl) ?_
          refine And.intro (⟨rfl, by first | omega | (simp only [mS_iff, eq_self, Int.reduceEq, true_and, and_true, false_and, and_false, and_self, ↓reduceIte]; omega) | (simp only [mS_iff, eq_self, Int.reduceEq, true_and, and_true, false_and, and_false, and_self, ↓reduceIte] at *; omega)⟩) ?_
          refine And.intro (show -2147483648 ≤ (12 * p) + (m 22 p) ∧ (12 * p) + (m 22 p) ≤ 2147483647 by first | omega | (simp only [mS_iff, eq_self, Int.reduceEq, true_and, and_true, false_and, and_false, and_self, ↓reduceIte]; omega) | (simp only [mS_iff, eq_self, Int.reduceEq, true_and, and_true, false_and, and_false, and_self, ↓reduceIte] at *; omega)) ?_
          refine And.intro (⟨rfl, by first | omega | (simp only [mS_iff, eq_self, Int.reduceEq, true_and, and_true, false_and, and_false, and_self, ↓reduceIte]; omega) | (simp only [mS_iff, eq_self, Int.reduceEq, true_and, and_true, false_and, and_false, and_self, ↓reduceIte] at *; omega)⟩) ?_
          refine And.intro (rfl) ?_
          refine And.intro (⟨rfl, by first | omega | (simp only [mS_iff, eq_self, Int.reduceEq, true_and, and_true, false_and, and_false, and_self, ↓reduceIte]; omega) | (simp only [mS_iff, eq_self, Int.reduceEq, true_and, and_true, false_and, and_false, and_self, ↓reduceIte] at *; omega)⟩) ?_
          refine And.intro (show -2147483648 ≤ (m 22 p) + 1 ∧ (m 22 p) + 1 ≤ 2147483647 by first | omega | (simp only [mS_iff, eq_self, Int.reduceEq, true_and, and_true, false_and, and_false, and_self, ↓reduceIte]; omega) | (simp only [mS_iff, eq_self, Int.reduceEq, true_and, and_true, false_and, and_false, and_self, ↓reduceIte] at *; omega)) ?_
          refine And.intro (⟨rfl, by first | omega | (simp only [mS_iff, eq_self, Int.reduceEq, true_and, and_true, false_and, and_false, and_self, ↓reduceIte]; omega) | (simp only [mS_iff, eq_self, Int.reduceEq, true_and, and_true, false_and, and_false, and_self, ↓reduceIte] at *; omega)⟩) ?_
          refine hQ _ (fun r j x y => ?_) ?_
          · rw [mS_iff, if_neg (by omega), mS_iff, if_neg (by omega)]
          · rw [q_add_n nin]
            refine ⟨?_, fun j hj => ?_⟩
            · rw [mS_eq, List.length_append, List.length_singleton]
              have : mS m 21 (12 * p + m 22 p) a 22 p = m 22 p := mS_a _ _ _ _ (by omega)
              rw [this]; omega
            · rw [q_app_at hj]
              rw [List.length_append, List.length_singleton] at hj
              rw [mS_a _ _ _ _ (by omega), mS_iff]
              by_cases e : j < l.length
              · rw [if_pos e, if_neg (by omega)]; exact hl.2 j e
              · rw [if_neg e, if_pos (by omega)]
      · have y := hl.at (k := k) (by omega) (by omega)
        have yb := hin _ y.2
        refine And.intro (rfl) ?_
        refine And.intro (rfl) ?_
        refine And.intro (show -2147483648 ≤ (12 * p) + k ∧ (12 * p) + k ≤ 2147483647 by first | omega | (simp only [mS_iff, eq_self, Int.reduceEq, true_and, and_true, false_and, and_false, and_self, ↓reduceIte]; omega) | (simp only [mS_iff, eq_self, Int.reduceEq, true_and, and_true, false_and, and_false, and_self, ↓reduceIte] at *; omega)) ?_
        refine And.intro (⟨rfl, by first | omega | (simp only [mS_iff, eq_self, Int.reduceEq, true_and, and_true, false_and, and_false, and_self, ↓reduceIte]; omega) | (simp only [mS_iff, eq_self, Int.reduceEq, true_and, and_true, false_and, and_false, and_self, ↓reduceIte] at *; omega)⟩) ?_
        refine And.intro (⟨rfl, by rw [y.1]; omega⟩) ?_
        refine And.intro (rfl) ?_
        refine And.intro (⟨rfl, by first | omega | (simp only [mS_iff, eq_self, Int.reduceEq, true_and, and_true, false_and, and_false, and_self, ↓reduceIte]; omega) | (simp only [mS_iff, eq_self, Int.reduceEq, true_and, and_true, false_and, and_false, and_self, ↓reduceIte] at *; omega)⟩) ?_
        refine ct_61 (by omega) (by rw [y.1]; exact hS.2.2.1 _ yb.1 yb.2) (hS.2.2.1 a ha.1 ha.2) (fun v3 h4 => ?_)
        have o1 := hS.one (a := l.getD k.toNat 0) (b := a) yb.1 yb.2 ha.1 ha.2
        refine And.intro (fun h5 => ?_) (fun h5 => ?_)
        · refine And.intro (show -2147483648 ≤ k + 1 ∧ k + 1 ≤ 2147483647 by first | omega | (simp only [mS_iff, eq_self, Int.reduceEq, true_and, and_true, false_and, and_false, and_self, ↓reduceIte]; omega) | (simp only [mS_iff, eq_self, Int.reduceEq, true_and, and_true, false_and, and_false, and_self, ↓reduceIte] at *; omega)) ?_
          refine ih8 _ ?_ _ (Eq.refl _) ?_ ?_
          · omega
          · first | omega | (simp only [mS_iff, eq_self, Int.reduceEq, true_and, and_true, false_and, and_false, and_self, ↓reduceIte]; omega) | (simp only [mS_iff, eq_self, Int.reduceEq, true_and, and_true, false_and, and_false, and_self, ↓reduceIte] at *; omega)
          · intro j hj
            by_cases e : (j : Int) = k
            · intro q
              rw [show j = k.toNat by omega] at q
              have := o1.mpr q
              omega
            · exact i1 j (by omega)
        · first
            | exact hQ m (fr_q.rfl p m) (by rw [q_add_y (Or.inl ⟨_, y.2, o1.mp (by omega)⟩)]; exact hl)
            | exact hQ m (fr_q.rfl p m) (by rw [q_add_y (Or.inr (by omega))]; exact hl)
  refine am_go 400 [8] (am_wpc_cm _ _ _) wf_100 ?_
  refine And.intro (show -2147483648 ≤ 12 * p ∧ 12 * p ≤ 2147483647 by first | omega | (simp only [mS_iff, eq_self, Int.reduceEq, true_and, and_true, false_and, and_false, and_self, ↓reduceIte]; omega) | (simp only [mS_iff, eq_self, Int.reduceEq, true_and, and_true, false_and, and_false, and_self, ↓reduceIte] at *; omega)) ?_
  refine K8 _ _ (Eq.refl _) ?_ ?_
  · first | omega | (simp only [mS_iff, eq_self, Int.reduceEq, true_and, and_true, false_and, and_false, and_self, ↓reduceIte]; omega) | (simp only [mS_iff, eq_self, Int.reduceEq, true_and, and_true, false_and, and_false, and_self, ↓reduceIte] at *; omega)
  · intro j hj
    omega
theorem ct_101n {d : Nat} {m : aM} {Q : aO → aM → Prop} {p : Int} (hd : 1 ≤ d) (hQ : Q (.inl none) m) : am_wpc am_G am_T d 101 [aR 1, aI p, aR 0] m Q := by
  refine am_in rfl hd (fun d hd => ?_)
  refine am_go 400 [] (am_wpc_cm _ _ _) wf_101 ?_
  refine And.intro (by decide) ?_
  refine And.intro (fun _ => ?_) (fun h => absurd h (by decide))
  exact hQ
theorem q_in_all' {S : aM} {n : Int} : ∀ (xs l : List Int), (∀ b ∈ l, 0 ≤ b ∧ b < n) → (∀ b ∈ xs, 0 ≤ b ∧ b < n) → ∀ b ∈ q_all S l xs, 0 ≤ b ∧ b < n := fun xs l h g b hb => by
  rcases q_mem_all _ _ hb with q | q
  · exact h b q
  · exact g b q
theorem ct_101 {d : Nat} {m : aM} {Q : aO → aM → Prop} {S : aM} {lo hi : Int → Int} {p f : Int} {l lf : List Int} (hd : 5 ≤ d) (hS : hAs S lo hi m) (hP : hPs S m) (hp : 0 ≤ p ∧ p < 40) (hf : 0 ≤ f ∧ f < S 0 4 ∧ f ≠ p) (hl : hQr m p l) (h12 : l.length ≤ 12) (hin : ∀ b ∈ l, 0 ≤ b ∧ b < S 0 3) (hlf : hQr m f lf) (g12 : lf.length ≤ 12) (gin : ∀ b ∈ lf, 0 ≤ b ∧ b < S 0 3) (hQ : ∀ m', fr_q p m m' → hQr m' p (q_all S l lf) → Q (.inl none) m') : am_wpc am_G am_T d 101 [aR 1, aI p, aR (m 20 f)] m Q := by
  have z0 := hP.1.1
  obtain ⟨p1, p2, p3, p4, p5, p6, -⟩ := hP.2.2.1 f (by omega) (by omega)
  refine am_in rfl hd (fun d hd => ?_)
  have K2 : ∀ (N : Nat), ∀ (k : Int), ∀ (m2 : aM), (12 - k).toNat = N → (0 ≤ k ∧ k ≤ lf.length) → (fr_q p m m2) → (hQr m2 p (q_all S l (lf.take k.toNat))) → am_WP am_G (am_wpc am_G am_T d) [] cd_101 Q 2 [aR 1, aI p, aR (m 20 f), aI k] [] m2 := by
    intro N
    induction N using Nat.strongRecOn with
    | _ N ih2 =>
      intro k m2 hN i0 fr i1
      have q1 : m2 (m 20 f) = m (m 20 f) := fr.Q.at (by omega) (by omega)
      have q2 : m2 (m 20 f) (-1) = 11 := by rw [q1]; exact p2
      have q6 : m2 (m 20 f) 3 = f := by rw [q1]; exact p6
      have hg := fr.oth hf.2.2 hlf g12
      have q7 : m2 22 (m2 (m 20 f) 3) = lf.length := by rw [q6]; exact hg.1
      refine am_go 400 [2] (am_wpc_cm _ _ _) wf_101 ?_
      refine And.intro (show (m 20 f) ≠ -9 by first | omega | (simp only [mS_iff, eq_self, Int.reduceEq, true_and, and_true, false_and, and_false, and_self, ↓reduceIte]; omega) | (simp only [mS_iff, eq_self, Int.reduceEq, true_and, and_true, false_and, and_false, and_self, ↓reduceIte] at *; omega)) ?_
      refine And.intro (fun h => absurd h (by omega)) (fun _ => ?_)
      refine And.intro (rfl) ?_
      refine And.intro (show (m2 (m 20 f) (-1)) = 11 by first | assumption | omega | (simp only [mS_iff, eq_self, Int.reduceEq, true_and, and_true, false_and, and_false, and_self, ↓reduceIte]; omega) | (simp only [mS_iff, eq_self, Int.reduceEq, true_and, and_true, false_and, and_false, and_self, ↓reduceIte] at *; omega)) ?_
      refine And.intro (⟨rfl, by first | omega | (simp only [mS_iff, eq_self, Int.reduceEq, true_and, and_true, false_and, and_false, and_self, ↓reduceIte]; omega) | (simp only [mS_iff, eq_self, Int.reduceEq, true_and, and_true, false_and, and_false, and_self, ↓reduceIte] at *; omega)⟩) ?_
      refine And.intro (fun h1 => ?_) (fun h1 => ?_)
      · exact hQ _ fr (by rw [show k.toNat = lf.length by omega, List.take_length] at i1; exact i1)
      · have y := hg.at (k := k) (by omega) (by omega)
        refine And.intro (rfl) ?_
        refine And.intro (show (m2 (m 20 f) (-1)) = 11 by first | assumption | omega | (simp only [mS_iff, eq_self, Int.reduceEq, true_and, and_true, false_and, and_false, and_self, ↓reduceIte]; omega) | (simp only [mS_iff, eq_self, Int.reduceEq, true_and, and_true, false_and, and_false, and_self, ↓reduceIte] at *; omega)) ?_
        refine And.intro (show -2147483648 ≤ 12 * (m2 (m 20 f) 3) ∧ 12 * (m2 (m 20 f) 3) ≤ 2147483647 by first | omega | (simp only [mS_iff, eq_self, Int.reduceEq, true_and, and_true, false_and, and_false, and_self, ↓reduceIte]; omega) | (simp only [mS_iff, eq_self, Int.reduceEq, true_and, and_true, false_and, and_false, and_self, ↓reduceIte] at *; omega)) ?_
        refine And.intro (show -2147483648 ≤ (12 * (m2 (m 20 f) 3)) + k ∧ (12 * (m2 (m 20 f) 3)) + k ≤ 2147483647 by first | omega | (simp only [mS_iff, eq_self, Int.reduceEq, true_and, and_true, false_and, and_false, and_self, ↓reduceIte]; omega) | (simp only [mS_iff, eq_self, Int.reduceEq, true_and, and_true, false_and, and_false, and_self, ↓reduceIte] at *; omega)) ?_
        refine And.intro (⟨rfl, by first | omega | (simp only [mS_iff, eq_self, Int.reduceEq, true_and, and_true, false_and, and_false, and_self, ↓reduceIte]; omega) | (simp only [mS_iff, eq_self, Int.reduceEq, true_and, and_true, false_and, and_false, and_self, ↓reduceIte] at *; omega)⟩) ?_
        refine And.intro (rfl) ?_
        refine ct_100 (l := q_all S l (lf.take k.toNat)) (a := m2 21 (12 * m2 (m 20 f) 3 + k)) (by omega) (fr.Q.As hS) hp (by rw [q6, y.1]; exact gin _ y.2) i1 (q_len_all _ _ h12) (q_in_all' _ _ hin (fun b hb => gin b (List.mem_of_mem_take hb))) (fun mw2 h3 h4 => ?_)
        rw [q6, y.1] at h4
        refine And.intro (show -2147483648 ≤ k + 1 ∧ k + 1 ≤ 2147483647 by first | omega | (simp only [mS_iff, eq_self, Int.reduceEq, true_and, and_true, false_and, and_false, and_self, ↓reduceIte]; omega) | (simp only [mS_iff, eq_self, Int.reduceEq, true_and, and_true, false_and, and_false, and_self, ↓reduceIte] at *; omega)) ?_
        refine ih2 _ ?_ _ _ (Eq.refl _) ?_ ?_ ?_
        · omega
        · first | omega | (simp only [mS_iff, eq_self, Int.reduceEq, true_and, and_true, false_and, and_false, and_self, ↓reduceIte]; omega) | (simp only [mS_iff, eq_self, Int.reduceEq, true_and, and_true, false_and, and_false, and_self, ↓reduceIte] at *; omega)
        · exact fr.trans h3
        · rw [q_take_s (by omega) (by omega), q_all_app]; exact h4
  refine am_go 400 [2] (am_wpc_cm _ _ _) wf_101 ?_
  refine K2 _ _ _ (Eq.refl _) ?_ ?_ ?_
  · first | omega | (simp only [mS_iff, eq_self, Int.reduceEq, true_and, and_true, false_and, and_false, and_self, ↓reduceIte]; omega) | (simp only [mS_iff, eq_self, Int.reduceEq, true_and, and_true, false_and, and_false, and_self, ↓reduceIte] at *; omega)
  · exact fr_q.rfl p m
  · simp [q_all_nil]; exact hl
/-- quarters of the first k are there -/
def hQs (S : aM) (day k : Int) (m : aM) : Prop := ∀ p, 0 ≤ p → p < k → hQr m p (q_Q S day p)
theorem hQs.keep {S : aM} (h : sPs S) {day k p : Int} (hk : k ≤ p ∧ p < S 0 4) {m m' : aM} (g : hQs S day k m) (f : fr_q p m m') : hQs S day k m' := fun q a b => f.oth (by omega) (g q a b) (q_Q_ok h (by omega) (by omega)).1
theorem ct_99 {d : Nat} {m : aM} {Q : aO → aM → Prop} {S : aM} {lo hi : Int → Int} {day : Int} (hd : 6 ≤ d) (hS : hAs S lo hi m) (hP : hPs S m) (hQ : ∀ m', fr_Q m m' → hQs S day (S 0 4) m' → Q (.inl none) m') : am_wpc am_G am_T d 99 [aR 1, aI day] m Q := by
  obtain ⟨z0, z1⟩ := hP.1
  have z2 := hP.2.1
  refine am_in rfl hd (fun d hd => ?_)
  have K2 : ∀ (N : Nat), ∀ (k : Int) (x : aV), ∀ (m2 : aM), (40 - k).toNat = N → (0 ≤ k ∧ k ≤ S 0 4) → (fr_Q m m2) → (hQs S day k m2) → am_WP am_G (am_wpc am_G am_T d) [] cd_99 Q 2 [aR 1, aI day, aI k, x] [] m2 := by
    intro N
    induction N using Nat.strongRecOn with
    | _ N ih2 =>
      intro k x m2 hN i0 g2 i1
      have e22 := g2 1 22 (by omega) (by omega)
      have e20 : m2 20 = m 20 := g2.at (by omega) (by omega)
      have K78 : ∀ (m3 : aM), (k < S 0 4) → (fr_Q m m3) → (hQs S day k m3) → (hQr m3 k (q_Q S day k)) → am_WP am_G (am_wpc am_G am_T d) [] cd_99 Q 78 [aR 1, aI day, aI k, aR (m 20 k)] [] m3 := by
        intro m3 kk g3 hqs i3
        refine am_go 400 [2, 78, 50, 41] (am_wpc_cm _ _ _) wf_99 ?_
        refine And.intro (show -2147483648 ≤ k + 1 ∧ k + 1 ≤ 2147483647 by first | omega | (simp only [mS_iff, eq_self, Int.reduceEq, true_and, and_true, false_and, and_false, and_self, ↓reduceIte]; omega) | (simp only [mS_iff, eq_self, Int.reduceEq, true_and, and_true, false_and, and_false, and_self, ↓reduceIte] at *; omega)) ?_
        refine ih2 _ ?_ _ _ _ (Eq.refl _) ?_ ?_ ?_
        · omega
        · first | omega | (simp only [mS_iff, eq_self, Int.reduceEq, true_and, and_true, false_and, and_false, and_self, ↓reduceIte]; omega) | (simp only [mS_iff, eq_self, Int.reduceEq, true_and, and_true, false_and, and_false, and_self, ↓reduceIte] at *; omega)
        · exact g3
        · intro p a b
          by_cases e : p = k
          · subst e; exact i3
          · exact hqs p a (by omega)
      have K50 : ∀ (m3 : aM), (k < S 0 4) → (fr_Q m m3) → (hQs S day k m3) → (hQr m3 k (q_all S (q_all S [] (if S 15 k = -1 then [] else [S 15 k])) (q_Q S day (S 11 k)))) → am_WP am_G (am_wpc am_G am_T d) [] cd_99 Q 50 [aR 1, aI day, aI k, aR (m 20 k)] [] m3 := by
        intro m3 kk g3 hqs i3
        have hS3 := g3.As hS
        have hP3 := g3.Ps hP
        have eq20 : m3 20 = m 20 := g3.at (by omega) (by omega)
        obtain ⟨p1, p2, p3, p4, p5, p6, p7, p8, p9⟩ := hP3.2.2.1 k (by omega) kk
        rw [eq20] at p1 p2 p3 p4 p5 p6 p7 p8 p9
        have zk := z1 k (by omega) kk
        have rf := hP3.ref (a := S 11 k) (by omega) (by omega)
        have rm := hP3.ref (a := S 12 k) (by omega) (by omega)
        have ok1 : ∀ b ∈ q_all S [] (if S 15 k = -1 then [] else [S 15 k]), 0 ≤ b ∧ b < S 0 3 := q_in_all' _ _ (fun b hb => absurd hb List.not_mem_nil) (fun b hb => by
          by_cases e : S 15 k = -1
          · rw [if_pos e] at hb; cases hb
          · rw [if_neg e, List.mem_singleton] at hb; omega)
        have okf := q_Q_ok hP.1 (day := day) (p := S 11 k) (by omega) (by omega)
        have okm := q_Q_ok hP.1 (day := day) (p := S 12 k) (by omega) (by omega)
        refine am_go 400 [2, 78, 50, 41] (am_wpc_cm _ _ _) wf_99 ?_
        refine And.intro (show (m3 (m 20 k) (-1)) = 11 by first | assumption | omega | (simp only [mS_iff, eq_self, Int.reduceEq, true_and, and_true, false_and, and_false, and_self, ↓reduceIte]; omega) | (simp only [mS_iff, eq_self, Int.reduceEq, true_and, and_true, false_and, and_false, and_self, ↓reduceIte] at *; omega)) ?_
        refine And.intro (show (m3 (m 20 k) 2) ≠ -9 by first | omega | (simp only [mS_iff, eq_self, Int.reduceEq, true_and, and_true, false_and, and_false, and_self, ↓reduceIte]; omega) | (simp only [mS_iff, eq_self, Int.reduceEq, true_and, and_true, false_and, and_false, and_self, ↓reduceIte] at *; omega)) ?_
        refine And.intro (fun h1 => ?_) (fun h1 => ?_)
        · refine K78 _ ?_ ?_ ?_ ?_
          · first | omega | (simp only [mS_iff, eq_self, Int.reduceEq, true_and, and_true, false_and, and_false, and_self, ↓reduceIte]; omega) | (simp only [mS_iff, eq_self, Int.reduceEq, true_and, and_true, false_and, and_false, and_self, ↓reduceIte] at *; omega)
          · exact g3
          · exact hqs
          · have ne : ¬ (S 12 k ≠ -1 ∧ s_her S day (S 12 k)) := by
              intro ⟨q1, q2⟩
              first | exact hh q2 | omega
            rw [q_Q_s hP.1 day (by omega) kk, if_neg ne]
            exact i3
        · have e1 : m3 (m 20 k) 2 = m3 20 (S 12 k) := by rw [p5, rm.2.2 (by omega)]
          refine And.intro (show (m3 (m 20 k) (-1)) = 11 by first | assumption | omega | (simp only [mS_iff, eq_self, Int.reduceEq, true_and, and_true, false_and, and_false, and_self, ↓reduceIte]; omega) | (simp only [mS_iff, eq_self, Int.reduceEq, true_and, and_true, false_and, and_false, and_self, ↓reduceIte] at *; omega)) ?_
          rw [e1]
          refine And.intro (rfl) ?_
          refine ct_102 (by omega) hP3 (p := S 12 k) (by omega) (fun h2 => ?_) (fun h2 => ?_)
          · have hh := h2
            refine And.intro (fun h => absurd h (by decide)) (fun _ => ?_)
            refine And.intro (show (m3 (m 20 k) (-1)) = 11 by first | assumption | omega | (simp only [mS_iff, eq_self, Int.reduceEq, true_and, and_true, false_and, and_false, and_self, ↓reduceIte]; omega) | (simp only [mS_iff, eq_self, Int.reduceEq, true_and, and_true, false_and, and_false, and_self, ↓reduceIte] at *; omega)) ?_
            rw [e1]
            refine And.intro (rfl) ?_
            refine ct_101 (by omega) hS3 hP3 (by omega) (f := S 12 k) (by omega) i3 (q_len_all _ _ (q_len_all _ _ (Nat.zero_le _))) (q_in_all' _ _ ok1 okf.2) (hqs (S 12 k) (by omega) (by omega)) okm.1 okm.2 (fun mw3 h4 h5 => ?_)
            refine K78 _ ?_ ?_ ?_ ?_
            · first | omega | (simp only [mS_iff, eq_self, Int.reduceEq, true_and, and_true, false_and, and_false, and_self, ↓reduceIte]; omega) | (simp only [mS_iff, eq_self, Int.reduceEq, true_and, and_true, false_and, and_false, and_self, ↓reduceIte] at *; omega)
            · exact g3.trans (h4.Q)
            · exact hqs.keep hP.1 (by omega) h4
            · rw [q_Q_s hP.1 day (by omega) kk, if_pos (show S 12 k ≠ -1 ∧ s_her S day (S 12 k) from ⟨by omega, hh⟩)]; exact h5
          · have hh := h2
            refine And.intro (fun _ => ?_) (fun h => absurd h (by decide))
            refine K78 _ ?_ ?_ ?_ ?_
            · first | omega | (simp only [mS_iff, eq_self, Int.reduceEq, true_and, and_true, false_and, and_false, and_self, ↓reduceIte]; omega) | (simp only [mS_iff, eq_self, Int.reduceEq, true_and, and_true, false_and, and_false, and_self, ↓reduceIte] at *; omega)
            · exact g3
            · exact hqs
            · have ne : ¬ (S 12 k ≠ -1 ∧ s_her S day (S 12 k)) := by
                intro ⟨q1, q2⟩
                first | exact hh q2 | omega
              rw [q_Q_s hP.1 day (by omega) kk, if_neg ne]
              exact i3
      have K41 : ∀ (m3 : aM), (k < S 0 4) → (fr_Q m m3) → (hQs S day k m3) → (hQr m3 k (q_all S [] (if S 15 k = -1 then [] else [S 15 k]))) → am_WP am_G (am_wpc am_G am_T d) [] cd_99 Q 41 [aR 1, aI day, aI k, aR (m 20 k)] [] m3 := by
        intro m3 kk g3 hqs i3
        have hS3 := g3.As hS
        have hP3 := g3.Ps hP
        have eq20 : m3 20 = m 20 := g3.at (by omega) (by omega)
        obtain ⟨p1, p2, p3, p4, p5, p6, p7, p8, p9⟩ := hP3.2.2.1 k (by omega) kk
        rw [eq20] at p1 p2 p3 p4 p5 p6 p7 p8 p9
        have zk := z1 k (by omega) kk
        have rf := hP3.ref (a := S 11 k) (by omega) (by omega)
        have rm := hP3.ref (a := S 12 k) (by omega) (by omega)
        have ok1 : ∀ b ∈ q_all S [] (if S 15 k = -1 then [] else [S 15 k]), 0 ≤ b ∧ b < S 0 3 := q_in_all' _ _ (fun b hb => absurd hb List.not_mem_nil) (fun b hb => by
          by_cases e : S 15 k = -1
          · rw [if_pos e] at hb; cases hb
          · rw [if_neg e, List.mem_singleton] at hb; omega)
        have okf := q_Q_ok hP.1 (day := day) (p := S 11 k) (by omega) (by omega)
        have okm := q_Q_ok hP.1 (day := day) (p := S 12 k) (by omega) (by omega)
        refine am_go 400 [2, 78, 50, 41] (am_wpc_cm _ _ _) wf_99 ?_
        by_cases fa : S 11 k = -1
        · have e0 : m3 (m 20 k) 1 = 0 := by omega
          refine And.intro (show (m3 (m 20 k) (-1)) = 11 by first | assumption | omega | (simp only [mS_iff, eq_self, Int.reduceEq, true_and, and_true, false_and, and_false, and_self, ↓reduceIte]; omega) | (simp only [mS_iff, eq_self, Int.reduceEq, true_and, and_true, false_and, and_false, and_self, ↓reduceIte] at *; omega)) ?_
          rw [e0]
          refine And.intro (rfl) ?_
          refine ct_101n (by omega) ?_
          refine K50 _ ?_ ?_ ?_ ?_
          · first | omega | (simp only [mS_iff, eq_self, Int.reduceEq, true_and, and_true, false_and, and_false, and_self, ↓reduceIte]; omega) | (simp only [mS_iff, eq_self, Int.reduceEq, true_and, and_true, false_and, and_false, and_self, ↓reduceIte] at *; omega)
          · exact g3
          · exact hqs
          · rw [show S 11 k = -1 by omega, q_Q_n]; exact i3
        · have e0 : m3 (m 20 k) 1 = m3 20 (S 11 k) := by rw [p4, rf.2.2 fa]
          refine And.intro (show (m3 (m 20 k) (-1)) = 11 by first | assumption | omega | (simp only [mS_iff, eq_self, Int.reduceEq, true_and, and_true, false_and, and_false, and_self, ↓reduceIte]; omega) | (simp only [mS_iff, eq_self, Int.reduceEq, true_and, and_true, false_and, and_false, and_self, ↓reduceIte] at *; omega)) ?_
          rw [e0]
          refine And.intro (rfl) ?_
          refine ct_101 (by omega) hS3 hP3 (by omega) (f := S 11 k) (by omega) i3 (q_len_all _ _ (Nat.zero_le _)) ok1 (hqs (S 11 k) (by omega) (by omega)) okf.1 okf.2 (fun mw9 h10 h11 => ?_)
          refine K50 _ ?_ ?_ ?_ ?_
          · first | omega | (simp only [mS_iff, eq_self, Int.reduceEq, true_and, and_true, false_and, and_false, and_self, ↓reduceIte]; omega) | (simp only [mS_iff, eq_self, Int.reduceEq, true_and, and_true, false_and, and_false, and_self, ↓reduceIte] at *; omega)
          · exact g3.trans (h10.Q)
          · exact hqs.keep hP.1 (by omega) h10
          · exact h11
      refine am_go 400 [2, 78, 50, 41] (am_wpc_cm _ _ _) wf_99 ?_
      refine And.intro (rfl) ?_
      refine And.intro (fun h12 => ?_) (fun h12 => ?_)
      · exact hQ _ g2 (by rw [show S 0 4 = k by omega]; exact i1)
      · refine And.intro (rfl) ?_
        refine And.intro (⟨rfl, by first | omega | (simp only [mS_iff, eq_self, Int.reduceEq, true_and, and_true, false_and, and_false, and_self, ↓reduceIte]; omega) | (simp only [mS_iff, eq_self, Int.reduceEq, true_and, and_true, false_and, and_false, and_self, ↓reduceIte] at *; omega)⟩) ?_
        have hP2 := g2.Ps hP
        obtain ⟨p1, p2, p3, p4, p5, p6, p7, p8, p9⟩ := hP2.2.2.1 k (by omega) (by omega)
        have zk := z1 k (by omega) (by omega)
        have fw : fr_q k m2 (mS m2 22 k 0) := fun r j x y => by rw [mS_iff, if_neg (by omega)]
        have hq0 : hQr (mS m2 22 k 0) k [] := ⟨mS_eq _ _ _ _, fun j hj => absurd hj (Nat.not_lt_zero _)⟩
        have frw := g2.trans fw.Q
        have ow9 : mS m2 22 k 0 (m2 20 k) 6 = S 15 k := by rw [mS_a _ _ _ _ (by omega)]; exact p9
        have ow1 : mS m2 22 k 0 (m2 20 k) (-1) = 11 := by rw [mS_a _ _ _ _ (by omega)]; exact p2
        refine And.intro (rfl) ?_
        refine And.intro (⟨rfl, by first | omega | (simp only [mS_iff, eq_self, Int.reduceEq, true_and, and_true, false_and, and_false, and_self, ↓reduceIte]; omega) | (simp only [mS_iff, eq_self, Int.reduceEq, true_and, and_true, false_and, and_false, and_self, ↓reduceIte] at *; omega)⟩) ?_
        have ow : mS m2 22 k 0 (m2 20 k) = m2 (m2 20 k) := funext fun j => mS_a _ _ _ _ (by omega)
        refine And.intro (ow1) ?_
        refine And.intro (fun h13 => ?_) (fun h13 => ?_)
        · replace h13 : ((mS m2 22 k 0) (m2 20 k) 6) = (-1) := h13
          rw [e20]
          refine K41 _ ?_ ?_ ?_ ?_
          · first | omega | (simp only [mS_iff, eq_self, Int.reduceEq, true_and, and_true, false_and, and_false, and_self, ↓reduceIte]; omega) | (simp only [mS_iff, eq_self, Int.reduceEq, true_and, and_true, false_and, and_false, and_self, ↓reduceIte] at *; omega)
          · exact g2.trans fw.Q
          · exact i1.keep hP.1 (by omega) fw
          · rw [if_pos (by omega)]; exact hq0
        · replace h13 : ((mS m2 22 k 0) (m2 20 k) 6) ≠ (-1) := h13
          refine And.intro (ow1) ?_
          refine And.intro (rfl) ?_
          refine ct_100 (l := []) (by omega) (frw.As hS) (by omega) (by rw [ow9]; omega) hq0 (Nat.zero_le _) (fun b hb => absurd hb List.not_mem_nil) (fun mw14 h15 h16 => ?_)
          rw [ow9] at h16
          replace fw := fw.trans h15
          have hq1 := h16
          rw [e20]
          refine K41 _ ?_ ?_ ?_ ?_
          · first | omega | (simp only [mS_iff, eq_self, Int.reduceEq, true_and, and_true, false_and, and_false, and_self, ↓reduceIte]; omega) | (simp only [mS_iff, eq_self, Int.reduceEq, true_and, and_true, false_and, and_false, and_self, ↓reduceIte] at *; omega)
          · exact g2.trans fw.Q
          · exact i1.keep hP.1 (by omega) fw
          · rw [if_neg (by omega)]; exact hq1
  refine am_go 400 [2, 78, 50, 41] (am_wpc_cm _ _ _) wf_99 ?_
  refine K2 _ _ _ _ (Eq.refl _) ?_ ?_ ?_
  · first | omega | (simp only [mS_iff, eq_self, Int.reduceEq, true_and, and_true, false_and, and_false, and_self, ↓reduceIte]; omega) | (simp only [mS_iff, eq_self, Int.reduceEq, true_and, and_true, false_and, and_false, and_self, ↓reduceIte] at *; omega)
  · exact fun _ _ _ _ => rfl
  · intro p a b
    omega
