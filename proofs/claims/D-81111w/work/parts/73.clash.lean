/-! needs: 72 -/
/-! CONTRACTS: clashes; by tools/gen73.py -/
set_option maxRecDepth 100000
def s_mk (S : aM) (day x : Int) : Int := if x = -1 then 0 else s_mark S day x
theorem s_mk_n {S : aM} {day x : Int} (h : x = -1) : s_mk S day x = 0 := by unfold s_mk; rw [if_pos h]
theorem s_mk_y {S : aM} {day x : Int} (h : x ≠ -1) : s_mk S day x = s_mark S day x := by unfold s_mk; rw [if_neg h]
def s_ali (S : aM) (day a b : Int) : Prop := (q_Q S day a).length ≠ 0 ∧ (q_Q S day a).length = (q_Q S day b).length ∧ (∀ j : Nat, j < (q_Q S day a).length → s_one S ((q_Q S day a).getD j 0) ((q_Q S day b).getD j 0)) ∧ ∀ g : Nat, s_mk S day (s_fore S a g) = s_mk S day (s_fore S b g)
theorem s_fore_1 (S : aM) (p : Int) (g : Nat) : s_fore S p (g + 1) = if s_fore S p g = -1 then -1 else S 11 (s_fore S p g) := rfl
theorem s_mk_end {S : aM} {day a b : Int} {g : Nat} (h1 : s_fore S a g = -1) (h2 : s_fore S b g = -1) (h : ∀ k, k < g → s_mk S day (s_fore S a k) = s_mk S day (s_fore S b k)) : ∀ k : Nat, s_mk S day (s_fore S a k) = s_mk S day (s_fore S b k) := fun k => by
  by_cases e : k < g
  · exact h k e
  · have e1 := s_fore_n h1 (k - g)
    have e2 := s_fore_n h2 (k - g)
    rw [show g + (k - g) = k by omega] at e1 e2
    rw [e1, e2]
/-- do the pair q (40 a + b) clash -/
noncomputable def s_cl (S : aM) (day q : Int) : Int := @ite _ (q / 40 < q % 40 ∧ q % 40 < S 0 4 ∧ S 10 (q / 40) = 0 ∧ S 10 (q % 40) = 0 ∧ s_lives S day (q / 40) ∧ s_lives S day (q % 40) ∧ s_ali S day (q / 40) (q % 40)) (Classical.propDecidable _) 1 0
theorem s_cl_b (S : aM) (day q : Int) : 0 ≤ s_cl S day q ∧ s_cl S day q ≤ 1 := by
  unfold s_cl
  split <;> omega
theorem s_cl_1 {S : aM} {day a b : Int} (h : 0 ≤ a ∧ a < b ∧ b < S 0 4 ∧ S 0 4 ≤ 40) (h1 : S 10 a = 0) (h2 : S 10 b = 0) (h3 : s_lives S day a) (h4 : s_lives S day b) (h5 : s_ali S day a b) : s_cl S day (40 * a + b) = 1 := by
  unfold s_cl
  rw [show (40 * a + b) / 40 = a by omega, show (40 * a + b) % 40 = b by omega, if_pos ⟨h.2.1, h.2.2.1, h1, h2, h3, h4, h5⟩]
theorem s_cl_0 {S : aM} {day a b : Int} (h : 0 ≤ a ∧ a < b ∧ b < S 0 4 ∧ S 0 4 ≤ 40) (n : ¬ (S 10 a = 0 ∧ S 10 b = 0 ∧ s_lives S day a ∧ s_lives S day b ∧ s_ali S day a b)) : s_cl S day (40 * a + b) = 0 := by
  unfold s_cl
  rw [show (40 * a + b) / 40 = a by omega, show (40 * a + b) % 40 = b by omega, if_neg (fun q => n ⟨q.2.2.1, q.2.2.2.1, q.2.2.2.2.1, q.2.2.2.2.2.1, q.2.2.2.2.2.2⟩)]
theorem s_cl_z {S : aM} {day q : Int} (h : q % 40 ≤ q / 40 ∨ S 0 4 ≤ q % 40) : s_cl S day q = 0 := by
  unfold s_cl
  rw [if_neg (fun g => by have := g.1; have := g.2.1; omega)]
noncomputable def s_cn (S : aM) (day q : Int) : Int := s_sum (s_cl S day) q.toNat
theorem s_cn_s {S : aM} {day q : Int} (h : 0 ≤ q) : s_cn S day (q + 1) = s_cn S day q + s_cl S day q := s_sum_s h
theorem s_cn_z {S : aM} {day p q : Int} (h : 0 ≤ p) (hq : p ≤ q) (z : ∀ k, p ≤ k → k < q → k % 40 ≤ k / 40 ∨ S 0 4 ≤ k % 40) : s_cn S day q = s_cn S day p := s_sum_z (by omega) (fun k a b => s_cl_z (z k (by omega) (by omega)))
theorem s_cn_b (S : aM) (day : Int) {q : Int} (h : 0 ≤ q) : 0 ≤ s_cn S day q ∧ s_cn S day q ≤ q := by
  have := s_sum_b (s_cl_b S day) q.toNat
  unfold s_cn
  omega
/-- in all -/
noncomputable def s_ct (S : aM) (day : Int) : Int := s_cn S day 1700
def s_cv (q : Int) : Int := 100 * (q / 40) + q % 40
theorem ct_104r {d : Nat} {m : aM} {Q : aO → aM → Prop} {S : aM} {p day r : Int} (hd : 2 ≤ d) (hr : r = m 20 p) (hP : hPs S m) (hp : 0 ≤ p ∧ p < S 0 4) (hQ : ∀ x, x = s_mark S day p → Q (.inl (some (aI x))) m) : am_wpc am_G am_T d 104 [aR 1, aR r, aI day] m Q := by
  subst hr
  exact ct_104 hd hP hp hQ
theorem ct_107 {d : Nat} {m : aM} {Q : aO → aM → Prop} {S : aM} {lo hi : Int → Int} {a b day : Int} (hd : 4 ≤ d) (hS : hAs S lo hi m) (hP : hPs S m) (hq : hQs S day (S 0 4) m) (ha : 0 ≤ a ∧ a < S 0 4) (hb : 0 ≤ b ∧ b < S 0 4) (hQ1 : s_ali S day a b → Q (.inl (some (aI 1))) m) (hQ0 : ¬ s_ali S day a b → Q (.inl (some (aI 0))) m) : am_wpc am_G am_T d 107 [aR 1, aI a, aI b, aI day] m Q := by
  obtain ⟨z0, z1⟩ := hP.1
  have qa := hq a ha.1 ha.2
  have qb := hq b hb.1 hb.2
  have oa := q_Q_ok hP.1 (day := day) (p := a) (by omega) (by omega)
  have ob := q_Q_ok hP.1 (day := day) (p := b) (by omega) (by omega)
  have la := qa.1
  have lb := qb.1
  have z2 := hS.1
  refine am_in rfl hd (fun d hd => ?_)
  have K104 : ∀ (N : Nat), ∀ (g : Nat) (u : Int) (v : Int), (s_fore S a g + s_fore S b g + 2).toNat = N → (u = hpr m (s_fore S a g) ∧ v = hpr m (s_fore S b g)) → ((q_Q S day a).length ≠ 0 ∧ (q_Q S day a).length = (q_Q S day b).length ∧ ∀ j : Nat, j < (q_Q S day a).length → s_one S ((q_Q S day a).getD j 0) ((q_Q S day b).getD j 0)) → (∀ k, k < g → s_mk S day (s_fore S a k) = s_mk S day (s_fore S b k)) → am_WP am_G (am_wpc am_G am_T d) [] cd_107 Q 104 [aR 1, aI a, aI b, aI day, aR u, aR v] [] m := by
    intro N
    induction N using Nat.strongRecOn with
    | _ N ih104 =>
      intro g u v hN i0 i1 i2
      have fa := s_fore_b hP.1 (p := a) (by omega) (by omega) g
      have fb := s_fore_b hP.1 (p := b) (by omega) (by omega) g
      have sa := s_fore_1 S a g
      have sb := s_fore_1 S b g
      generalize hx : s_fore S a g = x at *
      generalize hy : s_fore S b g = y at *
      have rx := hP.ref (a := x) (by omega) (by split at fa <;> omega)
      have ry := hP.ref (a := y) (by omega) (by split at fb <;> omega)
      refine am_go 400 [104, 29] (am_wpc_cm _ _ _) wf_107 ?_
      rcases (by omega : (x = -1 ∧ y = -1) ∨ (x = -1 ∧ y ≠ -1) ∨ (x ≠ -1 ∧ y = -1) ∨ (x ≠ -1 ∧ y ≠ -1)) with ⟨cx, cy⟩ | ⟨cx, cy⟩ | ⟨cx, cy⟩ | ⟨cx, cy⟩
      · rw [if_pos cx] at sa
        have mx := s_mk_n (S := S) (day := day) cx
        have u0 : u = 0 := by omega
        rw [if_pos cy] at sb
        have my := s_mk_n (S := S) (day := day) cy
        have v0 : v = 0 := by omega
        refine And.intro (show u ≠ -9 by first | omega | (simp only [mS_iff, eq_self, Int.reduceEq, true_and, and_true, false_and, and_false, and_self, ↓reduceIte]; omega) | (simp only [mS_iff, eq_self, Int.reduceEq, true_and, and_true, false_and, and_false, and_self, ↓reduceIte] at *; omega)) ?_
        refine And.intro (fun h => absurd h (by omega)) (fun _ => ?_)
        refine And.intro (show v ≠ -9 by first | omega | (simp only [mS_iff, eq_self, Int.reduceEq, true_and, and_true, false_and, and_false, and_self, ↓reduceIte]; omega) | (simp only [mS_iff, eq_self, Int.reduceEq, true_and, and_true, false_and, and_false, and_self, ↓reduceIte] at *; omega)) ?_
        refine And.intro (fun _ => ?_) (fun h => absurd h (by omega))
        refine And.intro (by first | omega | (simp only [mS_iff, eq_self, Int.reduceEq, true_and, and_true, false_and, and_false, and_self, ↓reduceIte]; omega) | (simp only [mS_iff, eq_self, Int.reduceEq, true_and, and_true, false_and, and_false, and_self, ↓reduceIte] at *; omega)) ?_
        exact hQ1 ⟨i1.1, i1.2.1, i1.2.2, s_mk_end (g := g) (by rw [hx]; exact cx) (by rw [hy]; exact cy) i2⟩
      · rw [if_pos cx] at sa
        have mx := s_mk_n (S := S) (day := day) cx
        have u0 : u = 0 := by omega
        obtain ⟨y1, y2, y3, y4, -⟩ := hP.2.2.1 y (by omega) (by omega)
        have vy : v = m 20 y := by have := ry.2.2 cy; omega
        have v2 : m v (-1) = 11 := by rw [vy]; exact y2
        have zy := z1 y (by omega) (by omega)
        have v4 : m v 1 = hpr m (S 11 y) := by rw [vy]; exact y4
        rw [if_neg cy] at sb
        have my := s_mk_y (S := S) (day := day) cy
        refine And.intro (show u ≠ -9 by first | omega | (simp only [mS_iff, eq_self, Int.reduceEq, true_and, and_true, false_and, and_false, and_self, ↓reduceIte]; omega) | (simp only [mS_iff, eq_self, Int.reduceEq, true_and, and_true, false_and, and_false, and_self, ↓reduceIte] at *; omega)) ?_
        refine And.intro (fun h => absurd h (by omega)) (fun _ => ?_)
        refine And.intro (show v ≠ -9 by first | omega | (simp only [mS_iff, eq_self, Int.reduceEq, true_and, and_true, false_and, and_false, and_self, ↓reduceIte]; omega) | (simp only [mS_iff, eq_self, Int.reduceEq, true_and, and_true, false_and, and_false, and_self, ↓reduceIte] at *; omega)) ?_
        refine And.intro (fun h => absurd h (by omega)) (fun _ => ?_)
        refine And.intro (show u ≠ -9 by first | omega | (simp only [mS_iff, eq_self, Int.reduceEq, true_and, and_true, false_and, and_false, and_self, ↓reduceIte]; omega) | (simp only [mS_iff, eq_self, Int.reduceEq, true_and, and_true, false_and, and_false, and_self, ↓reduceIte] at *; omega)) ?_
        refine And.intro (fun h => absurd h (by omega)) (fun _ => ?_)
        refine And.intro (show v ≠ -9 by first | omega | (simp only [mS_iff, eq_self, Int.reduceEq, true_and, and_true, false_and, and_false, and_self, ↓reduceIte]; omega) | (simp only [mS_iff, eq_self, Int.reduceEq, true_and, and_true, false_and, and_false, and_self, ↓reduceIte] at *; omega)) ?_
        refine And.intro (fun _ => ?_) (fun h => absurd h (by omega))
        refine And.intro (rfl) ?_
        refine ct_104r (p := y) (by omega) (by omega) hP (by omega) (fun v1 h2 => ?_)
        refine And.intro (fun h3 => ?_) (fun h3 => ?_)
        · refine And.intro (show u ≠ -9 by first | omega | (simp only [mS_iff, eq_self, Int.reduceEq, true_and, and_true, false_and, and_false, and_self, ↓reduceIte]; omega) | (simp only [mS_iff, eq_self, Int.reduceEq, true_and, and_true, false_and, and_false, and_self, ↓reduceIte] at *; omega)) ?_
          refine And.intro (fun h => absurd h (by omega)) (fun _ => ?_)
          refine And.intro (show v ≠ -9 by first | omega | (simp only [mS_iff, eq_self, Int.reduceEq, true_and, and_true, false_and, and_false, and_self, ↓reduceIte]; omega) | (simp only [mS_iff, eq_self, Int.reduceEq, true_and, and_true, false_and, and_false, and_self, ↓reduceIte] at *; omega)) ?_
          refine And.intro (fun _ => ?_) (fun h => absurd h (by omega))
          refine And.intro (show (m v (-1)) = 11 by first | assumption | omega | (simp only [mS_iff, eq_self, Int.reduceEq, true_and, and_true, false_and, and_false, and_self, ↓reduceIte]; omega) | (simp only [mS_iff, eq_self, Int.reduceEq, true_and, and_true, false_and, and_false, and_self, ↓reduceIte] at *; omega)) ?_
          refine ih104 _ ?_ (g + 1) _ _ (Eq.refl _) ?_ ?_ ?_
          · rw [sa, sb]; omega
          · exact ⟨by rw [sa]; first | exact u4 | rfl, by rw [sb]; first | exact v4 | rfl⟩
          · exact i1
          · intro k hk
            by_cases e : k = g
            · rw [e, hx, hy, mx, my]; omega
            · exact i2 k (by omega)
        · refine And.intro (by first | omega | (simp only [mS_iff, eq_self, Int.reduceEq, true_and, and_true, false_and, and_false, and_self, ↓reduceIte]; omega) | (simp only [mS_iff, eq_self, Int.reduceEq, true_and, and_true, false_and, and_false, and_self, ↓reduceIte] at *; omega)) ?_
          exact hQ0 (fun q => by have := q.2.2.2 g; rw [hx, hy, mx, my] at this; omega)
      · obtain ⟨x1, x2, x3, x4, -⟩ := hP.2.2.1 x (by omega) (by omega)
        have ux : u = m 20 x := by have := rx.2.2 cx; omega
        have u2 : m u (-1) = 11 := by rw [ux]; exact x2
        have zx := z1 x (by omega) (by omega)
        have u4 : m u 1 = hpr m (S 11 x) := by rw [ux]; exact x4
        rw [if_neg cx] at sa
        have mx := s_mk_y (S := S) (day := day) cx
        rw [if_pos cy] at sb
        have my := s_mk_n (S := S) (day := day) cy
        have v0 : v = 0 := by omega
        refine And.intro (show u ≠ -9 by first | omega | (simp only [mS_iff, eq_self, Int.reduceEq, true_and, and_true, false_and, and_false, and_self, ↓reduceIte]; omega) | (simp only [mS_iff, eq_self, Int.reduceEq, true_and, and_true, false_and, and_false, and_self, ↓reduceIte] at *; omega)) ?_
        refine And.intro (fun _ => ?_) (fun h => absurd h (by omega))
        refine And.intro (show u ≠ -9 by first | omega | (simp only [mS_iff, eq_self, Int.reduceEq, true_and, and_true, false_and, and_false, and_self, ↓reduceIte]; omega) | (simp only [mS_iff, eq_self, Int.reduceEq, true_and, and_true, false_and, and_false, and_self, ↓reduceIte] at *; omega)) ?_
        refine And.intro (fun _ => ?_) (fun h => absurd h (by omega))
        refine And.intro (rfl) ?_
        refine ct_104r (p := x) (by omega) (by omega) hP (by omega) (fun v4 h5 => ?_)
        refine And.intro (show v ≠ -9 by first | omega | (simp only [mS_iff, eq_self, Int.reduceEq, true_and, and_true, false_and, and_false, and_self, ↓reduceIte]; omega) | (simp only [mS_iff, eq_self, Int.reduceEq, true_and, and_true, false_and, and_false, and_self, ↓reduceIte] at *; omega)) ?_
        refine And.intro (fun h => absurd h (by omega)) (fun _ => ?_)
        refine And.intro (fun h6 => ?_) (fun h6 => ?_)
        · refine And.intro (show u ≠ -9 by first | omega | (simp only [mS_iff, eq_self, Int.reduceEq, true_and, and_true, false_and, and_false, and_self, ↓reduceIte]; omega) | (simp only [mS_iff, eq_self, Int.reduceEq, true_and, and_true, false_and, and_false, and_self, ↓reduceIte] at *; omega)) ?_
          refine And.intro (fun _ => ?_) (fun h => absurd h (by omega))
          refine And.intro (show (m u (-1)) = 11 by first | assumption | omega | (simp only [mS_iff, eq_self, Int.reduceEq, true_and, and_true, false_and, and_false, and_self, ↓reduceIte]; omega) | (simp only [mS_iff, eq_self, Int.reduceEq, true_and, and_true, false_and, and_false, and_self, ↓reduceIte] at *; omega)) ?_
          refine And.intro (show v ≠ -9 by first | omega | (simp only [mS_iff, eq_self, Int.reduceEq, true_and, and_true, false_and, and_false, and_self, ↓reduceIte]; omega) | (simp only [mS_iff, eq_self, Int.reduceEq, true_and, and_true, false_and, and_false, and_self, ↓reduceIte] at *; omega)) ?_
          refine And.intro (fun h => absurd h (by omega)) (fun _ => ?_)
          refine ih104 _ ?_ (g + 1) _ _ (Eq.refl _) ?_ ?_ ?_
          · rw [sa, sb]; omega
          · exact ⟨by rw [sa]; first | exact u4 | rfl, by rw [sb]; first | exact v4 | rfl⟩
          · exact i1
          · intro k hk
            by_cases e : k = g
            · rw [e, hx, hy, mx, my]; omega
            · exact i2 k (by omega)
        · refine And.intro (by first | omega | (simp only [mS_iff, eq_self, Int.reduceEq, true_and, and_true, false_and, and_false, and_self, ↓reduceIte]; omega) | (simp only [mS_iff, eq_self, Int.reduceEq, true_and, and_true, false_and, and_false, and_self, ↓reduceIte] at *; omega)) ?_
          exact hQ0 (fun q => by have := q.2.2.2 g; rw [hx, hy, mx, my] at this; omega)
      · obtain ⟨x1, x2, x3, x4, -⟩ := hP.2.2.1 x (by omega) (by omega)
        have ux : u = m 20 x := by have := rx.2.2 cx; omega
        have u2 : m u (-1) = 11 := by rw [ux]; exact x2
        have zx := z1 x (by omega) (by omega)
        have u4 : m u 1 = hpr m (S 11 x) := by rw [ux]; exact x4
        rw [if_neg cx] at sa
        have mx := s_mk_y (S := S) (day := day) cx
        obtain ⟨y1, y2, y3, y4, -⟩ := hP.2.2.1 y (by omega) (by omega)
        have vy : v = m 20 y := by have := ry.2.2 cy; omega
        have v2 : m v (-1) = 11 := by rw [vy]; exact y2
        have zy := z1 y (by omega) (by omega)
        have v4 : m v 1 = hpr m (S 11 y) := by rw [vy]; exact y4
        rw [if_neg cy] at sb
        have my := s_mk_y (S := S) (day := day) cy
        refine And.intro (show u ≠ -9 by first | omega | (simp only [mS_iff, eq_self, Int.reduceEq, true_and, and_true, false_and, and_false, and_self, ↓reduceIte]; omega) | (simp only [mS_iff, eq_self, Int.reduceEq, true_and, and_true, false_and, and_false, and_self, ↓reduceIte] at *; omega)) ?_
        refine And.intro (fun _ => ?_) (fun h => absurd h (by omega))
        refine And.intro (show u ≠ -9 by first | omega | (simp only [mS_iff, eq_self, Int.reduceEq, true_and, and_true, false_and, and_false, and_self, ↓reduceIte]; omega) | (simp only [mS_iff, eq_self, Int.reduceEq, true_and, and_true, false_and, and_false, and_self, ↓reduceIte] at *; omega)) ?_
        refine And.intro (fun _ => ?_) (fun h => absurd h (by omega))
        refine And.intro (rfl) ?_
        refine ct_104r (p := x) (by omega) (by omega) hP (by omega) (fun v7 h8 => ?_)
        refine And.intro (show v ≠ -9 by first | omega | (simp only [mS_iff, eq_self, Int.reduceEq, true_and, and_true, false_and, and_false, and_self, ↓reduceIte]; omega) | (simp only [mS_iff, eq_self, Int.reduceEq, true_and, and_true, false_and, and_false, and_self, ↓reduceIte] at *; omega)) ?_
        refine And.intro (fun _ => ?_) (fun h => absurd h (by omega))
        refine And.intro (rfl) ?_
        refine ct_104r (p := y) (by omega) (by omega) hP (by omega) (fun v9 h10 => ?_)
        refine And.intro (fun h11 => ?_) (fun h11 => ?_)
        · refine And.intro (show u ≠ -9 by first | omega | (simp only [mS_iff, eq_self, Int.reduceEq, true_and, and_true, false_and, and_false, and_self, ↓reduceIte]; omega) | (simp only [mS_iff, eq_self, Int.reduceEq, true_and, and_true, false_and, and_false, and_self, ↓reduceIte] at *; omega)) ?_
          refine And.intro (fun _ => ?_) (fun h => absurd h (by omega))
          refine And.intro (show (m u (-1)) = 11 by first | assumption | omega | (simp only [mS_iff, eq_self, Int.reduceEq, true_and, and_true, false_and, and_false, and_self, ↓reduceIte]; omega) | (simp only [mS_iff, eq_self, Int.reduceEq, true_and, and_true, false_and, and_false, and_self, ↓reduceIte] at *; omega)) ?_
          refine And.intro (show v ≠ -9 by first | omega | (simp only [mS_iff, eq_self, Int.reduceEq, true_and, and_true, false_and, and_false, and_self, ↓reduceIte]; omega) | (simp only [mS_iff, eq_self, Int.reduceEq, true_and, and_true, false_and, and_false, and_self, ↓reduceIte] at *; omega)) ?_
          refine And.intro (fun _ => ?_) (fun h => absurd h (by omega))
          refine And.intro (show (m v (-1)) = 11 by first | assumption | omega | (simp only [mS_iff, eq_self, Int.reduceEq, true_and, and_true, false_and, and_false, and_self, ↓reduceIte]; omega) | (simp only [mS_iff, eq_self, Int.reduceEq, true_and, and_true, false_and, and_false, and_self, ↓reduceIte] at *; omega)) ?_
          refine ih104 _ ?_ (g + 1) _ _ (Eq.refl _) ?_ ?_ ?_
          · rw [sa, sb]; omega
          · exact ⟨by rw [sa]; first | exact u4 | rfl, by rw [sb]; first | exact v4 | rfl⟩
          · exact i1
          · intro k hk
            by_cases e : k = g
            · rw [e, hx, hy, mx, my]; omega
            · exact i2 k (by omega)
        · refine And.intro (by first | omega | (simp only [mS_iff, eq_self, Int.reduceEq, true_and, and_true, false_and, and_false, and_self, ↓reduceIte]; omega) | (simp only [mS_iff, eq_self, Int.reduceEq, true_and, and_true, false_and, and_false, and_self, ↓reduceIte] at *; omega)) ?_
          exact hQ0 (fun q => by have := q.2.2.2 g; rw [hx, hy, mx, my] at this; omega)
  have K29 : ∀ (N : Nat), ∀ (k : Int), (12 - k).toNat = N → (0 ≤ k ∧ k ≤ (q_Q S day a).length ∧ (q_Q S day a).length ≠ 0 ∧ (q_Q S day a).length = (q_Q S day b).length) → (∀ j : Nat, j < k → s_one S ((q_Q S day a).getD j 0) ((q_Q S day b).getD j 0)) → am_WP am_G (am_wpc am_G am_T d) [] cd_107 Q 29 [aR 1, aI a, aI b, aI day, aI k, aU] [] m := by
    intro N
    induction N using Nat.strongRecOn with
    | _ N ih29 =>
      intro k hN i0 i1
      refine am_go 400 [104, 29] (am_wpc_cm _ _ _) wf_107 ?_
      refine And.intro (rfl) ?_
      refine And.intro (⟨rfl, by first | omega | (simp only [mS_iff, eq_self, Int.reduceEq, true_and, and_true, false_and, and_false, and_self, ↓reduceIte]; omega) | (simp only [mS_iff, eq_self, Int.reduceEq, true_and, and_true, false_and, and_false, and_self, ↓reduceIte] at *; omega)⟩) ?_
      refine And.intro (fun h12 => ?_) (fun h12 => ?_)
      · refine And.intro (rfl) ?_
        refine And.intro (⟨rfl, by first | omega | (simp only [mS_iff, eq_self, Int.reduceEq, true_and, and_true, false_and, and_false, and_self, ↓reduceIte]; omega) | (simp only [mS_iff, eq_self, Int.reduceEq, true_and, and_true, false_and, and_false, and_self, ↓reduceIte] at *; omega)⟩) ?_
        refine And.intro (rfl) ?_
        refine And.intro (⟨rfl, by first | omega | (simp only [mS_iff, eq_self, Int.reduceEq, true_and, and_true, false_and, and_false, and_self, ↓reduceIte]; omega) | (simp only [mS_iff, eq_self, Int.reduceEq, true_and, and_true, false_and, and_false, and_self, ↓reduceIte] at *; omega)⟩) ?_
        refine K104 _ (0) _ _ (Eq.refl _) ?_ ?_ ?_
        · exact ⟨by show _ = hpr m a; unfold hpr; rw [if_neg (by omega)], by show _ = hpr m b; unfold hpr; rw [if_neg (by omega)]⟩
        · exact ⟨by omega, by omega, fun j hj => i1 j (by omega)⟩
        · intro k hk
          omega
      · have ya := qa.at (k := k) (by omega) (by omega)
        have yb := qb.at (k := k) (by omega) (by omega)
        have yx := oa.2 _ ya.2
        have yy := ob.2 _ yb.2
        refine And.intro (rfl) ?_
        refine And.intro (rfl) ?_
        refine And.intro (show -2147483648 ≤ 12 * a ∧ 12 * a ≤ 2147483647 by first | omega | (simp only [mS_iff, eq_self, Int.reduceEq, true_and, and_true, false_and, and_false, and_self, ↓reduceIte]; omega) | (simp only [mS_iff, eq_self, Int.reduceEq, true_and, and_true, false_and, and_false, and_self, ↓reduceIte] at *; omega)) ?_
        refine And.intro (show -2147483648 ≤ (12 * a) + k ∧ (12 * a) + k ≤ 2147483647 by first | omega | (simp only [mS_iff, eq_self, Int.reduceEq, true_and, and_true, false_and, and_false, and_self, ↓reduceIte]; omega) | (simp only [mS_iff, eq_self, Int.reduceEq, true_and, and_true, false_and, and_false, and_self, ↓reduceIte] at *; omega)) ?_
        refine And.intro (⟨rfl, by first | omega | (simp only [mS_iff, eq_self, Int.reduceEq, true_and, and_true, false_and, and_false, and_self, ↓reduceIte]; omega) | (simp only [mS_iff, eq_self, Int.reduceEq, true_and, and_true, false_and, and_false, and_self, ↓reduceIte] at *; omega)⟩) ?_
        refine And.intro (⟨rfl, by rw [ya.1]; omega⟩) ?_
        refine And.intro (rfl) ?_
        refine And.intro (rfl) ?_
        refine And.intro (show -2147483648 ≤ 12 * b ∧ 12 * b ≤ 2147483647 by first | omega | (simp only [mS_iff, eq_self, Int.reduceEq, true_and, and_true, false_and, and_false, and_self, ↓reduceIte]; omega) | (simp only [mS_iff, eq_self, Int.reduceEq, true_and, and_true, false_and, and_false, and_self, ↓reduceIte] at *; omega)) ?_
        refine And.intro (show -2147483648 ≤ (12 * b) + k ∧ (12 * b) + k ≤ 2147483647 by first | omega | (simp only [mS_iff, eq_self, Int.reduceEq, true_and, and_true, false_and, and_false, and_self, ↓reduceIte]; omega) | (simp only [mS_iff, eq_self, Int.reduceEq, true_and, and_true, false_and, and_false, and_self, ↓reduceIte] at *; omega)) ?_
        refine And.intro (⟨rfl, by first | omega | (simp only [mS_iff, eq_self, Int.reduceEq, true_and, and_true, false_and, and_false, and_self, ↓reduceIte]; omega) | (simp only [mS_iff, eq_self, Int.reduceEq, true_and, and_true, false_and, and_false, and_self, ↓reduceIte] at *; omega)⟩) ?_
        refine And.intro (⟨rfl, by rw [yb.1]; omega⟩) ?_
        refine ct_61 (by omega) (by rw [ya.1]; exact hS.2.2.1 _ yx.1 yx.2) (by rw [yb.1]; exact hS.2.2.1 _ yy.1 yy.2) (fun v13 h14 => ?_)
        have o1 := hS.one yx.1 yx.2 yy.1 yy.2
        have o2 := s_pt_b (S (100 + (q_Q S day a).getD k.toNat 0)) (S (100 + (q_Q S day b).getD k.toNat 0))
        refine And.intro (fun h15 => ?_) (fun h15 => ?_)
        · refine And.intro (show -2147483648 ≤ k + 1 ∧ k + 1 ≤ 2147483647 by first | omega | (simp only [mS_iff, eq_self, Int.reduceEq, true_and, and_true, false_and, and_false, and_self, ↓reduceIte]; omega) | (simp only [mS_iff, eq_self, Int.reduceEq, true_and, and_true, false_and, and_false, and_self, ↓reduceIte] at *; omega)) ?_
          refine ih29 _ ?_ _ (Eq.refl _) ?_ ?_
          · omega
          · first | omega | (simp only [mS_iff, eq_self, Int.reduceEq, true_and, and_true, false_and, and_false, and_self, ↓reduceIte]; omega) | (simp only [mS_iff, eq_self, Int.reduceEq, true_and, and_true, false_and, and_false, and_self, ↓reduceIte] at *; omega)
          · intro j hj
            by_cases e : (j : Int) = k
            · rw [show j = k.toNat by omega]; exact o1.mp (by omega)
            · exact i1 j (by omega)
        · refine And.intro (by first | omega | (simp only [mS_iff, eq_self, Int.reduceEq, true_and, and_true, false_and, and_false, and_self, ↓reduceIte]; omega) | (simp only [mS_iff, eq_self, Int.reduceEq, true_and, and_true, false_and, and_false, and_self, ↓reduceIte] at *; omega)) ?_
          exact hQ0 (fun q => by have := o1.mpr (q.2.2.1 k.toNat (by omega)); omega)
  refine am_go 400 [104, 29] (am_wpc_cm _ _ _) wf_107 ?_
  refine And.intro (rfl) ?_
  refine And.intro (⟨rfl, by first | omega | (simp only [mS_iff, eq_self, Int.reduceEq, true_and, and_true, false_and, and_false, and_self, ↓reduceIte]; omega) | (simp only [mS_iff, eq_self, Int.reduceEq, true_and, and_true, false_and, and_false, and_self, ↓reduceIte] at *; omega)⟩) ?_
  refine And.intro (fun h16 => ?_) (fun h16 => ?_)
  · refine And.intro (by first | omega | (simp only [mS_iff, eq_self, Int.reduceEq, true_and, and_true, false_and, and_false, and_self, ↓reduceIte]; omega) | (simp only [mS_iff, eq_self, Int.reduceEq, true_and, and_true, false_and, and_false, and_self, ↓reduceIte] at *; omega)) ?_
    exact hQ0 (fun q => by have := q.1; have := q.2.1; omega)
  · refine And.intro (rfl) ?_
    refine And.intro (⟨rfl, by first | omega | (simp only [mS_iff, eq_self, Int.reduceEq, true_and, and_true, false_and, and_false, and_self, ↓reduceIte]; omega) | (simp only [mS_iff, eq_self, Int.reduceEq, true_and, and_true, false_and, and_false, and_self, ↓reduceIte] at *; omega)⟩) ?_
    refine And.intro (rfl) ?_
    refine And.intro (⟨rfl, by first | omega | (simp only [mS_iff, eq_self, Int.reduceEq, true_and, and_true, false_and, and_false, and_self, ↓reduceIte]; omega) | (simp only [mS_iff, eq_self, Int.reduceEq, true_and, and_true, false_and, and_false, and_self, ↓reduceIte] at *; omega)⟩) ?_
    refine And.intro (fun h17 => ?_) (fun h17 => ?_)
    · refine K29 _ _ (Eq.refl _) ?_ ?_
      · first | omega | (simp only [mS_iff, eq_self, Int.reduceEq, true_and, and_true, false_and, and_false, and_self, ↓reduceIte]; omega) | (simp only [mS_iff, eq_self, Int.reduceEq, true_and, and_true, false_and, and_false, and_self, ↓reduceIte] at *; omega)
      · intro j hj
        omega
    · refine And.intro (by first | omega | (simp only [mS_iff, eq_self, Int.reduceEq, true_and, and_true, false_and, and_false, and_self, ↓reduceIte]; omega) | (simp only [mS_iff, eq_self, Int.reduceEq, true_and, and_true, false_and, and_false, and_self, ↓reduceIte] at *; omega)) ?_
      exact hQ0 (fun q => by have := q.1; have := q.2.1; omega)
theorem ct_321r {d : Nat} {m : aM} {Q : aO → aM → Prop} {S : aM} {p day r : Int} (hd : 1 ≤ d) (hr : r = m 20 p) (hP : hPs S m) (hp : 0 ≤ p ∧ p < S 0 4) (hQ1 : s_lives S day p → Q (.inl (some (aI 1))) m) (hQ0 : ¬ s_lives S day p → Q (.inl (some (aI 0))) m) : am_wpc am_G am_T d 321 [aR r, aI day] m Q := by
  subst hr
  exact ct_321 hd hP hp hQ1 hQ0
theorem fr_1.As {S m m' : aM} {lo hi : Int → Int} {p : Int} (h : fr_1 p m m') (hp : p ≠ 20) (g : hAs S lo hi m) : hAs S lo hi m' := g.keep h.K (h 1 20 (by omega)) (h.at (by omega))
theorem fr_1.Ps {S m m' : aM} {p : Int} (h : fr_1 p m m') (hp : p ≠ 22) (g : hPs S m) : hPs S m' := g.keep h.K (h 1 22 (by omega)) (h.at (by omega))
theorem fr_1.Qs {S m m' : aM} {p day k : Int} (h : fr_1 p m m') (g : hQs S day k m) : hQs S day k m' := fun q a b => by
  have := g q a b
  unfold hQr at *
  rw [h.at (by omega), h.at (by omega)]
  exact this
theorem s_cl_ith {S : aM} {day n i q : Int} (hn : 0 ≤ n) (h : s_ith (s_cl S day) (n + 1) i q) : s_ith (s_cl S day) n i q ∨ (q = n ∧ s_cl S day n = 1 ∧ s_cn S day n = i) := s_ith_s hn h
/-- q is the i-th of the pairs that clash -/
def s_ci (S : aM) (day n i q : Int) : Prop := s_ith (s_cl S day) n i q
theorem s_ci_z {S : aM} {day p n i q : Int} (hp : 0 ≤ p) (h : p ≤ n) (z : ∀ k, p ≤ k → k < n → k % 40 ≤ k / 40 ∨ S 0 4 ≤ k % 40) (g : s_ci S day n i q) : s_ci S day p i q := by
  obtain ⟨g1, g2, g3, g4⟩ := g
  refine ⟨g1, ?_, g3, g4⟩
  by_cases e : q < p
  · exact e
  · have := s_cl_z (S := S) (day := day) (z q (by omega) g2)
    omega
/-- from m to m' only quarters and place 25 of the house are written -/
def fr_C (m m' : aM) : Prop := ∀ r j, r ≠ 21 → r ≠ 22 → (r ≠ 1 ∨ j ≠ 25) → m' r j = m r j
theorem ct_106 {d : Nat} {m : aM} {Q : aO → aM → Prop} {S : aM} {lo hi : Int → Int} {day i : Int} (hd : 7 ≤ d) (hS : hAs S lo hi m) (hP : hPs S m) (hQ : ∀ m' x, fr_C m m' → x = s_ct S day → (∀ q, s_ci S day 1700 i q → m' 1 25 = s_cv q) → Q (.inl (some (aI x))) m') : am_wpc am_G am_T d 106 [aR 1, aI day, aI i] m Q := by
  obtain ⟨z0, z1⟩ := hP.1
  refine am_in rfl hd (fun d hd => ?_)
  have KK : ∀ m1, fr_Q m m1 → hQs S day (S 0 4) m1 → am_WP am_G (am_wpc am_G am_T d) [] cd_106 Q 5 [aR 1, aI day, aI i, aU, aU, aU, aU] [] m1 := by
    intro m1 f1 hq1
    have hS1 := f1.As hS
    have hP1 := f1.Ps hP
    have K10 : ∀ (N : Nat), ∀ (n : Int) (a : Int) (x5 : aV) (x6 : aV), ∀ (m2 : aM), (40 - a).toNat = N → (0 ≤ a ∧ a ≤ S 0 4) → (fr_1 25 m1 m2) → (n = s_cn S day (40 * a + (a + 1))) → (∀ q, s_ci S day (40 * a + (a + 1)) i q → m2 1 25 = s_cv q) → am_WP am_G (am_wpc am_G am_T d) [] cd_106 Q 10 [aR 1, aI day, aI i, aI n, aI a, x5, x6] [] m2 := by
      intro N
      induction N using Nat.strongRecOn with
      | _ N ih10 =>
        intro n a x5 x6 m2 hN i0 f2 i1 i2
        have e22 := f2 1 22 (by omega)
        have e22b := hP1.2.1
        have hP2 := f2.Ps (by omega) hP1
        have K25 : ∀ (N : Nat), ∀ (n : Int) (b : Int) (x6 : aV), ∀ (m4 : aM), (40 - b).toNat = N → (a < b ∧ b ≤ S 0 4) → (fr_1 25 m1 m4) → (n = s_cn S day (40 * a + b)) → (∀ q, s_ci S day (40 * a + b) i q → m4 1 25 = s_cv q) → am_WP am_G (am_wpc am_G am_T d) [] cd_106 Q 25 [aR 1, aI day, aI i, aI n, aI a, aI b, x6] [] m4 := by
          intro N
          induction N using Nat.strongRecOn with
          | _ N ih25 =>
            intro n b x6 m4 hN j0 f2 i1 i2
            have e22 := f2 1 22 (by omega)
            have e22b := hP1.2.1
            have hP2 := f2.Ps (by omega) hP1
            have cb := s_cn_b S day (q := 40 * a + b) (by omega)
            have K95 : ∀ (t : Int), (b < S 0 4) → ((t = 1 ∧ (S 10 a = 0 ∧ S 10 b = 0) ∧ s_lives S day a ∧ s_lives S day b) ∨ (t = 0 ∧ ¬ (S 10 a = 0 ∧ S 10 b = 0 ∧ s_lives S day a ∧ s_lives S day b))) → am_WP am_G (am_wpc am_G am_T d) [] cd_106 Q 95 [aR 1, aI day, aI i, aI n, aI a, aI b, aI t] [] m4 := by
              intro t jj tt
              have hS2 := f2.As (by omega) hS1
              have hq2 := f2.Qs hq1
              obtain ⟨a1, a2, a3, -⟩ := hP2.2.2.1 a (by omega) (by omega)
              obtain ⟨b1, b2, b3, -⟩ := hP2.2.2.1 b (by omega) (by omega)
              have za := z1 a (by omega) (by omega)
              have zb := z1 b (by omega) (by omega)
              refine am_go 400 [10, 25, 95] (am_wpc_cm _ _ _) wf_106 ?_
              rcases tt with ⟨t1, tt⟩ | ⟨t0, tt⟩
              · skip
                refine And.intro (fun h => absurd h (by first | omega | (simp only [mS_iff, eq_self, Int.reduceEq, true_and, and_true, false_and, and_false, and_self, ↓reduceIte]; omega) | (simp only [mS_iff, eq_self, Int.reduceEq, true_and, and_true, false_and, and_false, and_self, ↓reduceIte] at *; omega))) (fun _ => ?_)
                refine And.intro (rfl) ?_
                refine ct_107 (by omega) hS2 hP2 hq2 (by omega) (by omega) (fun h1 => ?_) (fun h1 => ?_)
                · have c1 := s_cl_1 (S := S) (day := day) (a := a) (b := b) (by omega) (by omega) (by omega) tt.2.1 tt.2.2 h1
                  refine And.intro (fun h => absurd h (by decide)) (fun _ => ?_)
                  refine And.intro (fun h2 => ?_) (fun h2 => ?_)
                  · refine And.intro (rfl) ?_
                    refine And.intro (rfl) ?_
                    refine And.intro (show -2147483648 ≤ n + 1 ∧ n + 1 ≤ 2147483647 by first | omega | (simp only [mS_iff, eq_self, Int.reduceEq, true_and, and_true, false_and, and_false, and_self, ↓reduceIte]; omega) | (simp only [mS_iff, eq_self, Int.reduceEq, true_and, and_true, false_and, and_false, and_self, ↓reduceIte] at *; omega)) ?_
                    refine And.intro (show -2147483648 ≤ b + 1 ∧ b + 1 ≤ 2147483647 by first | omega | (simp only [mS_iff, eq_self, Int.reduceEq, true_and, and_true, false_and, and_false, and_self, ↓reduceIte]; omega) | (simp only [mS_iff, eq_self, Int.reduceEq, true_and, and_true, false_and, and_false, and_self, ↓reduceIte] at *; omega)) ?_
                    refine ih25 _ ?_ _ _ _ _ (Eq.refl _) ?_ ?_ ?_ ?_
                    · omega
                    · first | omega | (simp only [mS_iff, eq_self, Int.reduceEq, true_and, and_true, false_and, and_false, and_self, ↓reduceIte]; omega) | (simp only [mS_iff, eq_self, Int.reduceEq, true_and, and_true, false_and, and_false, and_self, ↓reduceIte] at *; omega)
                    · intro r j hh
                      have := f2 r j hh
                      try simp only [mS_iff, eq_self, Int.reduceEq, true_and, and_true, false_and, and_false, and_self, ↓reduceIte]
                      first | exact this | (rw [if_neg (by omega)]; exact this)
                    · rw [show 40 * a + (b + 1) = 40 * a + b + 1 by omega, s_cn_s (by omega)]; omega
                    · intro q hq
                      rw [show 40 * a + (b + 1) = 40 * a + b + 1 by omega] at hq
                      rcases s_cl_ith (by omega) hq with hq | hq
                      · have := i2 q hq
                        have u := s_ith_b (fun k => (s_cl_b S day k).1) hq
                        have u2 : s_sum (s_cl S day) (40 * a + b).toNat = s_cn S day (40 * a + b) := rfl
                        (try simp only [mS_iff, eq_self, Int.reduceEq, true_and, and_true, false_and, and_false, and_self, ↓reduceIte])
                        omega
                      · (try simp only [mS_iff, eq_self, Int.reduceEq, true_and, and_true, false_and, and_false, and_self, ↓reduceIte])
                        unfold s_cv
                        omega
                  · refine And.intro (show -2147483648 ≤ 100 * a ∧ 100 * a ≤ 2147483647 by first | omega | (simp only [mS_iff, eq_self, Int.reduceEq, true_and, and_true, false_and, and_false, and_self, ↓reduceIte]; omega) | (simp only [mS_iff, eq_self, Int.reduceEq, true_and, and_true, false_and, and_false, and_self, ↓reduceIte] at *; omega)) ?_
                    refine And.intro (show -2147483648 ≤ (100 * a) + b ∧ (100 * a) + b ≤ 2147483647 by first | omega | (simp only [mS_iff, eq_self, Int.reduceEq, true_and, and_true, false_and, and_false, and_self, ↓reduceIte]; omega) | (simp only [mS_iff, eq_self, Int.reduceEq, true_and, and_true, false_and, and_false, and_self, ↓reduceIte] at *; omega)) ?_
                    refine And.intro (rfl) ?_
                    refine And.intro (show -2147483648 ≤ n + 1 ∧ n + 1 ≤ 2147483647 by first | omega | (simp only [mS_iff, eq_self, Int.reduceEq, true_and, and_true, false_and, and_false, and_self, ↓reduceIte]; omega) | (simp only [mS_iff, eq_self, Int.reduceEq, true_and, and_true, false_and, and_false, and_self, ↓reduceIte] at *; omega)) ?_
                    refine And.intro (show -2147483648 ≤ b + 1 ∧ b + 1 ≤ 2147483647 by first | omega | (simp only [mS_iff, eq_self, Int.reduceEq, true_and, and_true, false_and, and_false, and_self, ↓reduceIte]; omega) | (simp only [mS_iff, eq_self, Int.reduceEq, true_and, and_true, false_and, and_false, and_self, ↓reduceIte] at *; omega)) ?_
                    refine ih25 _ ?_ _ _ _ _ (Eq.refl _) ?_ ?_ ?_ ?_
                    · omega
                    · first | omega | (simp only [mS_iff, eq_self, Int.reduceEq, true_and, and_true, false_and, and_false, and_self, ↓reduceIte]; omega) | (simp only [mS_iff, eq_self, Int.reduceEq, true_and, and_true, false_and, and_false, and_self, ↓reduceIte] at *; omega)
                    · intro r j hh
                      have := f2 r j hh
                      try simp only [mS_iff, eq_self, Int.reduceEq, true_and, and_true, false_and, and_false, and_self, ↓reduceIte]
                      first | exact this | (rw [if_neg (by omega)]; exact this)
                    · rw [show 40 * a + (b + 1) = 40 * a + b + 1 by omega, s_cn_s (by omega)]; omega
                    · intro q hq
                      rw [show 40 * a + (b + 1) = 40 * a + b + 1 by omega] at hq
                      rcases s_cl_ith (by omega) hq with hq | hq
                      · have := i2 q hq
                        have u := s_ith_b (fun k => (s_cl_b S day k).1) hq
                        have u2 : s_sum (s_cl S day) (40 * a + b).toNat = s_cn S day (40 * a + b) := rfl
                        (try simp only [mS_iff, eq_self, Int.reduceEq, true_and, and_true, false_and, and_false, and_self, ↓reduceIte])
                        omega
                      · (try simp only [mS_iff, eq_self, Int.reduceEq, true_and, and_true, false_and, and_false, and_self, ↓reduceIte])
                        unfold s_cv
                        omega
                · have c1 := s_cl_0 (S := S) (day := day) (a := a) (b := b) (by omega) (fun q => h1 q.2.2.2.2)
                  refine And.intro (fun _ => ?_) (fun h => absurd h (by decide))
                  refine And.intro (show -2147483648 ≤ b + 1 ∧ b + 1 ≤ 2147483647 by first | omega | (simp only [mS_iff, eq_self, Int.reduceEq, true_and, and_true, false_and, and_false, and_self, ↓reduceIte]; omega) | (simp only [mS_iff, eq_self, Int.reduceEq, true_and, and_true, false_and, and_false, and_self, ↓reduceIte] at *; omega)) ?_
                  refine ih25 _ ?_ _ _ _ _ (Eq.refl _) ?_ ?_ ?_ ?_
                  · omega
                  · first | omega | (simp only [mS_iff, eq_self, Int.reduceEq, true_and, and_true, false_and, and_false, and_self, ↓reduceIte]; omega) | (simp only [mS_iff, eq_self, Int.reduceEq, true_and, and_true, false_and, and_false, and_self, ↓reduceIte] at *; omega)
                  · intro r j hh
                    have := f2 r j hh
                    try simp only [mS_iff, eq_self, Int.reduceEq, true_and, and_true, false_and, and_false, and_self, ↓reduceIte]
                    first | exact this | (rw [if_neg (by omega)]; exact this)
                  · rw [show 40 * a + (b + 1) = 40 * a + b + 1 by omega, s_cn_s (by omega)]; omega
                  · intro q hq
                    rw [show 40 * a + (b + 1) = 40 * a + b + 1 by omega] at hq
                    rcases s_cl_ith (by omega) hq with hq | hq
                    · have := i2 q hq
                      have u := s_ith_b (fun k => (s_cl_b S day k).1) hq
                      have u2 : s_sum (s_cl S day) (40 * a + b).toNat = s_cn S day (40 * a + b) := rfl
                      (try simp only [mS_iff, eq_self, Int.reduceEq, true_and, and_true, false_and, and_false, and_self, ↓reduceIte])
                      omega
                    · (try simp only [mS_iff, eq_self, Int.reduceEq, true_and, and_true, false_and, and_false, and_self, ↓reduceIte])
                      unfold s_cv
                      omega
              · have c1 := s_cl_0 (S := S) (day := day) (a := a) (b := b) (by omega) (fun q => tt ⟨q.1, q.2.1, q.2.2.1, q.2.2.2.1⟩)
                refine And.intro (fun _ => ?_) (fun h => absurd h (by first | omega | (simp only [mS_iff, eq_self, Int.reduceEq, true_and, and_true, false_and, and_false, and_self, ↓reduceIte]; omega) | (simp only [mS_iff, eq_self, Int.reduceEq, true_and, and_true, false_and, and_false, and_self, ↓reduceIte] at *; omega)))
                refine And.intro (show -2147483648 ≤ b + 1 ∧ b + 1 ≤ 2147483647 by first | omega | (simp only [mS_iff, eq_self, Int.reduceEq, true_and, and_true, false_and, and_false, and_self, ↓reduceIte]; omega) | (simp only [mS_iff, eq_self, Int.reduceEq, true_and, and_true, false_and, and_false, and_self, ↓reduceIte] at *; omega)) ?_
                refine ih25 _ ?_ _ _ _ _ (Eq.refl _) ?_ ?_ ?_ ?_
                · omega
                · first | omega | (simp only [mS_iff, eq_self, Int.reduceEq, true_and, and_true, false_and, and_false, and_self, ↓reduceIte]; omega) | (simp only [mS_iff, eq_self, Int.reduceEq, true_and, and_true, false_and, and_false, and_self, ↓reduceIte] at *; omega)
                · intro r j hh
                  have := f2 r j hh
                  try simp only [mS_iff, eq_self, Int.reduceEq, true_and, and_true, false_and, and_false, and_self, ↓reduceIte]
                  first | exact this | (rw [if_neg (by omega)]; exact this)
                · rw [show 40 * a + (b + 1) = 40 * a + b + 1 by omega, s_cn_s (by omega)]; omega
                · intro q hq
                  rw [show 40 * a + (b + 1) = 40 * a + b + 1 by omega] at hq
                  rcases s_cl_ith (by omega) hq with hq | hq
                  · have := i2 q hq
                    have u := s_ith_b (fun k => (s_cl_b S day k).1) hq
                    have u2 : s_sum (s_cl S day) (40 * a + b).toNat = s_cn S day (40 * a + b) := rfl
                    (try simp only [mS_iff, eq_self, Int.reduceEq, true_and, and_true, false_and, and_false, and_self, ↓reduceIte])
                    omega
                  · (try simp only [mS_iff, eq_self, Int.reduceEq, true_and, and_true, false_and, and_false, and_self, ↓reduceIte])
                    unfold s_cv
                    omega
            refine am_go 400 [10, 25, 95] (am_wpc_cm _ _ _) wf_106 ?_
            refine And.intro (rfl) ?_
            refine And.intro (fun h3 => ?_) (fun h3 => ?_)
            · refine And.intro (show -2147483648 ≤ a + 1 ∧ a + 1 ≤ 2147483647 by first | omega | (simp only [mS_iff, eq_self, Int.reduceEq, true_and, and_true, false_and, and_false, and_self, ↓reduceIte]; omega) | (simp only [mS_iff, eq_self, Int.reduceEq, true_and, and_true, false_and, and_false, and_self, ↓reduceIte] at *; omega)) ?_
              refine ih10 _ ?_ _ _ _ _ _ (Eq.refl _) ?_ ?_ ?_ ?_
              · omega
              · first | omega | (simp only [mS_iff, eq_self, Int.reduceEq, true_and, and_true, false_and, and_false, and_self, ↓reduceIte]; omega) | (simp only [mS_iff, eq_self, Int.reduceEq, true_and, and_true, false_and, and_false, and_self, ↓reduceIte] at *; omega)
              · exact f2
              · rw [s_cn_z (p := 40 * a + b) (by omega) (by omega) (fun k h1 h2 => by omega)]; omega
              · intro q hq
                exact i2 q (s_ci_z (p := 40 * a + b) (by omega) (by omega) (fun k h1 h2 => by omega) hq)
            · have hS2 := f2.As (by omega) hS1
              have hq2 := f2.Qs hq1
              obtain ⟨a1, a2, a3, -⟩ := hP2.2.2.1 a (by omega) (by omega)
              obtain ⟨b1, b2, b3, -⟩ := hP2.2.2.1 b (by omega) (by omega)
              have za := z1 a (by omega) (by omega)
              have zb := z1 b (by omega) (by omega)
              refine And.intro (rfl) ?_
              refine And.intro (⟨rfl, by first | omega | (simp only [mS_iff, eq_self, Int.reduceEq, true_and, and_true, false_and, and_false, and_self, ↓reduceIte]; omega) | (simp only [mS_iff, eq_self, Int.reduceEq, true_and, and_true, false_and, and_false, and_self, ↓reduceIte] at *; omega)⟩) ?_
              refine And.intro (show (m4 (m4 20 a) (-1)) = 11 by first | assumption | omega | (simp only [mS_iff, eq_self, Int.reduceEq, true_and, and_true, false_and, and_false, and_self, ↓reduceIte]; omega) | (simp only [mS_iff, eq_self, Int.reduceEq, true_and, and_true, false_and, and_false, and_self, ↓reduceIte] at *; omega)) ?_
              refine And.intro (fun h4 => ?_) (fun h4 => ?_)
              · refine K95 _ ?_ ?_
                · first | omega | (simp only [mS_iff, eq_self, Int.reduceEq, true_and, and_true, false_and, and_false, and_self, ↓reduceIte]; omega) | (simp only [mS_iff, eq_self, Int.reduceEq, true_and, and_true, false_and, and_false, and_self, ↓reduceIte] at *; omega)
                · first
                    | exact Or.inl ⟨rfl, by omega, va, vb⟩
                    | exact Or.inr ⟨rfl, fun q => by first | exact va q.2.2.1 | exact vb q.2.2.2 | omega⟩
              · refine And.intro (rfl) ?_
                refine And.intro (⟨rfl, by first | omega | (simp only [mS_iff, eq_self, Int.reduceEq, true_and, and_true, false_and, and_false, and_self, ↓reduceIte]; omega) | (simp only [mS_iff, eq_self, Int.reduceEq, true_and, and_true, false_and, and_false, and_self, ↓reduceIte] at *; omega)⟩) ?_
                refine And.intro (show (m4 (m4 20 b) (-1)) = 11 by first | assumption | omega | (simp only [mS_iff, eq_self, Int.reduceEq, true_and, and_true, false_and, and_false, and_self, ↓reduceIte]; omega) | (simp only [mS_iff, eq_self, Int.reduceEq, true_and, and_true, false_and, and_false, and_self, ↓reduceIte] at *; omega)) ?_
                refine And.intro (fun h5 => ?_) (fun h5 => ?_)
                · refine K95 _ ?_ ?_
                  · first | omega | (simp only [mS_iff, eq_self, Int.reduceEq, true_and, and_true, false_and, and_false, and_self, ↓reduceIte]; omega) | (simp only [mS_iff, eq_self, Int.reduceEq, true_and, and_true, false_and, and_false, and_self, ↓reduceIte] at *; omega)
                  · first
                      | exact Or.inl ⟨rfl, by omega, va, vb⟩
                      | exact Or.inr ⟨rfl, fun q => by first | exact va q.2.2.1 | exact vb q.2.2.2 | omega⟩
                · refine And.intro (rfl) ?_
                  refine And.intro (⟨rfl, by first | omega | (simp only [mS_iff, eq_self, Int.reduceEq, true_and, and_true, false_and, and_false, and_self, ↓reduceIte]; omega) | (simp only [mS_iff, eq_self, Int.reduceEq, true_and, and_true, false_and, and_false, and_self, ↓reduceIte] at *; omega)⟩) ?_
                  refine And.intro (by first | assumption | omega | (simp only [mS_iff, eq_self, Int.reduceEq, true_and, and_true, false_and, and_false, and_self, ↓reduceIte]; omega)) ?_
                  refine ct_321r (p := a) (by omega) rfl hP2 (by omega) (fun h6 => ?_) (fun h6 => ?_)
                  · have va := h6
                    refine And.intro (fun h => absurd h (by decide)) (fun _ => ?_)
                    refine And.intro (rfl) ?_
                    refine And.intro (⟨rfl, by first | omega | (simp only [mS_iff, eq_self, Int.reduceEq, true_and, and_true, false_and, and_false, and_self, ↓reduceIte]; omega) | (simp only [mS_iff, eq_self, Int.reduceEq, true_and, and_true, false_and, and_false, and_self, ↓reduceIte] at *; omega)⟩) ?_
                    refine And.intro (by first | assumption | omega | (simp only [mS_iff, eq_self, Int.reduceEq, true_and, and_true, false_and, and_false, and_self, ↓reduceIte]; omega)) ?_
                    refine ct_321r (p := b) (by omega) rfl hP2 (by omega) (fun h7 => ?_) (fun h7 => ?_)
                    · have vb := h7
                      refine And.intro (fun h => absurd h (by decide)) (fun _ => ?_)
                      refine K95 _ ?_ ?_
                      · first | omega | (simp only [mS_iff, eq_self, Int.reduceEq, true_and, and_true, false_and, and_false, and_self, ↓reduceIte]; omega) | (simp only [mS_iff, eq_self, Int.reduceEq, true_and, and_true, false_and, and_false, and_self, ↓reduceIte] at *; omega)
                      · first
                          | exact Or.inl ⟨rfl, by omega, va, vb⟩
                          | exact Or.inr ⟨rfl, fun q => by first | exact va q.2.2.1 | exact vb q.2.2.2 | omega⟩
                    · have vb := h7
                      refine And.intro (fun _ => ?_) (fun h => absurd h (by decide))
                      refine K95 _ ?_ ?_
                      · first | omega | (simp only [mS_iff, eq_self, Int.reduceEq, true_and, and_true, false_and, and_false, and_self, ↓reduceIte]; omega) | (simp only [mS_iff, eq_self, Int.reduceEq, true_and, and_true, false_and, and_false, and_self, ↓reduceIte] at *; omega)
                      · first
                          | exact Or.inl ⟨rfl, by omega, va, vb⟩
                          | exact Or.inr ⟨rfl, fun q => by first | exact va q.2.2.1 | exact vb q.2.2.2 | omega⟩
                  · have va := h6
                    refine And.intro (fun _ => ?_) (fun h => absurd h (by decide))
                    refine K95 _ ?_ ?_
                    · first | omega | (simp only [mS_iff, eq_self, Int.reduceEq, true_and, and_true, false_and, and_false, and_self, ↓reduceIte]; omega) | (simp only [mS_iff, eq_self, Int.reduceEq, true_and, and_true, false_and, and_false, and_self, ↓reduceIte] at *; omega)
                    · first
                        | exact Or.inl ⟨rfl, by omega, va, vb⟩
                        | exact Or.inr ⟨rfl, fun q => by first | exact va q.2.2.1 | exact vb q.2.2.2 | omega⟩
        refine am_go 400 [10, 25, 95] (am_wpc_cm _ _ _) wf_106 ?_
        refine And.intro (rfl) ?_
        refine And.intro (fun h8 => ?_) (fun h8 => ?_)
        · refine hQ _ _ (fun r j h1 h2 h3 => ?_) ?_ (fun q hq => i2 q (s_ci_z (by omega) (by omega) (fun k h1 h2 => by omega) hq))
          · rw [f2 r j (by omega)]; exact f1 r j h1 h2
          · rw [i1]
            unfold s_ct
            exact (s_cn_z (p := 40 * a + (a + 1)) (by omega) (by omega) (fun k h1 h2 => by omega)).symm
        · refine And.intro (show -2147483648 ≤ a + 1 ∧ a + 1 ≤ 2147483647 by first | omega | (simp only [mS_iff, eq_self, Int.reduceEq, true_and, and_true, false_and, and_false, and_self, ↓reduceIte]; omega) | (simp only [mS_iff, eq_self, Int.reduceEq, true_and, and_true, false_and, and_false, and_self, ↓reduceIte] at *; omega)) ?_
          refine K25 _ _ _ _ _ (Eq.refl _) ?_ ?_ ?_ ?_
          · first | omega | (simp only [mS_iff, eq_self, Int.reduceEq, true_and, and_true, false_and, and_false, and_self, ↓reduceIte]; omega) | (simp only [mS_iff, eq_self, Int.reduceEq, true_and, and_true, false_and, and_false, and_self, ↓reduceIte] at *; omega)
          · exact f2
          · exact i1
          · exact i2
    refine am_go 400 [10, 25, 95] (am_wpc_cm _ _ _) wf_106 ?_
    refine K10 _ _ _ _ _ _ (Eq.refl _) ?_ ?_ ?_ ?_
    · first | omega | (simp only [mS_iff, eq_self, Int.reduceEq, true_and, and_true, false_and, and_false, and_self, ↓reduceIte]; omega) | (simp only [mS_iff, eq_self, Int.reduceEq, true_and, and_true, false_and, and_false, and_self, ↓reduceIte] at *; omega)
    · exact fun _ _ _ => rfl
    · rw [s_cn_z (p := 0) (by omega) (by omega) (fun k h1 h2 => by omega)]; rfl
    · intro q hq
      have := s_ci_z (p := 0) (by omega) (by omega) (fun k h1 h2 => by omega) hq
      have w1 := this.1
      have w2 := this.2.1
      omega
  refine am_go 400 [5] (am_wpc_cm _ _ _) wf_106 ?_
  refine And.intro (rfl) ?_
  exact ct_99 (by omega) hS hP (fun m1 f1 h1 => KK m1 f1 h1)
/-- only what comparing writes is written -/
def fr_a (m m' : aM) : Prop := ∀ r j, r ≠ 62 → r ≠ 63 → r ≠ 64 → (r ≠ 41 ∨ j ≠ 36) → m' r j = m r j
theorem fr_g.a {m m' : aM} (h : fr_g m m') : fr_a m m' := fun r j a b _ c => h r j a b c
theorem fr_a.trans {a b c : aM} (h : fr_a a b) (g : fr_a b c) : fr_a a c := fun r j x y z u => (g r j x y z u).trans (h r j x y z u)
theorem fr_a.As {S m m' : aM} (f : fr_a m m') (h : mAs S m) : mAs S m' := ⟨h.1, by rw [f 41 1 (by omega) (by omega) (by omega) (by omega)]; exact h.2.1, fun i x y => ⟨(h.2.2 i x y).1.keep (fun j => f 42 j (by omega) (by omega) (by omega) (by omega)), (h.2.2 i x y).2⟩⟩
theorem fr_a.Ps {S m m' : aM} (f : fr_a m m') (h : mPs S m) : mPs S m' := ⟨h.1, by rw [f 41 28 (by omega) (by omega) (by omega) (by omega)]; exact h.2.1, fun p x y => by
  rw [f 56 p (by omega) (by omega) (by omega) (by omega), f 57 p (by omega) (by omega) (by omega) (by omega), f 58 p (by omega) (by omega) (by omega) (by omega), f 59 p (by omega) (by omega) (by omega) (by omega), f 60 p (by omega) (by omega) (by omega) (by omega), f 61 p (by omega) (by omega) (by omega) (by omega)]
  exact h.2.2 p x y⟩
theorem ct_266 {d : Nat} {m : aM} {Q : aO → aM → Prop} {S : aM} {a b day : Int} (hd : 45 ≤ d) (hS : mAs S m) (hP : mPs S m) (ha : 0 ≤ a ∧ a < S 0 4) (hb : 0 ≤ b ∧ b < S 0 4) (hQ1 : s_ali S day a b → ∀ m', fr_a m m' → Q (.inl (some (aI 1))) m') (hQ0 : ¬ s_ali S day a b → ∀ m', fr_a m m' → Q (.inl (some (aI 0))) m') : am_wpc am_G am_T d 266 [aR 41, aI a, aI b, aI day] m Q := by
  obtain ⟨z0, z1⟩ := hP.1
  have oa := q_Q_ok hP.1 (day := day) (p := a) (by omega) (by omega)
  have ob := q_Q_ok hP.1 (day := day) (p := b) (by omega) (by omega)
  refine am_in rfl hd (fun d hd => ?_)
  have K109 : ∀ (N : Nat), ∀ (g : Nat) (n : Int) (u : Int) (v : Int), ∀ (m3 : aM), (s_fore S a g + s_fore S b g + 2).toNat = N → (fr_a m m3) → (u = s_fore S a g ∧ v = s_fore S b g) → ((q_Q S day a).length ≠ 0 ∧ (q_Q S day a).length = (q_Q S day b).length ∧ ∀ j : Nat, j < (q_Q S day a).length → s_one S ((q_Q S day a).getD j 0) ((q_Q S day b).getD j 0)) → (∀ k, k < g → s_mk S day (s_fore S a k) = s_mk S day (s_fore S b k)) → am_WP am_G (am_wpc am_G am_T d) [] cd_266 Q 109 [aR 41, aI a, aI b, aI day, aI n, aI u, aI v] [] m3 := by
    intro N
    induction N using Nat.strongRecOn with
    | _ N ih109 =>
      intro g n u v m3 hN f3 i0 i1 i2
      have hP3 := f3.Ps hP
      have fa := s_fore_b hP.1 (p := a) (by omega) (by omega) g
      have fb := s_fore_b hP.1 (p := b) (by omega) (by omega) g
      have sa := s_fore_1 S a g
      have sb := s_fore_1 S b g
      rw [← i0.1] at fa sa
      rw [← i0.2] at fb sb
      have bx : u < S 0 4 := by split at fa <;> omega
      have by_ : v < S 0 4 := by split at fb <;> omega
      refine am_go 400 [109, 67, 15] (am_wpc_cm _ _ _) wf_266 ?_
      rcases (by omega : (u = -1 ∧ v = -1) ∨ (u = -1 ∧ v ≠ -1) ∨ (u ≠ -1 ∧ v = -1) ∨ (u ≠ -1 ∧ v ≠ -1)) with ⟨cx, cy⟩ | ⟨cx, cy⟩ | ⟨cx, cy⟩ | ⟨cx, cy⟩
      · rw [if_pos cx] at sa
        have mx := s_mk_n (S := S) (day := day) cx
        rw [if_pos cy] at sb
        have my := s_mk_n (S := S) (day := day) cy
        refine And.intro (fun h => absurd h (by first | omega | (simp only [mS_iff, eq_self, Int.reduceEq, true_and, and_true, false_and, and_false, and_self, ↓reduceIte]; omega) | (simp only [mS_iff, eq_self, Int.reduceEq, true_and, and_true, false_and, and_false, and_self, ↓reduceIte] at *; omega))) (fun _ => ?_)
        refine And.intro (fun _ => ?_) (fun h => absurd h (by first | omega | (simp only [mS_iff, eq_self, Int.reduceEq, true_and, and_true, false_and, and_false, and_self, ↓reduceIte]; omega) | (simp only [mS_iff, eq_self, Int.reduceEq, true_and, and_true, false_and, and_false, and_self, ↓reduceIte] at *; omega)))
        refine And.intro (by first | omega | (simp only [mS_iff, eq_self, Int.reduceEq, true_and, and_true, false_and, and_false, and_self, ↓reduceIte]; omega) | (simp only [mS_iff, eq_self, Int.reduceEq, true_and, and_true, false_and, and_false, and_self, ↓reduceIte] at *; omega)) ?_
        exact hQ1 ⟨i1.1, i1.2.1, i1.2.2, s_mk_end (g := g) (by omega) (by omega) i2⟩ _ f3
      · rw [if_pos cx] at sa
        have mx := s_mk_n (S := S) (day := day) cx
        have y1 := (hP3.2.2 v (by omega) (by omega)).2.1
        have zv := z1 v (by omega) (by omega)
        rw [if_neg cy] at sb
        have my := s_mk_y (S := S) (day := day) cy
        refine And.intro (fun h => absurd h (by first | omega | (simp only [mS_iff, eq_self, Int.reduceEq, true_and, and_true, false_and, and_false, and_self, ↓reduceIte]; omega) | (simp only [mS_iff, eq_self, Int.reduceEq, true_and, and_true, false_and, and_false, and_self, ↓reduceIte] at *; omega))) (fun _ => ?_)
        refine And.intro (fun h => absurd h (by first | omega | (simp only [mS_iff, eq_self, Int.reduceEq, true_and, and_true, false_and, and_false, and_self, ↓reduceIte]; omega) | (simp only [mS_iff, eq_self, Int.reduceEq, true_and, and_true, false_and, and_false, and_self, ↓reduceIte] at *; omega))) (fun _ => ?_)
        refine And.intro (fun h => absurd h (by first | omega | (simp only [mS_iff, eq_self, Int.reduceEq, true_and, and_true, false_and, and_false, and_self, ↓reduceIte]; omega) | (simp only [mS_iff, eq_self, Int.reduceEq, true_and, and_true, false_and, and_false, and_self, ↓reduceIte] at *; omega))) (fun _ => ?_)
        refine And.intro (fun _ => ?_) (fun h => absurd h (by first | omega | (simp only [mS_iff, eq_self, Int.reduceEq, true_and, and_true, false_and, and_false, and_self, ↓reduceIte]; omega) | (simp only [mS_iff, eq_self, Int.reduceEq, true_and, and_true, false_and, and_false, and_self, ↓reduceIte] at *; omega)))
        refine And.intro (rfl) ?_
        refine ct_262 (by omega) hP3 (by omega) (fun v1 h2 => ?_)
        refine And.intro (fun h3 => ?_) (fun h3 => ?_)
        · refine And.intro (fun h => absurd h (by first | omega | (simp only [mS_iff, eq_self, Int.reduceEq, true_and, and_true, false_and, and_false, and_self, ↓reduceIte]; omega) | (simp only [mS_iff, eq_self, Int.reduceEq, true_and, and_true, false_and, and_false, and_self, ↓reduceIte] at *; omega))) (fun _ => ?_)
          refine And.intro (fun _ => ?_) (fun h => absurd h (by first | omega | (simp only [mS_iff, eq_self, Int.reduceEq, true_and, and_true, false_and, and_false, and_self, ↓reduceIte]; omega) | (simp only [mS_iff, eq_self, Int.reduceEq, true_and, and_true, false_and, and_false, and_self, ↓reduceIte] at *; omega)))
          refine And.intro (rfl) ?_
          refine And.intro (⟨rfl, by first | omega | (simp only [mS_iff, eq_self, Int.reduceEq, true_and, and_true, false_and, and_false, and_self, ↓reduceIte]; omega) | (simp only [mS_iff, eq_self, Int.reduceEq, true_and, and_true, false_and, and_false, and_self, ↓reduceIte] at *; omega)⟩) ?_
          refine ih109 _ ?_ (g + 1) _ _ _ _ (Eq.refl _) ?_ ?_ ?_ ?_
          · rw [sa, sb]; rw [← i0.1, ← i0.2] at hN; omega
          · exact f3
          · exact ⟨by first | (rw [sa]; done) | (rw [sa]; exact x1), by first | (rw [sb]; done) | (rw [sb]; exact y1)⟩
          · exact i1
          · intro k hk
            by_cases e : k = g
            · rw [e, ← i0.1, ← i0.2, mx, my]; omega
            · exact i2 k (by omega)
        · refine And.intro (by first | omega | (simp only [mS_iff, eq_self, Int.reduceEq, true_and, and_true, false_and, and_false, and_self, ↓reduceIte]; omega) | (simp only [mS_iff, eq_self, Int.reduceEq, true_and, and_true, false_and, and_false, and_self, ↓reduceIte] at *; omega)) ?_
          exact hQ0 (fun q => by have := q.2.2.2 g; rw [← i0.1, ← i0.2, mx, my] at this; omega) _ f3
      · have x1 := (hP3.2.2 u (by omega) (by omega)).2.1
        have zu := z1 u (by omega) (by omega)
        rw [if_neg cx] at sa
        have mx := s_mk_y (S := S) (day := day) cx
        rw [if_pos cy] at sb
        have my := s_mk_n (S := S) (day := day) cy
        refine And.intro (fun _ => ?_) (fun h => absurd h (by first | omega | (simp only [mS_iff, eq_self, Int.reduceEq, true_and, and_true, false_and, and_false, and_self, ↓reduceIte]; omega) | (simp only [mS_iff, eq_self, Int.reduceEq, true_and, and_true, false_and, and_false, and_self, ↓reduceIte] at *; omega)))
        refine And.intro (fun _ => ?_) (fun h => absurd h (by first | omega | (simp only [mS_iff, eq_self, Int.reduceEq, true_and, and_true, false_and, and_false, and_self, ↓reduceIte]; omega) | (simp only [mS_iff, eq_self, Int.reduceEq, true_and, and_true, false_and, and_false, and_self, ↓reduceIte] at *; omega)))
        refine And.intro (rfl) ?_
        refine ct_262 (by omega) hP3 (by omega) (fun v4 h5 => ?_)
        refine And.intro (fun h => absurd h (by first | omega | (simp only [mS_iff, eq_self, Int.reduceEq, true_and, and_true, false_and, and_false, and_self, ↓reduceIte]; omega) | (simp only [mS_iff, eq_self, Int.reduceEq, true_and, and_true, false_and, and_false, and_self, ↓reduceIte] at *; omega))) (fun _ => ?_)
        refine And.intro (fun h6 => ?_) (fun h6 => ?_)
        · refine And.intro (fun _ => ?_) (fun h => absurd h (by first | omega | (simp only [mS_iff, eq_self, Int.reduceEq, true_and, and_true, false_and, and_false, and_self, ↓reduceIte]; omega) | (simp only [mS_iff, eq_self, Int.reduceEq, true_and, and_true, false_and, and_false, and_self, ↓reduceIte] at *; omega)))
          refine And.intro (rfl) ?_
          refine And.intro (⟨rfl, by first | omega | (simp only [mS_iff, eq_self, Int.reduceEq, true_and, and_true, false_and, and_false, and_self, ↓reduceIte]; omega) | (simp only [mS_iff, eq_self, Int.reduceEq, true_and, and_true, false_and, and_false, and_self, ↓reduceIte] at *; omega)⟩) ?_
          refine And.intro (fun h => absurd h (by first | omega | (simp only [mS_iff, eq_self, Int.reduceEq, true_and, and_true, false_and, and_false, and_self, ↓reduceIte]; omega) | (simp only [mS_iff, eq_self, Int.reduceEq, true_and, and_true, false_and, and_false, and_self, ↓reduceIte] at *; omega))) (fun _ => ?_)
          refine ih109 _ ?_ (g + 1) _ _ _ _ (Eq.refl _) ?_ ?_ ?_ ?_
          · rw [sa, sb]; rw [← i0.1, ← i0.2] at hN; omega
          · exact f3
          · exact ⟨by first | (rw [sa]; done) | (rw [sa]; exact x1), by first | (rw [sb]; done) | (rw [sb]; exact y1)⟩
          · exact i1
          · intro k hk
            by_cases e : k = g
            · rw [e, ← i0.1, ← i0.2, mx, my]; omega
            · exact i2 k (by omega)
        · refine And.intro (by first | omega | (simp only [mS_iff, eq_self, Int.reduceEq, true_and, and_true, false_and, and_false, and_self, ↓reduceIte]; omega) | (simp only [mS_iff, eq_self, Int.reduceEq, true_and, and_true, false_and, and_false, and_self, ↓reduceIte] at *; omega)) ?_
          exact hQ0 (fun q => by have := q.2.2.2 g; rw [← i0.1, ← i0.2, mx, my] at this; omega) _ f3
      · have x1 := (hP3.2.2 u (by omega) (by omega)).2.1
        have zu := z1 u (by omega) (by omega)
        rw [if_neg cx] at sa
        have mx := s_mk_y (S := S) (day := day) cx
        have y1 := (hP3.2.2 v (by omega) (by omega)).2.1
        have zv := z1 v (by omega) (by omega)
        rw [if_neg cy] at sb
        have my := s_mk_y (S := S) (day := day) cy
        refine And.intro (fun _ => ?_) (fun h => absurd h (by first | omega | (simp only [mS_iff, eq_self, Int.reduceEq, true_and, and_true, false_and, and_false, and_self, ↓reduceIte]; omega) | (simp only [mS_iff, eq_self, Int.reduceEq, true_and, and_true, false_and, and_false, and_self, ↓reduceIte] at *; omega)))
        refine And.intro (fun _ => ?_) (fun h => absurd h (by first | omega | (simp only [mS_iff, eq_self, Int.reduceEq, true_and, and_true, false_and, and_false, and_self, ↓reduceIte]; omega) | (simp only [mS_iff, eq_self, Int.reduceEq, true_and, and_true, false_and, and_false, and_self, ↓reduceIte] at *; omega)))
        refine And.intro (rfl) ?_
        refine ct_262 (by omega) hP3 (by omega) (fun v7 h8 => ?_)
        refine And.intro (fun _ => ?_) (fun h => absurd h (by first | omega | (simp only [mS_iff, eq_self, Int.reduceEq, true_and, and_true, false_and, and_false, and_self, ↓reduceIte]; omega) | (simp only [mS_iff, eq_self, Int.reduceEq, true_and, and_true, false_and, and_false, and_self, ↓reduceIte] at *; omega)))
        refine And.intro (rfl) ?_
        refine ct_262 (by omega) hP3 (by omega) (fun v9 h10 => ?_)
        refine And.intro (fun h11 => ?_) (fun h11 => ?_)
        · refine And.intro (fun _ => ?_) (fun h => absurd h (by first | omega | (simp only [mS_iff, eq_self, Int.reduceEq, true_and, and_true, false_and, and_false, and_self, ↓reduceIte]; omega) | (simp only [mS_iff, eq_self, Int.reduceEq, true_and, and_true, false_and, and_false, and_self, ↓reduceIte] at *; omega)))
          refine And.intro (rfl) ?_
          refine And.intro (⟨rfl, by first | omega | (simp only [mS_iff, eq_self, Int.reduceEq, true_and, and_true, false_and, and_false, and_self, ↓reduceIte]; omega) | (simp only [mS_iff, eq_self, Int.reduceEq, true_and, and_true, false_and, and_false, and_self, ↓reduceIte] at *; omega)⟩) ?_
          refine And.intro (fun _ => ?_) (fun h => absurd h (by first | omega | (simp only [mS_iff, eq_self, Int.reduceEq, true_and, and_true, false_and, and_false, and_self, ↓reduceIte]; omega) | (simp only [mS_iff, eq_self, Int.reduceEq, true_and, and_true, false_and, and_false, and_self, ↓reduceIte] at *; omega)))
          refine And.intro (rfl) ?_
          refine And.intro (⟨rfl, by first | omega | (simp only [mS_iff, eq_self, Int.reduceEq, true_and, and_true, false_and, and_false, and_self, ↓reduceIte]; omega) | (simp only [mS_iff, eq_self, Int.reduceEq, true_and, and_true, false_and, and_false, and_self, ↓reduceIte] at *; omega)⟩) ?_
          refine ih109 _ ?_ (g + 1) _ _ _ _ (Eq.refl _) ?_ ?_ ?_ ?_
          · rw [sa, sb]; rw [← i0.1, ← i0.2] at hN; omega
          · exact f3
          · exact ⟨by first | (rw [sa]; done) | (rw [sa]; exact x1), by first | (rw [sb]; done) | (rw [sb]; exact y1)⟩
          · exact i1
          · intro k hk
            by_cases e : k = g
            · rw [e, ← i0.1, ← i0.2, mx, my]; omega
            · exact i2 k (by omega)
        · refine And.intro (by first | omega | (simp only [mS_iff, eq_self, Int.reduceEq, true_and, and_true, false_and, and_false, and_self, ↓reduceIte]; omega) | (simp only [mS_iff, eq_self, Int.reduceEq, true_and, and_true, false_and, and_false, and_self, ↓reduceIte] at *; omega)) ?_
          exact hQ0 (fun q => by have := q.2.2.2 g; rw [← i0.1, ← i0.2, mx, my] at this; omega) _ f3
  have K67 : ∀ (N : Nat), ∀ (k : Int) (n : Int), ∀ (m3 : aM), (12 - k).toNat = N → (fr_a m m3) → (0 ≤ k ∧ k ≤ (q_Q S day a).length ∧ (q_Q S day a).length ≠ 0 ∧ (q_Q S day a).length = (q_Q S day b).length ∧ n = (q_Q S day a).length) → (∀ j : Nat, j < (q_Q S day a).length → m3 64 j = (q_Q S day a).getD j 0) → (mQr m3 (q_Q S day b)) → (∀ j : Nat, j < k → s_one S ((q_Q S day a).getD j 0) ((q_Q S day b).getD j 0)) → am_WP am_G (am_wpc am_G am_T d) [] cd_266 Q 67 [aR 41, aI a, aI b, aI day, aI n, aI k, aU] [] m3 := by
    intro N
    induction N using Nat.strongRecOn with
    | _ N ih67 =>
      intro k n m3 hN f3 i0 c64 hlb i1
      refine am_go 400 [109, 67, 15] (am_wpc_cm _ _ _) wf_266 ?_
      refine And.intro (fun h12 => ?_) (fun h12 => ?_)
      · refine K109 _ (0) _ _ _ _ (Eq.refl _) ?_ ?_ ?_ ?_
        · exact f3
        · exact ⟨rfl, rfl⟩
        · exact ⟨by omega, by omega, fun j hj => i1 j (by omega)⟩
        · intro k hk
          omega
      · have ya : m3 64 k = (q_Q S day a).getD k.toNat 0 := by have := c64 k.toNat (by omega); rw [show ((k.toNat : Nat) : Int) = k by omega] at this; exact this
        have yb := hlb.at (k := k) (by omega) (by omega)
        have yx := oa.2 _ (q_getD (show k.toNat < (q_Q S day a).length by omega))
        have yy := ob.2 _ yb.2
        refine And.intro (rfl) ?_
        refine And.intro (⟨rfl, by first | omega | (simp only [mS_iff, eq_self, Int.reduceEq, true_and, and_true, false_and, and_false, and_self, ↓reduceIte]; omega) | (simp only [mS_iff, eq_self, Int.reduceEq, true_and, and_true, false_and, and_false, and_self, ↓reduceIte] at *; omega)⟩) ?_
        refine And.intro (rfl) ?_
        refine And.intro (⟨rfl, by first | omega | (simp only [mS_iff, eq_self, Int.reduceEq, true_and, and_true, false_and, and_false, and_self, ↓reduceIte]; omega) | (simp only [mS_iff, eq_self, Int.reduceEq, true_and, and_true, false_and, and_false, and_self, ↓reduceIte] at *; omega)⟩) ?_
        refine And.intro (rfl) ?_
        refine ct_223 (by omega) (by rw [ya]; exact ((f3.As hS).2.2 _ yx.1 yx.2).1) (by rw [yb.1]; exact ((f3.As hS).2.2 _ yy.1 yy.2).1) (fun h13 => ?_) (fun h13 => ?_)
        · have hh : s_one S ((q_Q S day a).getD k.toNat 0) ((q_Q S day b).getD k.toNat 0) := h13
          refine And.intro (fun _ => ?_) (fun h => absurd h (by decide))
          refine And.intro (show -2147483648 ≤ k + 1 ∧ k + 1 ≤ 2147483647 by first | omega | (simp only [mS_iff, eq_self, Int.reduceEq, true_and, and_true, false_and, and_false, and_self, ↓reduceIte]; omega) | (simp only [mS_iff, eq_self, Int.reduceEq, true_and, and_true, false_and, and_false, and_self, ↓reduceIte] at *; omega)) ?_
          refine ih67 _ ?_ _ _ _ (Eq.refl _) ?_ ?_ ?_ ?_ ?_
          · omega
          · exact f3
          · first | omega | (simp only [mS_iff, eq_self, Int.reduceEq, true_and, and_true, false_and, and_false, and_self, ↓reduceIte]; omega) | (simp only [mS_iff, eq_self, Int.reduceEq, true_and, and_true, false_and, and_false, and_self, ↓reduceIte] at *; omega)
          · exact c64
          · exact hlb
          · intro j hj
            by_cases e : (j : Int) = k
            · rw [show j = k.toNat by omega]; exact hh
            · exact i1 j (by omega)
        · have hh : ¬ s_one S ((q_Q S day a).getD k.toNat 0) ((q_Q S day b).getD k.toNat 0) := h13
          refine And.intro (fun h => absurd h (by decide)) (fun _ => ?_)
          refine And.intro (by first | omega | (simp only [mS_iff, eq_self, Int.reduceEq, true_and, and_true, false_and, and_false, and_self, ↓reduceIte]; omega) | (simp only [mS_iff, eq_self, Int.reduceEq, true_and, and_true, false_and, and_false, and_self, ↓reduceIte] at *; omega)) ?_
          exact hQ0 (fun q => hh (q.2.2.1 k.toNat (by omega))) _ f3
  have K15 : ∀ (N : Nat), ∀ (k : Int) (n : Int), ∀ (m2 : aM), (12 - k).toNat = N → (fr_a m m2) → (mQr m2 (q_Q S day a)) → (0 ≤ k ∧ k ≤ (q_Q S day a).length ∧ n = (q_Q S day a).length) → (∀ j : Nat, j < k → m2 64 j = (q_Q S day a).getD j 0) → am_WP am_G (am_wpc am_G am_T d) [] cd_266 Q 15 [aR 41, aI a, aI b, aI day, aI n, aI k, aU] [] m2 := by
    intro N
    induction N using Nat.strongRecOn with
    | _ N ih15 =>
      intro k n m2 hN f2 hla i0 i1
      refine am_go 400 [109, 67, 15] (am_wpc_cm _ _ _) wf_266 ?_
      refine And.intro (fun h14 => ?_) (fun h14 => ?_)
      · refine And.intro (rfl) ?_
        refine ct_257 (by omega) hb (f2.As hS) (f2.Ps hP) (fun mw15 h16 h17 => ?_)
        have f3 := f2.trans h16.a
        have lb := h17.1
        have hlb := h17
        have c64 : ∀ j : Nat, j < (q_Q S day a).length → mw15 64 j = (q_Q S day a).getD j 0 := fun j hj => by rw [h16 64 j (by omega) (by omega) (by omega)]; exact i1 j (by omega)
        refine And.intro (fun h18 => ?_) (fun h18 => ?_)
        · refine And.intro (by first | omega | (simp only [mS_iff, eq_self, Int.reduceEq, true_and, and_true, false_and, and_false, and_self, ↓reduceIte]; omega) | (simp only [mS_iff, eq_self, Int.reduceEq, true_and, and_true, false_and, and_false, and_self, ↓reduceIte] at *; omega)) ?_
          exact hQ0 (fun q => by have := q.1; have := q.2.1; omega) _ f3
        · refine And.intro (rfl) ?_
          refine And.intro (fun h19 => ?_) (fun h19 => ?_)
          · refine K67 _ _ _ _ (Eq.refl _) ?_ ?_ ?_ ?_ ?_
            · exact f3
            · first | omega | (simp only [mS_iff, eq_self, Int.reduceEq, true_and, and_true, false_and, and_false, and_self, ↓reduceIte]; omega) | (simp only [mS_iff, eq_self, Int.reduceEq, true_and, and_true, false_and, and_false, and_self, ↓reduceIte] at *; omega)
            · exact c64
            · exact hlb
            · intro j hj
              omega
          · refine And.intro (by first | omega | (simp only [mS_iff, eq_self, Int.reduceEq, true_and, and_true, false_and, and_false, and_self, ↓reduceIte]; omega) | (simp only [mS_iff, eq_self, Int.reduceEq, true_and, and_true, false_and, and_false, and_self, ↓reduceIte] at *; omega)) ?_
            exact hQ0 (fun q => by have := q.1; have := q.2.1; omega) _ f3
      · have y := hla.at (k := k) (by omega) (by omega)
        refine And.intro (rfl) ?_
        refine And.intro (rfl) ?_
        refine And.intro (⟨rfl, by first | omega | (simp only [mS_iff, eq_self, Int.reduceEq, true_and, and_true, false_and, and_false, and_self, ↓reduceIte]; omega) | (simp only [mS_iff, eq_self, Int.reduceEq, true_and, and_true, false_and, and_false, and_self, ↓reduceIte] at *; omega)⟩) ?_
        refine And.intro (⟨rfl, by first | omega | (simp only [mS_iff, eq_self, Int.reduceEq, true_and, and_true, false_and, and_false, and_self, ↓reduceIte]; omega) | (simp only [mS_iff, eq_self, Int.reduceEq, true_and, and_true, false_and, and_false, and_self, ↓reduceIte] at *; omega)⟩) ?_
        refine And.intro (show -2147483648 ≤ k + 1 ∧ k + 1 ≤ 2147483647 by first | omega | (simp only [mS_iff, eq_self, Int.reduceEq, true_and, and_true, false_and, and_false, and_self, ↓reduceIte]; omega) | (simp only [mS_iff, eq_self, Int.reduceEq, true_and, and_true, false_and, and_false, and_self, ↓reduceIte] at *; omega)) ?_
        refine ih15 _ ?_ _ _ _ (Eq.refl _) ?_ ?_ ?_ ?_
        · omega
        · intro r j h1 h2 h3 h4
          rw [mS_iff, if_neg (by omega)]
          exact f2 r j h1 h2 h3 h4
        · exact ⟨by rw [mS_a _ _ _ _ (by omega)]; exact hla.1, fun j hj => by rw [mS_a _ _ _ _ (by omega)]; exact hla.2 j hj⟩
        · first | omega | (simp only [mS_iff, eq_self, Int.reduceEq, true_and, and_true, false_and, and_false, and_self, ↓reduceIte]; omega) | (simp only [mS_iff, eq_self, Int.reduceEq, true_and, and_true, false_and, and_false, and_self, ↓reduceIte] at *; omega)
        · intro j hj
          rw [mS_iff]
          by_cases e : (j : Int) = k
          · rw [if_pos ⟨rfl, e⟩, y.1, show j = k.toNat by omega]
          · rw [if_neg (by omega)]; exact i1 j (by omega)
  refine am_go 400 [109, 67, 15] (am_wpc_cm _ _ _) wf_266 ?_
  refine And.intro (rfl) ?_
  refine ct_257 (by omega) ha hS hP (fun mw20 h21 h22 => ?_)
  have la := h22.1
  refine And.intro (rfl) ?_
  refine K15 _ _ _ _ (Eq.refl _) ?_ ?_ ?_ ?_
  · exact h21.a
  · exact h22
  · first | omega | (simp only [mS_iff, eq_self, Int.reduceEq, true_and, and_true, false_and, and_false, and_self, ↓reduceIte]; omega) | (simp only [mS_iff, eq_self, Int.reduceEq, true_and, and_true, false_and, and_false, and_self, ↓reduceIte] at *; omega)
  · intro j hj
    omega
def fr_b (m m' : aM) : Prop := ∀ r j, r ≠ 62 → r ≠ 63 → r ≠ 64 → (r ≠ 41 ∨ (j ≠ 36 ∧ j ≠ 39)) → m' r j = m r j
theorem fr_a.b {m m' : aM} (h : fr_a m m') : fr_b m m' := fun r j a b c d => h r j a b c (by omega)
theorem fr_b.trans {a b c : aM} (h : fr_b a b) (g : fr_b b c) : fr_b a c := fun r j x y z u => (g r j x y z u).trans (h r j x y z u)
theorem fr_b.As {S m m' : aM} (f : fr_b m m') (h : mAs S m) : mAs S m' := ⟨h.1, by rw [f 41 1 (by omega) (by omega) (by omega) (by omega)]; exact h.2.1, fun i x y => ⟨(h.2.2 i x y).1.keep (fun j => f 42 j (by omega) (by omega) (by omega) (by omega)), (h.2.2 i x y).2⟩⟩
theorem fr_b.Ps {S m m' : aM} (f : fr_b m m') (h : mPs S m) : mPs S m' := ⟨h.1, by rw [f 41 28 (by omega) (by omega) (by omega) (by omega)]; exact h.2.1, fun p x y => by
  rw [f 56 p (by omega) (by omega) (by omega) (by omega), f 57 p (by omega) (by omega) (by omega) (by omega), f 58 p (by omega) (by omega) (by omega) (by omega), f 59 p (by omega) (by omega) (by omega) (by omega), f 60 p (by omega) (by omega) (by omega) (by omega), f 61 p (by omega) (by omega) (by omega) (by omega)]
  exact h.2.2 p x y⟩
theorem ct_265 {d : Nat} {m : aM} {Q : aO → aM → Prop} {S : aM} {day i : Int} (hd : 46 ≤ d) (hS : mAs S m) (hP : mPs S m) (hi : 0 ≤ i) (hQ : ∀ m' x, fr_b m m' → m' 41 39 = s_ct S day → (∀ q, s_ci S day 1700 i q → x = s_cv q) → (s_ct S day ≤ i → x = -1) → Q (.inl (some (aI x))) m') : am_wpc am_G am_T d 265 [aR 41, aI day, aI i] m Q := by
  obtain ⟨z0, z1⟩ := hP.1
  refine am_in rfl hd (fun d hd => ?_)
  have K10 : ∀ (N : Nat), ∀ (t : Int) (a : Int) (x5 : aV), ∀ (m2 : aM), (40 - a).toNat = N → (0 ≤ a ∧ a ≤ S 0 4) → (fr_b m m2) → (m2 41 39 = s_cn S day (40 * a + (a + 1))) → (∀ q, s_ci S day (40 * a + (a + 1)) i q → t = s_cv q) → (s_cn S day (40 * a + (a + 1)) ≤ i → t = -1) → am_WP am_G (am_wpc am_G am_T d) [] cd_265 Q 10 [aR 41, aI day, aI i, aI t, aI a, x5] [] m2 := by
    intro N
    induction N using Nat.strongRecOn with
    | _ N ih10 =>
      intro t a x5 m2 hN i0 f2 i1 i2 i3
      have e28 := f2 41 28 (by omega) (by omega) (by omega) (by omega)
      have e28b := hP.2.1
      have hP2 := f2.Ps hP
      have K25 : ∀ (N : Nat), ∀ (t : Int) (b : Int), ∀ (m4 : aM), (40 - b).toNat = N → (a < b ∧ b ≤ S 0 4) → (fr_b m m4) → (m4 41 39 = s_cn S day (40 * a + b)) → (∀ q, s_ci S day (40 * a + b) i q → t = s_cv q) → (s_cn S day (40 * a + b) ≤ i → t = -1) → am_WP am_G (am_wpc am_G am_T d) [] cd_265 Q 25 [aR 41, aI day, aI i, aI t, aI a, aI b] [] m4 := by
        intro N
        induction N using Nat.strongRecOn with
        | _ N ih25 =>
          intro t b m4 hN j0 f2 i1 i2 i3
          have e28 := f2 41 28 (by omega) (by omega) (by omega) (by omega)
          have e28b := hP.2.1
          have hP2 := f2.Ps hP
          have cb := s_cn_b S day (q := 40 * a + b) (by omega)
          refine am_go 400 [10, 25] (am_wpc_cm _ _ _) wf_265 ?_
          refine And.intro (rfl) ?_
          refine And.intro (fun h1 => ?_) (fun h1 => ?_)
          · refine And.intro (show -2147483648 ≤ a + 1 ∧ a + 1 ≤ 2147483647 by first | omega | (simp only [mS_iff, eq_self, Int.reduceEq, true_and, and_true, false_and, and_false, and_self, ↓reduceIte]; omega) | (simp only [mS_iff, eq_self, Int.reduceEq, true_and, and_true, false_and, and_false, and_self, ↓reduceIte] at *; omega)) ?_
            refine ih10 _ ?_ _ _ _ _ (Eq.refl _) ?_ ?_ ?_ ?_ ?_
            · omega
            · first | omega | (simp only [mS_iff, eq_self, Int.reduceEq, true_and, and_true, false_and, and_false, and_self, ↓reduceIte]; omega) | (simp only [mS_iff, eq_self, Int.reduceEq, true_and, and_true, false_and, and_false, and_self, ↓reduceIte] at *; omega)
            · exact f2
            · rw [s_cn_z (p := 40 * a + b) (by omega) (by omega) (fun k h1 h2 => by omega)]; omega
            · intro q hq
              exact i2 q (s_ci_z (p := 40 * a + b) (by omega) (by omega) (fun k h1 h2 => by omega) hq)
            · rw [s_cn_z (p := 40 * a + b) (by omega) (by omega) (fun k h1 h2 => by omega)]
              exact i3
          · obtain ⟨a1, a2, a3, -⟩ := hP2.2.2 a (by omega) (by omega)
            obtain ⟨b1, b2, b3, -⟩ := hP2.2.2 b (by omega) (by omega)
            have za := z1 a (by omega) (by omega)
            have zb := z1 b (by omega) (by omega)
            have c0 : ¬ (S 10 a = 0 ∧ S 10 b = 0) → s_cl S day (40 * a + b) = 0 := fun e => s_cl_0 (by omega) (fun q => e ⟨q.1, q.2.1⟩)
            refine And.intro (rfl) ?_
            refine And.intro (⟨rfl, by first | omega | (simp only [mS_iff, eq_self, Int.reduceEq, true_and, and_true, false_and, and_false, and_self, ↓reduceIte]; omega) | (simp only [mS_iff, eq_self, Int.reduceEq, true_and, and_true, false_and, and_false, and_self, ↓reduceIte] at *; omega)⟩) ?_
            refine And.intro (fun h2 => ?_) (fun h2 => ?_)
            · refine And.intro (show -2147483648 ≤ b + 1 ∧ b + 1 ≤ 2147483647 by first | omega | (simp only [mS_iff, eq_self, Int.reduceEq, true_and, and_true, false_and, and_false, and_self, ↓reduceIte]; omega) | (simp only [mS_iff, eq_self, Int.reduceEq, true_and, and_true, false_and, and_false, and_self, ↓reduceIte] at *; omega)) ?_
              refine ih25 _ ?_ _ _ _ (Eq.refl _) ?_ ?_ ?_ ?_ ?_
              · omega
              · first | omega | (simp only [mS_iff, eq_self, Int.reduceEq, true_and, and_true, false_and, and_false, and_self, ↓reduceIte]; omega) | (simp only [mS_iff, eq_self, Int.reduceEq, true_and, and_true, false_and, and_false, and_self, ↓reduceIte] at *; omega)
              · exact f2
              · rw [show 40 * a + (b + 1) = 40 * a + b + 1 by omega, s_cn_s (by omega)]; omega
              · intro q hq
                rw [show 40 * a + (b + 1) = 40 * a + b + 1 by omega] at hq
                rcases s_cl_ith (by omega) hq with hq | hq
                · have := i2 q hq
                  have u := s_ith_b (fun k => (s_cl_b S day k).1) hq
                  have u2 : s_sum (s_cl S day) (40 * a + b).toNat = s_cn S day (40 * a + b) := rfl
                  omega
                · unfold s_cv
                  omega
              · rw [show 40 * a + (b + 1) = 40 * a + b + 1 by omega, s_cn_s (by omega)]; intro; omega
            · refine And.intro (rfl) ?_
              refine And.intro (⟨rfl, by first | omega | (simp only [mS_iff, eq_self, Int.reduceEq, true_and, and_true, false_and, and_false, and_self, ↓reduceIte]; omega) | (simp only [mS_iff, eq_self, Int.reduceEq, true_and, and_true, false_and, and_false, and_self, ↓reduceIte] at *; omega)⟩) ?_
              refine And.intro (fun h3 => ?_) (fun h3 => ?_)
              · refine And.intro (show -2147483648 ≤ b + 1 ∧ b + 1 ≤ 2147483647 by first | omega | (simp only [mS_iff, eq_self, Int.reduceEq, true_and, and_true, false_and, and_false, and_self, ↓reduceIte]; omega) | (simp only [mS_iff, eq_self, Int.reduceEq, true_and, and_true, false_and, and_false, and_self, ↓reduceIte] at *; omega)) ?_
                refine ih25 _ ?_ _ _ _ (Eq.refl _) ?_ ?_ ?_ ?_ ?_
                · omega
                · first | omega | (simp only [mS_iff, eq_self, Int.reduceEq, true_and, and_true, false_and, and_false, and_self, ↓reduceIte]; omega) | (simp only [mS_iff, eq_self, Int.reduceEq, true_and, and_true, false_and, and_false, and_self, ↓reduceIte] at *; omega)
                · exact f2
                · rw [show 40 * a + (b + 1) = 40 * a + b + 1 by omega, s_cn_s (by omega)]; omega
                · intro q hq
                  rw [show 40 * a + (b + 1) = 40 * a + b + 1 by omega] at hq
                  rcases s_cl_ith (by omega) hq with hq | hq
                  · have := i2 q hq
                    have u := s_ith_b (fun k => (s_cl_b S day k).1) hq
                    have u2 : s_sum (s_cl S day) (40 * a + b).toNat = s_cn S day (40 * a + b) := rfl
                    omega
                  · unfold s_cv
                    omega
                · rw [show 40 * a + (b + 1) = 40 * a + b + 1 by omega, s_cn_s (by omega)]; intro; omega
              · refine And.intro (rfl) ?_
                refine ct_263 (by omega) hP2 (by omega) (fun h4 => ?_) (fun h4 => ?_)
                · have va := h4
                  refine And.intro (fun h => absurd h (by decide)) (fun _ => ?_)
                  refine And.intro (rfl) ?_
                  refine ct_263 (by omega) hP2 (by omega) (fun h5 => ?_) (fun h5 => ?_)
                  · have vb := h5
                    refine And.intro (fun h => absurd h (by decide)) (fun _ => ?_)
                    refine And.intro (rfl) ?_
                    refine ct_266 (by omega) (f2.As hS) hP2 (by omega) (by omega) (fun h6 mw7 h8 => ?_) (fun h6 mw7 h8 => ?_)
                    · have c1 := s_cl_1 (S := S) (day := day) (a := a) (b := b) (by omega) (by omega) (by omega) va vb h6
                      have f3 := f2.trans h8.b
                      have e39 := h8 41 39 (by omega) (by omega) (by omega) (by omega)
                      refine And.intro (fun h => absurd h (by decide)) (fun _ => ?_)
                      refine And.intro (rfl) ?_
                      refine And.intro (fun h9 => ?_) (fun h9 => ?_)
                      · refine And.intro (rfl) ?_
                        refine And.intro (show -2147483648 ≤ (mw7 41 39) + 1 ∧ (mw7 41 39) + 1 ≤ 2147483647 by first | omega | (simp only [mS_iff, eq_self, Int.reduceEq, true_and, and_true, false_and, and_false, and_self, ↓reduceIte]; omega) | (simp only [mS_iff, eq_self, Int.reduceEq, true_and, and_true, false_and, and_false, and_self, ↓reduceIte] at *; omega)) ?_
                        refine And.intro (rfl) ?_
                        refine And.intro (show -2147483648 ≤ b + 1 ∧ b + 1 ≤ 2147483647 by first | omega | (simp only [mS_iff, eq_self, Int.reduceEq, true_and, and_true, false_and, and_false, and_self, ↓reduceIte]; omega) | (simp only [mS_iff, eq_self, Int.reduceEq, true_and, and_true, false_and, and_false, and_self, ↓reduceIte] at *; omega)) ?_
                        refine ih25 _ ?_ _ _ _ (Eq.refl _) ?_ ?_ ?_ ?_ ?_
                        · omega
                        · first | omega | (simp only [mS_iff, eq_self, Int.reduceEq, true_and, and_true, false_and, and_false, and_self, ↓reduceIte]; omega) | (simp only [mS_iff, eq_self, Int.reduceEq, true_and, and_true, false_and, and_false, and_self, ↓reduceIte] at *; omega)
                        · intro r j h1 h2 h3 h4
                          rw [mS_iff, if_neg (by omega)]
                          exact f3 r j h1 h2 h3 h4
                        · rw [show 40 * a + (b + 1) = 40 * a + b + 1 by omega, s_cn_s (by omega)]; show mw7 41 39 + 1 = _; omega
                        · intro q hq
                          rw [show 40 * a + (b + 1) = 40 * a + b + 1 by omega] at hq
                          rcases s_cl_ith (by omega) hq with hq | hq
                          · have := i2 q hq
                            have u := s_ith_b (fun k => (s_cl_b S day k).1) hq
                            have u2 : s_sum (s_cl S day) (40 * a + b).toNat = s_cn S day (40 * a + b) := rfl
                            omega
                          · unfold s_cv
                            omega
                        · rw [show 40 * a + (b + 1) = 40 * a + b + 1 by omega, s_cn_s (by omega)]; intro; omega
                      · refine And.intro (show -2147483648 ≤ 100 * a ∧ 100 * a ≤ 2147483647 by first | omega | (simp only [mS_iff, eq_self, Int.reduceEq, true_and, and_true, false_and, and_false, and_self, ↓reduceIte]; omega) | (simp only [mS_iff, eq_self, Int.reduceEq, true_and, and_true, false_and, and_false, and_self, ↓reduceIte] at *; omega)) ?_
                        refine And.intro (show -2147483648 ≤ (100 * a) + b ∧ (100 * a) + b ≤ 2147483647 by first | omega | (simp only [mS_iff, eq_self, Int.reduceEq, true_and, and_true, false_and, and_false, and_self, ↓reduceIte]; omega) | (simp only [mS_iff, eq_self, Int.reduceEq, true_and, and_true, false_and, and_false, and_self, ↓reduceIte] at *; omega)) ?_
                        refine And.intro (rfl) ?_
                        refine And.intro (show -2147483648 ≤ (mw7 41 39) + 1 ∧ (mw7 41 39) + 1 ≤ 2147483647 by first | omega | (simp only [mS_iff, eq_self, Int.reduceEq, true_and, and_true, false_and, and_false, and_self, ↓reduceIte]; omega) | (simp only [mS_iff, eq_self, Int.reduceEq, true_and, and_true, false_and, and_false, and_self, ↓reduceIte] at *; omega)) ?_
                        refine And.intro (rfl) ?_
                        refine And.intro (show -2147483648 ≤ b + 1 ∧ b + 1 ≤ 2147483647 by first | omega | (simp only [mS_iff, eq_self, Int.reduceEq, true_and, and_true, false_and, and_false, and_self, ↓reduceIte]; omega) | (simp only [mS_iff, eq_self, Int.reduceEq, true_and, and_true, false_and, and_false, and_self, ↓reduceIte] at *; omega)) ?_
                        refine ih25 _ ?_ _ _ _ (Eq.refl _) ?_ ?_ ?_ ?_ ?_
                        · omega
                        · first | omega | (simp only [mS_iff, eq_self, Int.reduceEq, true_and, and_true, false_and, and_false, and_self, ↓reduceIte]; omega) | (simp only [mS_iff, eq_self, Int.reduceEq, true_and, and_true, false_and, and_false, and_self, ↓reduceIte] at *; omega)
                        · intro r j h1 h2 h3 h4
                          rw [mS_iff, if_neg (by omega)]
                          exact f3 r j h1 h2 h3 h4
                        · rw [show 40 * a + (b + 1) = 40 * a + b + 1 by omega, s_cn_s (by omega)]; show mw7 41 39 + 1 = _; omega
                        · intro q hq
                          rw [show 40 * a + (b + 1) = 40 * a + b + 1 by omega] at hq
                          rcases s_cl_ith (by omega) hq with hq | hq
                          · have := i2 q hq
                            have u := s_ith_b (fun k => (s_cl_b S day k).1) hq
                            have u2 : s_sum (s_cl S day) (40 * a + b).toNat = s_cn S day (40 * a + b) := rfl
                            omega
                          · unfold s_cv
                            omega
                        · rw [show 40 * a + (b + 1) = 40 * a + b + 1 by omega, s_cn_s (by omega)]; intro; omega
                    · have c1 := s_cl_0 (S := S) (day := day) (a := a) (b := b) (by omega) (fun q => h6 q.2.2.2.2)
                      have f3 := f2.trans h8.b
                      have e39 := h8 41 39 (by omega) (by omega) (by omega) (by omega)
                      refine And.intro (fun _ => ?_) (fun h => absurd h (by decide))
                      refine And.intro (show -2147483648 ≤ b + 1 ∧ b + 1 ≤ 2147483647 by first | omega | (simp only [mS_iff, eq_self, Int.reduceEq, true_and, and_true, false_and, and_false, and_self, ↓reduceIte]; omega) | (simp only [mS_iff, eq_self, Int.reduceEq, true_and, and_true, false_and, and_false, and_self, ↓reduceIte] at *; omega)) ?_
                      refine ih25 _ ?_ _ _ _ (Eq.refl _) ?_ ?_ ?_ ?_ ?_
                      · omega
                      · first | omega | (simp only [mS_iff, eq_self, Int.reduceEq, true_and, and_true, false_and, and_false, and_self, ↓reduceIte]; omega) | (simp only [mS_iff, eq_self, Int.reduceEq, true_and, and_true, false_and, and_false, and_self, ↓reduceIte] at *; omega)
                      · exact f3
                      · rw [show 40 * a + (b + 1) = 40 * a + b + 1 by omega, s_cn_s (by omega)]; omega
                      · intro q hq
                        rw [show 40 * a + (b + 1) = 40 * a + b + 1 by omega] at hq
                        rcases s_cl_ith (by omega) hq with hq | hq
                        · have := i2 q hq
                          have u := s_ith_b (fun k => (s_cl_b S day k).1) hq
                          have u2 : s_sum (s_cl S day) (40 * a + b).toNat = s_cn S day (40 * a + b) := rfl
                          omega
                        · unfold s_cv
                          omega
                      · rw [show 40 * a + (b + 1) = 40 * a + b + 1 by omega, s_cn_s (by omega)]; intro; omega
                  · have c1 := s_cl_0 (S := S) (day := day) (a := a) (b := b) (by omega) (fun q => h5 q.2.2.2.1)
                    refine And.intro (fun _ => ?_) (fun h => absurd h (by decide))
                    refine And.intro (show -2147483648 ≤ b + 1 ∧ b + 1 ≤ 2147483647 by first | omega | (simp only [mS_iff, eq_self, Int.reduceEq, true_and, and_true, false_and, and_false, and_self, ↓reduceIte]; omega) | (simp only [mS_iff, eq_self, Int.reduceEq, true_and, and_true, false_and, and_false, and_self, ↓reduceIte] at *; omega)) ?_
                    refine ih25 _ ?_ _ _ _ (Eq.refl _) ?_ ?_ ?_ ?_ ?_
                    · omega
                    · first | omega | (simp only [mS_iff, eq_self, Int.reduceEq, true_and, and_true, false_and, and_false, and_self, ↓reduceIte]; omega) | (simp only [mS_iff, eq_self, Int.reduceEq, true_and, and_true, false_and, and_false, and_self, ↓reduceIte] at *; omega)
                    · exact f2
                    · rw [show 40 * a + (b + 1) = 40 * a + b + 1 by omega, s_cn_s (by omega)]; omega
                    · intro q hq
                      rw [show 40 * a + (b + 1) = 40 * a + b + 1 by omega] at hq
                      rcases s_cl_ith (by omega) hq with hq | hq
                      · have := i2 q hq
                        have u := s_ith_b (fun k => (s_cl_b S day k).1) hq
                        have u2 : s_sum (s_cl S day) (40 * a + b).toNat = s_cn S day (40 * a + b) := rfl
                        omega
                      · unfold s_cv
                        omega
                    · rw [show 40 * a + (b + 1) = 40 * a + b + 1 by omega, s_cn_s (by omega)]; intro; omega
                · have c1 := s_cl_0 (S := S) (day := day) (a := a) (b := b) (by omega) (fun q => h4 q.2.2.1)
                  refine And.intro (fun _ => ?_) (fun h => absurd h (by decide))
                  refine And.intro (show -2147483648 ≤ b + 1 ∧ b + 1 ≤ 2147483647 by first | omega | (simp only [mS_iff, eq_self, Int.reduceEq, true_and, and_true, false_and, and_false, and_self, ↓reduceIte]; omega) | (simp only [mS_iff, eq_self, Int.reduceEq, true_and, and_true, false_and, and_false, and_self, ↓reduceIte] at *; omega)) ?_
                  refine ih25 _ ?_ _ _ _ (Eq.refl _) ?_ ?_ ?_ ?_ ?_
                  · omega
                  · first | omega | (simp only [mS_iff, eq_self, Int.reduceEq, true_and, and_true, false_and, and_false, and_self, ↓reduceIte]; omega) | (simp only [mS_iff, eq_self, Int.reduceEq, true_and, and_true, false_and, and_false, and_self, ↓reduceIte] at *; omega)
                  · exact f2
                  · rw [show 40 * a + (b + 1) = 40 * a + b + 1 by omega, s_cn_s (by omega)]; omega
                  · intro q hq
                    rw [show 40 * a + (b + 1) = 40 * a + b + 1 by omega] at hq
                    rcases s_cl_ith (by omega) hq with hq | hq
                    · have := i2 q hq
                      have u := s_ith_b (fun k => (s_cl_b S day k).1) hq
                      have u2 : s_sum (s_cl S day) (40 * a + b).toNat = s_cn S day (40 * a + b) := rfl
                      omega
                    · unfold s_cv
                      omega
                  · rw [show 40 * a + (b + 1) = 40 * a + b + 1 by omega, s_cn_s (by omega)]; intro; omega
      refine am_go 400 [10, 25] (am_wpc_cm _ _ _) wf_265 ?_
      refine And.intro (rfl) ?_
      refine And.intro (fun h10 => ?_) (fun h10 => ?_)
      · refine hQ _ _ f2 ?_ (fun q hq => i2 q (s_ci_z (by omega) (by omega) (fun k h1 h2 => by omega) hq)) (fun q => i3 ?_)
        · rw [i1]
          exact (s_cn_z (p := 40 * a + (a + 1)) (by omega) (by omega) (fun k h1 h2 => by omega)).symm
        · have := s_cn_z (S := S) (day := day) (p := 40 * a + (a + 1)) (q := 1700) (by omega) (by omega) (fun k h1 h2 => by omega)
          unfold s_ct at q
          omega
      · refine And.intro (show -2147483648 ≤ a + 1 ∧ a + 1 ≤ 2147483647 by first | omega | (simp only [mS_iff, eq_self, Int.reduceEq, true_and, and_true, false_and, and_false, and_self, ↓reduceIte]; omega) | (simp only [mS_iff, eq_self, Int.reduceEq, true_and, and_true, false_and, and_false, and_self, ↓reduceIte] at *; omega)) ?_
        refine K25 _ _ _ _ (Eq.refl _) ?_ ?_ ?_ ?_ ?_
        · first | omega | (simp only [mS_iff, eq_self, Int.reduceEq, true_and, and_true, false_and, and_false, and_self, ↓reduceIte]; omega) | (simp only [mS_iff, eq_self, Int.reduceEq, true_and, and_true, false_and, and_false, and_self, ↓reduceIte] at *; omega)
        · exact f2
        · exact i1
        · exact i2
        · exact i3
  refine am_go 400 [10, 25] (am_wpc_cm _ _ _) wf_265 ?_
  refine And.intro (rfl) ?_
  refine K10 _ _ _ _ _ (Eq.refl _) ?_ ?_ ?_ ?_ ?_
  · first | omega | (simp only [mS_iff, eq_self, Int.reduceEq, true_and, and_true, false_and, and_false, and_self, ↓reduceIte]; omega) | (simp only [mS_iff, eq_self, Int.reduceEq, true_and, and_true, false_and, and_false, and_self, ↓reduceIte] at *; omega)
  · intro r j h1 h2 h3 h4
    rw [mS_iff, if_neg (by omega)]
  · rw [s_cn_z (p := 0) (by omega) (by omega) (fun k h1 h2 => by omega)]; rfl
  · intro q hq
    have := s_ci_z (p := 0) (by omega) (by omega) (fun k h1 h2 => by omega) hq
    have w1 := this.1
    have w2 := this.2.1
    omega
  · intro _; rfl
