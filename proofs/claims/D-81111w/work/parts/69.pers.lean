/-! needs: 68 -/
/-! CONTRACTS: persons, heiresses, marks; by tools/gen69.py -/
set_option maxRecDepth 100000
/-- persons: 10 woman, 11 father, 12 mother, 13 born, 14 died, 15 own -/
def sPs (S : aM) : Prop := (0 ≤ S 0 4 ∧ S 0 4 ≤ 40) ∧ ∀ p, 0 ≤ p → p < S 0 4 → (S 10 p = 0 ∨ S 10 p = 1) ∧ (-1 ≤ S 11 p ∧ S 11 p < p) ∧ (-1 ≤ S 12 p ∧ S 12 p < p) ∧ (0 ≤ S 13 p ∧ S 13 p ≤ 9999) ∧ (0 ≤ S 14 p ∧ S 14 p ≤ 10000) ∧ (-1 ≤ S 15 p ∧ S 15 p < S 0 3)
/-- the person's object; none: null -/
def hpr (m : aM) (x : Int) : Int := if x = -1 then 0 else m 20 x
def hPs (S m : aM) : Prop := sPs S ∧ m 1 22 = S 0 4 ∧ (∀ p, 0 ≤ p → p < S 0 4 → (77 ≤ m 20 p ∧ m 20 p ≤ m 0 0) ∧ m (m 20 p) (-1) = 11 ∧ m (m 20 p) 0 = S 10 p ∧ m (m 20 p) 1 = hpr m (S 11 p) ∧ m (m 20 p) 2 = hpr m (S 12 p) ∧ m (m 20 p) 3 = p ∧ m (m 20 p) 4 = S 13 p ∧ m (m 20 p) 5 = S 14 p ∧ m (m 20 p) 6 = S 15 p) ∧ (∀ p q, 0 ≤ p → p < S 0 4 → 0 ≤ q → q < S 0 4 → p ≠ q → m 20 p ≠ m 20 q)
theorem hPs.keep {S m m' : aM} (h : hPs S m) (k : hK m m') (e : m' 1 22 = m 1 22) (e2 : m' 20 = m 20) : hPs S m' := by
  obtain ⟨h1, h2, h3, h4⟩ := h
  refine ⟨h1, by rw [e]; exact h2, fun p a b => ?_, fun p q a b c e n => by rw [e2]; exact h4 p q a b c e n⟩
  obtain ⟨g1, g2, g3⟩ := h3 p a b
  have z := (k.2 (m 20 p) (by omega) (by omega) (by omega)).2 (by omega)
  have z1 := k.1
  rw [e2, z]
  unfold hpr at *
  rw [e2]
  exact ⟨by omega, g2, g3⟩
theorem hPs.ref {S m : aM} (h : hPs S m) {a : Int} (h1 : -1 ≤ a) (h2 : a < S 0 4) : 0 ≤ hpr m a ∧ (hpr m a = 0 ↔ a = -1) ∧ (a ≠ -1 → hpr m a = m 20 a) := by
  unfold hpr
  by_cases e : a = -1
  · simp [e]
  · have := (h.2.2.1 a (by omega) h2).1
    rw [if_neg e]
    exact ⟨by omega, by omega, fun _ => rfl⟩
theorem hPs.eq {S m : aM} (h : hPs S m) {a b : Int} (h1 : -1 ≤ a) (h2 : a < S 0 4) (h3 : -1 ≤ b) (h4 : b < S 0 4) : hpr m a = hpr m b ↔ a = b := by
  have x := h.ref h1 h2
  have y := h.ref h3 h4
  constructor
  · intro e
    by_cases n : a = b
    · exact n
    · by_cases ea : a = -1
      · omega
      · by_cases eb : b = -1
        · omega
        · exact absurd (by rw [← x.2.2 ea, ← y.2.2 eb]; exact e) (h.2.2.2 a b (by omega) h2 (by omega) h4 n)
  · intro e; rw [e]
def mPs (S m : aM) : Prop := sPs S ∧ m 41 28 = S 0 4 ∧ ∀ p, 0 ≤ p → p < S 0 4 → m 56 p = S 10 p ∧ m 57 p = S 11 p ∧ m 58 p = S 12 p ∧ m 59 p = S 13 p ∧ m 60 p = S 14 p ∧ m 61 p = S 15 p
/-- a man born by the day of the same father -/
def s_son (S : aM) (day p k : Int) : Prop := S 10 k = 0 ∧ S 11 k = S 11 p ∧ S 13 k ≤ day
def s_her (S : aM) (day p : Int) : Prop := S 11 p ≠ -1 ∧ ∀ k, 0 ≤ k → k < S 0 4 → ¬ s_son S day p k
def s_lives (S : aM) (day p : Int) : Prop := S 13 p ≤ day ∧ day < S 14 p
def s_ahd (S : aM) (p k : Int) : Int := if S 10 k = 0 ∧ S 11 k = S 11 p ∧ (S 13 k < S 13 p ∨ (S 13 k = S 13 p ∧ k < p)) then 1 else 0
def s_mark (S : aM) (day p : Int) : Int := if S 10 p = 1 ∨ S 11 p = -1 ∨ day < S 13 p then 0 else if s_sum (s_ahd S p) (S 0 4).toNat = 0 ∧ ¬ (S 13 (S 11 p) ≤ day ∧ day < S 14 (S 11 p)) then 0 else 1 + s_sum (s_ahd S p) (S 0 4).toNat
theorem s_ahd_b (S : aM) (p k : Int) : 0 ≤ s_ahd S p k ∧ s_ahd S p k ≤ 1 := by unfold s_ahd; omega
theorem s_ahd_eq (S : aM) (p k : Int) : s_ahd S p k = if S 10 k = 0 ∧ S 11 k = S 11 p ∧ (S 13 k < S 13 p ∨ (S 13 k = S 13 p ∧ k < p)) then 1 else 0 := rfl
/-- g generations up -/
def s_fore (S : aM) (p : Int) : Nat → Int
  | 0 => p
  | n + 1 => if s_fore S p n = -1 then -1 else S 11 (s_fore S p n)
theorem s_fore_b {S : aM} (h : sPs S) {p : Int} (h1 : -1 ≤ p) (h2 : p < S 0 4) : ∀ n, -1 ≤ s_fore S p n ∧ s_fore S p n + (if s_fore S p n = -1 then (0 : Int) else (n : Int)) ≤ p := by
  intro n
  induction n with
  | zero =>
    refine ⟨h1, ?_⟩
    show p + (if p = -1 then (0 : Int) else ((0 : Nat) : Int)) ≤ p
    by_cases e : p = -1
    · rw [if_pos e]; omega
    · rw [if_neg e]; simp
  | succ n ih =>
    rw [s_fore]
    by_cases e : s_fore S p n = -1
    · simp only [e, if_true]; omega
    · rw [if_neg e] at ih
      rw [if_neg e]
      have := (h.2 (s_fore S p n) (by omega) (by omega)).2.1
      split <;> omega
theorem s_fore_n {S : aM} {p : Int} {n : Nat} (h : s_fore S p n = -1) : ∀ k, s_fore S p (n + k) = -1 := by
  intro k
  induction k with
  | zero => exact h
  | succ k ih => rw [show n + (k + 1) = (n + k) + 1 from rfl, s_fore, if_pos ih]
theorem ct_321 {d : Nat} {m : aM} {Q : aO → aM → Prop} {S : aM} {p day : Int} (hd : 1 ≤ d) (hP : hPs S m) (hp : 0 ≤ p ∧ p < S 0 4) (hQ1 : s_lives S day p → Q (.inl (some (aI 1))) m) (hQ0 : ¬ s_lives S day p → Q (.inl (some (aI 0))) m) : am_wpc am_G am_T d 321 [aR (m 20 p), aI day] m Q := by
  obtain ⟨z1, z2⟩ := hP.1
  have z3 := hP.2.1
  have z4 := z2 p (by omega) (by omega)
  obtain ⟨p1, p2, p3, p4, p5, p6, p7, p8, p9⟩ := hP.2.2.1 p (by omega) (by omega)
  refine am_in rfl hd (fun d hd => ?_)
  refine am_go 400 [] (am_wpc_cm _ _ _) wf_321 ?_
  refine And.intro (show (m (m 20 p) (-1)) = 11 by first | assumption | omega | (simp only [mS_iff, eq_self, Int.reduceEq, true_and, and_true, false_and, and_false, and_self, ↓reduceIte]; omega) | (simp only [mS_iff, eq_self, Int.reduceEq, true_and, and_true, false_and, and_false, and_self, ↓reduceIte] at *; omega)) ?_
  refine And.intro (fun h1 => ?_) (fun h1 => ?_)
  · refine And.intro (by first | omega | (simp only [mS_iff, eq_self, Int.reduceEq, true_and, and_true, false_and, and_false, and_self, ↓reduceIte]; omega) | (simp only [mS_iff, eq_self, Int.reduceEq, true_and, and_true, false_and, and_false, and_self, ↓reduceIte] at *; omega)) ?_
    exact hQ0 (by unfold s_lives; omega)
  · refine And.intro (show (m (m 20 p) (-1)) = 11 by first | assumption | omega | (simp only [mS_iff, eq_self, Int.reduceEq, true_and, and_true, false_and, and_false, and_self, ↓reduceIte]; omega) | (simp only [mS_iff, eq_self, Int.reduceEq, true_and, and_true, false_and, and_false, and_self, ↓reduceIte] at *; omega)) ?_
    refine And.intro (fun h2 => ?_) (fun h2 => ?_)
    · refine And.intro (by first | omega | (simp only [mS_iff, eq_self, Int.reduceEq, true_and, and_true, false_and, and_false, and_self, ↓reduceIte]; omega) | (simp only [mS_iff, eq_self, Int.reduceEq, true_and, and_true, false_and, and_false, and_self, ↓reduceIte] at *; omega)) ?_
      exact hQ0 (by unfold s_lives; omega)
    · refine And.intro (by first | omega | (simp only [mS_iff, eq_self, Int.reduceEq, true_and, and_true, false_and, and_false, and_self, ↓reduceIte]; omega) | (simp only [mS_iff, eq_self, Int.reduceEq, true_and, and_true, false_and, and_false, and_self, ↓reduceIte] at *; omega)) ?_
      exact hQ1 (by unfold s_lives; omega)
theorem ct_102 {d : Nat} {m : aM} {Q : aO → aM → Prop} {S : aM} {p day : Int} (hd : 1 ≤ d) (hP : hPs S m) (hp : 0 ≤ p ∧ p < S 0 4) (hQ1 : s_her S day p → Q (.inl (some (aI 1))) m) (hQ0 : ¬ s_her S day p → Q (.inl (some (aI 0))) m) : am_wpc am_G am_T d 102 [aR 1, aR (m 20 p), aI day] m Q := by
  obtain ⟨z1, z2⟩ := hP.1
  have z3 := hP.2.1
  have z4 := z2 p (by omega) (by omega)
  obtain ⟨p1, p2, p3, p4, p5, p6, p7, p8, p9⟩ := hP.2.2.1 p (by omega) (by omega)
  have z5 := hP.ref (a := S 11 p) (by omega) (by omega)
  refine am_in rfl hd (fun d hd => ?_)
  have K11 : ∀ (N : Nat), ∀ (k : Int) (x : aV), (40 - k).toNat = N → (0 ≤ k ∧ k ≤ S 0 4) → (S 11 p ≠ -1) → (∀ j, 0 ≤ j → j < k → ¬ s_son S day p j) → am_WP am_G (am_wpc am_G am_T d) [] cd_102 Q 11 [aR 1, aR (m 20 p), aI day, aI k, x] [] m := by
    intro N
    induction N using Nat.strongRecOn with
    | _ N ih11 =>
      intro k x hN i0 i2 i1
      refine am_go 400 [11] (am_wpc_cm _ _ _) wf_102 ?_
      refine And.intro (rfl) ?_
      refine And.intro (fun h1 => ?_) (fun h1 => ?_)
      · refine And.intro (by first | omega | (simp only [mS_iff, eq_self, Int.reduceEq, true_and, and_true, false_and, and_false, and_self, ↓reduceIte]; omega) | (simp only [mS_iff, eq_self, Int.reduceEq, true_and, and_true, false_and, and_false, and_self, ↓reduceIte] at *; omega)) ?_
        exact hQ1 ⟨by omega, fun j j1 j2 => i1 j j1 (by omega)⟩
      · obtain ⟨k1, k2, k3, k4, k5, k6, k7, k8, k9⟩ := hP.2.2.1 k (by omega) (by omega)
        have z6 := z2 k (by omega) (by omega)
        have z7 := hP.ref (a := S 11 k) (by omega) (by omega)
        have z8 := hP.eq (a := S 11 k) (b := S 11 p) (by omega) (by omega) (by omega) (by omega)
        refine And.intro (rfl) ?_
        refine And.intro (⟨rfl, by first | omega | (simp only [mS_iff, eq_self, Int.reduceEq, true_and, and_true, false_and, and_false, and_self, ↓reduceIte]; omega) | (simp only [mS_iff, eq_self, Int.reduceEq, true_and, and_true, false_and, and_false, and_self, ↓reduceIte] at *; omega)⟩) ?_
        refine And.intro (show (m (m 20 k) (-1)) = 11 by first | assumption | omega | (simp only [mS_iff, eq_self, Int.reduceEq, true_and, and_true, false_and, and_false, and_self, ↓reduceIte]; omega) | (simp only [mS_iff, eq_self, Int.reduceEq, true_and, and_true, false_and, and_false, and_self, ↓reduceIte] at *; omega)) ?_
        refine And.intro (fun h2 => ?_) (fun h2 => ?_)
        · refine And.intro (show -2147483648 ≤ k + 1 ∧ k + 1 ≤ 2147483647 by first | omega | (simp only [mS_iff, eq_self, Int.reduceEq, true_and, and_true, false_and, and_false, and_self, ↓reduceIte]; omega) | (simp only [mS_iff, eq_self, Int.reduceEq, true_and, and_true, false_and, and_false, and_self, ↓reduceIte] at *; omega)) ?_
          refine ih11 _ ?_ _ _ (Eq.refl _) ?_ ?_ ?_
          · omega
          · first | omega | (simp only [mS_iff, eq_self, Int.reduceEq, true_and, and_true, false_and, and_false, and_self, ↓reduceIte]; omega) | (simp only [mS_iff, eq_self, Int.reduceEq, true_and, and_true, false_and, and_false, and_self, ↓reduceIte] at *; omega)
          · exact i2
          · intro j a b
            by_cases e : j = k
            · subst e; intro ⟨q1, q2, q3⟩; omega
            · exact i1 j a (by omega)
        · refine And.intro (show (m (m 20 k) (-1)) = 11 by first | assumption | omega | (simp only [mS_iff, eq_self, Int.reduceEq, true_and, and_true, false_and, and_false, and_self, ↓reduceIte]; omega) | (simp only [mS_iff, eq_self, Int.reduceEq, true_and, and_true, false_and, and_false, and_self, ↓reduceIte] at *; omega)) ?_
          refine And.intro (show (m (m 20 p) (-1)) = 11 by first | assumption | omega | (simp only [mS_iff, eq_self, Int.reduceEq, true_and, and_true, false_and, and_false, and_self, ↓reduceIte]; omega) | (simp only [mS_iff, eq_self, Int.reduceEq, true_and, and_true, false_and, and_false, and_self, ↓reduceIte] at *; omega)) ?_
          refine And.intro (show 0 ≤ (m (m 20 k) 1) ∧ 0 ≤ (m (m 20 p) 1) by first | omega | (simp only [mS_iff, eq_self, Int.reduceEq, true_and, and_true, false_and, and_false, and_self, ↓reduceIte]; omega) | (simp only [mS_iff, eq_self, Int.reduceEq, true_and, and_true, false_and, and_false, and_self, ↓reduceIte] at *; omega)) ?_
          refine And.intro (fun h3 => ?_) (fun h3 => ?_)
          · refine And.intro (show -2147483648 ≤ k + 1 ∧ k + 1 ≤ 2147483647 by first | omega | (simp only [mS_iff, eq_self, Int.reduceEq, true_and, and_true, false_and, and_false, and_self, ↓reduceIte]; omega) | (simp only [mS_iff, eq_self, Int.reduceEq, true_and, and_true, false_and, and_false, and_self, ↓reduceIte] at *; omega)) ?_
            refine ih11 _ ?_ _ _ (Eq.refl _) ?_ ?_ ?_
            · omega
            · first | omega | (simp only [mS_iff, eq_self, Int.reduceEq, true_and, and_true, false_and, and_false, and_self, ↓reduceIte]; omega) | (simp only [mS_iff, eq_self, Int.reduceEq, true_and, and_true, false_and, and_false, and_self, ↓reduceIte] at *; omega)
            · exact i2
            · intro j a b
              by_cases e : j = k
              · subst e; intro ⟨q1, q2, q3⟩; omega
              · exact i1 j a (by omega)
          · refine And.intro (show (m (m 20 k) (-1)) = 11 by first | assumption | omega | (simp only [mS_iff, eq_self, Int.reduceEq, true_and, and_true, false_and, and_false, and_self, ↓reduceIte]; omega) | (simp only [mS_iff, eq_self, Int.reduceEq, true_and, and_true, false_and, and_false, and_self, ↓reduceIte] at *; omega)) ?_
            refine And.intro (fun h4 => ?_) (fun h4 => ?_)
            · refine And.intro (show -2147483648 ≤ k + 1 ∧ k + 1 ≤ 2147483647 by first | omega | (simp only [mS_iff, eq_self, Int.reduceEq, true_and, and_true, false_and, and_false, and_self, ↓reduceIte]; omega) | (simp only [mS_iff, eq_self, Int.reduceEq, true_and, and_true, false_and, and_false, and_self, ↓reduceIte] at *; omega)) ?_
              refine ih11 _ ?_ _ _ (Eq.refl _) ?_ ?_ ?_
              · omega
              · first | omega | (simp only [mS_iff, eq_self, Int.reduceEq, true_and, and_true, false_and, and_false, and_self, ↓reduceIte]; omega) | (simp only [mS_iff, eq_self, Int.reduceEq, true_and, and_true, false_and, and_false, and_self, ↓reduceIte] at *; omega)
              · exact i2
              · intro j a b
                by_cases e : j = k
                · subst e; intro ⟨q1, q2, q3⟩; omega
                · exact i1 j a (by omega)
            · refine And.intro (by first | omega | (simp only [mS_iff, eq_self, Int.reduceEq, true_and, and_true, false_and, and_false, and_self, ↓reduceIte]; omega) | (simp only [mS_iff, eq_self, Int.reduceEq, true_and, and_true, false_and, and_false, and_self, ↓reduceIte] at *; omega)) ?_
              exact hQ0 (fun q => by first | exact q.1 (by omega) | exact q.2 k (by omega) (by omega) ⟨by omega, by omega, by omega⟩)
  refine am_go 400 [11] (am_wpc_cm _ _ _) wf_102 ?_
  refine And.intro (show (m (m 20 p) (-1)) = 11 by first | assumption | omega | (simp only [mS_iff, eq_self, Int.reduceEq, true_and, and_true, false_and, and_false, and_self, ↓reduceIte]; omega) | (simp only [mS_iff, eq_self, Int.reduceEq, true_and, and_true, false_and, and_false, and_self, ↓reduceIte] at *; omega)) ?_
  refine And.intro (show (m (m 20 p) 1) ≠ -9 by first | omega | (simp only [mS_iff, eq_self, Int.reduceEq, true_and, and_true, false_and, and_false, and_self, ↓reduceIte]; omega) | (simp only [mS_iff, eq_self, Int.reduceEq, true_and, and_true, false_and, and_false, and_self, ↓reduceIte] at *; omega)) ?_
  refine And.intro (fun h5 => ?_) (fun h5 => ?_)
  · refine K11 _ _ _ (Eq.refl _) ?_ ?_ ?_
    · first | omega | (simp only [mS_iff, eq_self, Int.reduceEq, true_and, and_true, false_and, and_false, and_self, ↓reduceIte]; omega) | (simp only [mS_iff, eq_self, Int.reduceEq, true_and, and_true, false_and, and_false, and_self, ↓reduceIte] at *; omega)
    · omega
    · intro j a b
      omega
  · refine And.intro (by first | omega | (simp only [mS_iff, eq_self, Int.reduceEq, true_and, and_true, false_and, and_false, and_self, ↓reduceIte]; omega) | (simp only [mS_iff, eq_self, Int.reduceEq, true_and, and_true, false_and, and_false, and_self, ↓reduceIte] at *; omega)) ?_
    exact hQ0 (fun q => by first | exact q.1 (by omega) | exact q.2 k (by omega) (by omega) ⟨by omega, by omega, by omega⟩)
theorem ct_104 {d : Nat} {m : aM} {Q : aO → aM → Prop} {S : aM} {p day : Int} (hd : 2 ≤ d) (hP : hPs S m) (hp : 0 ≤ p ∧ p < S 0 4) (hQ : ∀ x, x = s_mark S day p → Q (.inl (some (aI x))) m) : am_wpc am_G am_T d 104 [aR 1, aR (m 20 p), aI day] m Q := by
  obtain ⟨z1, z2⟩ := hP.1
  have z3 := hP.2.1
  have z4 := z2 p (by omega) (by omega)
  obtain ⟨p1, p2, p3, p4, p5, p6, p7, p8, p9⟩ := hP.2.2.1 p (by omega) (by omega)
  have z5 := hP.ref (a := S 11 p) (by omega) (by omega)
  refine am_in rfl hd (fun d hd => ?_)
  have K29 : ∀ (N : Nat), ∀ (n : Int) (k : Int) (x : aV) (y : aV), (40 - k).toNat = N → (0 ≤ k ∧ k ≤ S 0 4) → (S 10 p = 0 ∧ S 11 p ≠ -1 ∧ S 13 p ≤ day) → (n = 1 + s_sum (s_ahd S p) k.toNat) → am_WP am_G (am_wpc am_G am_T d) [] cd_104 Q 29 [aR 1, aR (m 20 p), aI day, aI n, aI k, x, y] [] m := by
    intro N
    induction N using Nat.strongRecOn with
    | _ N ih29 =>
      intro n k x y hN i0 i2 i1
      have b := s_sum_b (s_ahd_b S p) k.toNat
      have K90 : ∀ (t : Int), (k < S 0 4) → (t = if S 13 k < S 13 p ∨ (S 13 k = S 13 p ∧ k < p) then 1 else 0) → am_WP am_G (am_wpc am_G am_T d) [] cd_104 Q 90 [aR 1, aR (m 20 p), aI day, aI n, aI k, aR (m 20 k), aI t] [] m := by
        intro t kk tt
        obtain ⟨k1, k2, k3, k4, k5, k6, k7, k8, k9⟩ := hP.2.2.1 k (by omega) (by omega)
        have z6 := z2 k (by omega) (by omega)
        have z7 := hP.ref (a := S 11 k) (by omega) (by omega)
        have z8 := hP.eq (a := S 11 k) (b := S 11 p) (by omega) (by omega) (by omega) (by omega)
        have aq := s_ahd_eq S p k
        refine am_go 400 [29, 90] (am_wpc_cm _ _ _) wf_104 ?_
        refine And.intro (show (m (m 20 k) (-1)) = 11 by first | assumption | omega | (simp only [mS_iff, eq_self, Int.reduceEq, true_and, and_true, false_and, and_false, and_self, ↓reduceIte]; omega) | (simp only [mS_iff, eq_self, Int.reduceEq, true_and, and_true, false_and, and_false, and_self, ↓reduceIte] at *; omega)) ?_
        refine And.intro (fun h1 => ?_) (fun h1 => ?_)
        · refine And.intro (show -2147483648 ≤ n + 0 ∧ n + 0 ≤ 2147483647 by first | omega | (simp only [mS_iff, eq_self, Int.reduceEq, true_and, and_true, false_and, and_false, and_self, ↓reduceIte]; omega) | (simp only [mS_iff, eq_self, Int.reduceEq, true_and, and_true, false_and, and_false, and_self, ↓reduceIte] at *; omega)) ?_
          refine And.intro (show -2147483648 ≤ k + 1 ∧ k + 1 ≤ 2147483647 by first | omega | (simp only [mS_iff, eq_self, Int.reduceEq, true_and, and_true, false_and, and_false, and_self, ↓reduceIte]; omega) | (simp only [mS_iff, eq_self, Int.reduceEq, true_and, and_true, false_and, and_false, and_self, ↓reduceIte] at *; omega)) ?_
          refine ih29 _ ?_ _ _ _ _ (Eq.refl _) ?_ ?_ ?_
          · omega
          · first | omega | (simp only [mS_iff, eq_self, Int.reduceEq, true_and, and_true, false_and, and_false, and_self, ↓reduceIte]; omega) | (simp only [mS_iff, eq_self, Int.reduceEq, true_and, and_true, false_and, and_false, and_self, ↓reduceIte] at *; omega)
          · exact i2
          · rw [s_sum_i (by omega)]; omega
        · refine And.intro (show (m (m 20 k) (-1)) = 11 by first | assumption | omega | (simp only [mS_iff, eq_self, Int.reduceEq, true_and, and_true, false_and, and_false, and_self, ↓reduceIte]; omega) | (simp only [mS_iff, eq_self, Int.reduceEq, true_and, and_true, false_and, and_false, and_self, ↓reduceIte] at *; omega)) ?_
          refine And.intro (show (m (m 20 p) (-1)) = 11 by first | assumption | omega | (simp only [mS_iff, eq_self, Int.reduceEq, true_and, and_true, false_and, and_false, and_self, ↓reduceIte]; omega) | (simp only [mS_iff, eq_self, Int.reduceEq, true_and, and_true, false_and, and_false, and_self, ↓reduceIte] at *; omega)) ?_
          refine And.intro (show 0 ≤ (m (m 20 k) 1) ∧ 0 ≤ (m (m 20 p) 1) by first | omega | (simp only [mS_iff, eq_self, Int.reduceEq, true_and, and_true, false_and, and_false, and_self, ↓reduceIte]; omega) | (simp only [mS_iff, eq_self, Int.reduceEq, true_and, and_true, false_and, and_false, and_self, ↓reduceIte] at *; omega)) ?_
          refine And.intro (fun h2 => ?_) (fun h2 => ?_)
          · refine And.intro (show -2147483648 ≤ n + 0 ∧ n + 0 ≤ 2147483647 by first | omega | (simp only [mS_iff, eq_self, Int.reduceEq, true_and, and_true, false_and, and_false, and_self, ↓reduceIte]; omega) | (simp only [mS_iff, eq_self, Int.reduceEq, true_and, and_true, false_and, and_false, and_self, ↓reduceIte] at *; omega)) ?_
            refine And.intro (show -2147483648 ≤ k + 1 ∧ k + 1 ≤ 2147483647 by first | omega | (simp only [mS_iff, eq_self, Int.reduceEq, true_and, and_true, false_and, and_false, and_self, ↓reduceIte]; omega) | (simp only [mS_iff, eq_self, Int.reduceEq, true_and, and_true, false_and, and_false, and_self, ↓reduceIte] at *; omega)) ?_
            refine ih29 _ ?_ _ _ _ _ (Eq.refl _) ?_ ?_ ?_
            · omega
            · first | omega | (simp only [mS_iff, eq_self, Int.reduceEq, true_and, and_true, false_and, and_false, and_self, ↓reduceIte]; omega) | (simp only [mS_iff, eq_self, Int.reduceEq, true_and, and_true, false_and, and_false, and_self, ↓reduceIte] at *; omega)
            · exact i2
            · rw [s_sum_i (by omega)]; omega
          · refine And.intro (fun h3 => ?_) (fun h3 => ?_)
            · refine And.intro (show -2147483648 ≤ n + 0 ∧ n + 0 ≤ 2147483647 by first | omega | (simp only [mS_iff, eq_self, Int.reduceEq, true_and, and_true, false_and, and_false, and_self, ↓reduceIte]; omega) | (simp only [mS_iff, eq_self, Int.reduceEq, true_and, and_true, false_and, and_false, and_self, ↓reduceIte] at *; omega)) ?_
              refine And.intro (show -2147483648 ≤ k + 1 ∧ k + 1 ≤ 2147483647 by first | omega | (simp only [mS_iff, eq_self, Int.reduceEq, true_and, and_true, false_and, and_false, and_self, ↓reduceIte]; omega) | (simp only [mS_iff, eq_self, Int.reduceEq, true_and, and_true, false_and, and_false, and_self, ↓reduceIte] at *; omega)) ?_
              refine ih29 _ ?_ _ _ _ _ (Eq.refl _) ?_ ?_ ?_
              · omega
              · first | omega | (simp only [mS_iff, eq_self, Int.reduceEq, true_and, and_true, false_and, and_false, and_self, ↓reduceIte]; omega) | (simp only [mS_iff, eq_self, Int.reduceEq, true_and, and_true, false_and, and_false, and_self, ↓reduceIte] at *; omega)
              · exact i2
              · rw [s_sum_i (by omega)]; omega
            · refine And.intro (show -2147483648 ≤ n + 1 ∧ n + 1 ≤ 2147483647 by first | omega | (simp only [mS_iff, eq_self, Int.reduceEq, true_and, and_true, false_and, and_false, and_self, ↓reduceIte]; omega) | (simp only [mS_iff, eq_self, Int.reduceEq, true_and, and_true, false_and, and_false, and_self, ↓reduceIte] at *; omega)) ?_
              refine And.intro (show -2147483648 ≤ k + 1 ∧ k + 1 ≤ 2147483647 by first | omega | (simp only [mS_iff, eq_self, Int.reduceEq, true_and, and_true, false_and, and_false, and_self, ↓reduceIte]; omega) | (simp only [mS_iff, eq_self, Int.reduceEq, true_and, and_true, false_and, and_false, and_self, ↓reduceIte] at *; omega)) ?_
              refine ih29 _ ?_ _ _ _ _ (Eq.refl _) ?_ ?_ ?_
              · omega
              · first | omega | (simp only [mS_iff, eq_self, Int.reduceEq, true_and, and_true, false_and, and_false, and_self, ↓reduceIte]; omega) | (simp only [mS_iff, eq_self, Int.reduceEq, true_and, and_true, false_and, and_false, and_self, ↓reduceIte] at *; omega)
              · exact i2
              · rw [s_sum_i (by omega)]; omega
      refine am_go 400 [29, 90] (am_wpc_cm _ _ _) wf_104 ?_
      refine And.intro (rfl) ?_
      refine And.intro (fun h4 => ?_) (fun h4 => ?_)
      · have z9 := z2 (S 11 p) (by omega) (by omega)
        obtain ⟨f1, f2, -⟩ := hP.2.2.1 (S 11 p) (by omega) (by omega)
        have ef := z5.2.2 (by omega)
        have g1 : m (m 20 p) 1 = m 20 (S 11 p) := by omega
        refine And.intro (fun h5 => ?_) (fun h5 => ?_)
        · have en : S 0 4 = k := by omega
          exact hQ _ (by unfold s_mark; rw [en]; omega)
        · refine And.intro (show (m (m 20 p) (-1)) = 11 by first | assumption | omega | (simp only [mS_iff, eq_self, Int.reduceEq, true_and, and_true, false_and, and_false, and_self, ↓reduceIte]; omega) | (simp only [mS_iff, eq_self, Int.reduceEq, true_and, and_true, false_and, and_false, and_self, ↓reduceIte] at *; omega)) ?_
          rw [g1]
          refine And.intro (f2) ?_
          refine ct_321 (p := S 11 p) (by omega) hP (by omega) (fun h6 => ?_) (fun h6 => ?_)
          · unfold s_lives at h6
            refine And.intro (fun _ => ?_) (fun h => absurd h (by decide))
            have en : S 0 4 = k := by omega
            exact hQ _ (by unfold s_mark; rw [en]; omega)
          · unfold s_lives at h6
            refine And.intro (fun h => absurd h (by decide)) (fun _ => ?_)
            have en : S 0 4 = k := by omega
            exact hQ _ (by unfold s_mark; rw [en]; omega)
      · obtain ⟨k1, k2, k3, k4, k5, k6, k7, k8, k9⟩ := hP.2.2.1 k (by omega) (by omega)
        have z6 := z2 k (by omega) (by omega)
        have z7 := hP.ref (a := S 11 k) (by omega) (by omega)
        have z8 := hP.eq (a := S 11 k) (b := S 11 p) (by omega) (by omega) (by omega) (by omega)
        refine And.intro (rfl) ?_
        refine And.intro (⟨rfl, by first | omega | (simp only [mS_iff, eq_self, Int.reduceEq, true_and, and_true, false_and, and_false, and_self, ↓reduceIte]; omega) | (simp only [mS_iff, eq_self, Int.reduceEq, true_and, and_true, false_and, and_false, and_self, ↓reduceIte] at *; omega)⟩) ?_
        refine And.intro (show (m (m 20 k) (-1)) = 11 by first | assumption | omega | (simp only [mS_iff, eq_self, Int.reduceEq, true_and, and_true, false_and, and_false, and_self, ↓reduceIte]; omega) | (simp only [mS_iff, eq_self, Int.reduceEq, true_and, and_true, false_and, and_false, and_self, ↓reduceIte] at *; omega)) ?_
        refine And.intro (show (m (m 20 p) (-1)) = 11 by first | assumption | omega | (simp only [mS_iff, eq_self, Int.reduceEq, true_and, and_true, false_and, and_false, and_self, ↓reduceIte]; omega) | (simp only [mS_iff, eq_self, Int.reduceEq, true_and, and_true, false_and, and_false, and_self, ↓reduceIte] at *; omega)) ?_
        refine And.intro (fun h7 => ?_) (fun h7 => ?_)
        · refine K90 _ ?_ ?_
          · first | omega | (simp only [mS_iff, eq_self, Int.reduceEq, true_and, and_true, false_and, and_false, and_self, ↓reduceIte]; omega) | (simp only [mS_iff, eq_self, Int.reduceEq, true_and, and_true, false_and, and_false, and_self, ↓reduceIte] at *; omega)
          · first | omega | (simp only [mS_iff, eq_self, Int.reduceEq, true_and, and_true, false_and, and_false, and_self, ↓reduceIte]; omega) | (simp only [mS_iff, eq_self, Int.reduceEq, true_and, and_true, false_and, and_false, and_self, ↓reduceIte] at *; omega)
        · refine And.intro (show (m (m 20 k) (-1)) = 11 by first | assumption | omega | (simp only [mS_iff, eq_self, Int.reduceEq, true_and, and_true, false_and, and_false, and_self, ↓reduceIte]; omega) | (simp only [mS_iff, eq_self, Int.reduceEq, true_and, and_true, false_and, and_false, and_self, ↓reduceIte] at *; omega)) ?_
          refine And.intro (show (m (m 20 p) (-1)) = 11 by first | assumption | omega | (simp only [mS_iff, eq_self, Int.reduceEq, true_and, and_true, false_and, and_false, and_self, ↓reduceIte]; omega) | (simp only [mS_iff, eq_self, Int.reduceEq, true_and, and_true, false_and, and_false, and_self, ↓reduceIte] at *; omega)) ?_
          refine And.intro (fun h8 => ?_) (fun h8 => ?_)
          · refine K90 _ ?_ ?_
            · first | omega | (simp only [mS_iff, eq_self, Int.reduceEq, true_and, and_true, false_and, and_false, and_self, ↓reduceIte]; omega) | (simp only [mS_iff, eq_self, Int.reduceEq, true_and, and_true, false_and, and_false, and_self, ↓reduceIte] at *; omega)
            · first | omega | (simp only [mS_iff, eq_self, Int.reduceEq, true_and, and_true, false_and, and_false, and_self, ↓reduceIte]; omega) | (simp only [mS_iff, eq_self, Int.reduceEq, true_and, and_true, false_and, and_false, and_self, ↓reduceIte] at *; omega)
          · refine And.intro (show (m (m 20 k) (-1)) = 11 by first | assumption | omega | (simp only [mS_iff, eq_self, Int.reduceEq, true_and, and_true, false_and, and_false, and_self, ↓reduceIte]; omega) | (simp only [mS_iff, eq_self, Int.reduceEq, true_and, and_true, false_and, and_false, and_self, ↓reduceIte] at *; omega)) ?_
            refine And.intro (show (m (m 20 p) (-1)) = 11 by first | assumption | omega | (simp only [mS_iff, eq_self, Int.reduceEq, true_and, and_true, false_and, and_false, and_self, ↓reduceIte]; omega) | (simp only [mS_iff, eq_self, Int.reduceEq, true_and, and_true, false_and, and_false, and_self, ↓reduceIte] at *; omega)) ?_
            refine And.intro (fun h9 => ?_) (fun h9 => ?_)
            · refine K90 _ ?_ ?_
              · first | omega | (simp only [mS_iff, eq_self, Int.reduceEq, true_and, and_true, false_and, and_false, and_self, ↓reduceIte]; omega) | (simp only [mS_iff, eq_self, Int.reduceEq, true_and, and_true, false_and, and_false, and_self, ↓reduceIte] at *; omega)
              · first | omega | (simp only [mS_iff, eq_self, Int.reduceEq, true_and, and_true, false_and, and_false, and_self, ↓reduceIte]; omega) | (simp only [mS_iff, eq_self, Int.reduceEq, true_and, and_true, false_and, and_false, and_self, ↓reduceIte] at *; omega)
            · refine K90 _ ?_ ?_
              · first | omega | (simp only [mS_iff, eq_self, Int.reduceEq, true_and, and_true, false_and, and_false, and_self, ↓reduceIte]; omega) | (simp only [mS_iff, eq_self, Int.reduceEq, true_and, and_true, false_and, and_false, and_self, ↓reduceIte] at *; omega)
              · first | omega | (simp only [mS_iff, eq_self, Int.reduceEq, true_and, and_true, false_and, and_false, and_self, ↓reduceIte]; omega) | (simp only [mS_iff, eq_self, Int.reduceEq, true_and, and_true, false_and, and_false, and_self, ↓reduceIte] at *; omega)
  refine am_go 400 [29, 90] (am_wpc_cm _ _ _) wf_104 ?_
  refine And.intro (show (m (m 20 p) (-1)) = 11 by first | assumption | omega | (simp only [mS_iff, eq_self, Int.reduceEq, true_and, and_true, false_and, and_false, and_self, ↓reduceIte]; omega) | (simp only [mS_iff, eq_self, Int.reduceEq, true_and, and_true, false_and, and_false, and_self, ↓reduceIte] at *; omega)) ?_
  refine And.intro (fun h10 => ?_) (fun h10 => ?_)
  · exact hQ _ (by unfold s_mark; omega)
  · refine And.intro (show (m (m 20 p) (-1)) = 11 by first | assumption | omega | (simp only [mS_iff, eq_self, Int.reduceEq, true_and, and_true, false_and, and_false, and_self, ↓reduceIte]; omega) | (simp only [mS_iff, eq_self, Int.reduceEq, true_and, and_true, false_and, and_false, and_self, ↓reduceIte] at *; omega)) ?_
    refine And.intro (show (m (m 20 p) 1) ≠ -9 by first | omega | (simp only [mS_iff, eq_self, Int.reduceEq, true_and, and_true, false_and, and_false, and_self, ↓reduceIte]; omega) | (simp only [mS_iff, eq_self, Int.reduceEq, true_and, and_true, false_and, and_false, and_self, ↓reduceIte] at *; omega)) ?_
    refine And.intro (fun h11 => ?_) (fun h11 => ?_)
    · exact hQ _ (by unfold s_mark; omega)
    · refine And.intro (show (m (m 20 p) (-1)) = 11 by first | assumption | omega | (simp only [mS_iff, eq_self, Int.reduceEq, true_and, and_true, false_and, and_false, and_self, ↓reduceIte]; omega) | (simp only [mS_iff, eq_self, Int.reduceEq, true_and, and_true, false_and, and_false, and_self, ↓reduceIte] at *; omega)) ?_
      refine And.intro (fun h12 => ?_) (fun h12 => ?_)
      · refine K29 _ _ _ _ _ (Eq.refl _) ?_ ?_ ?_
        · first | omega | (simp only [mS_iff, eq_self, Int.reduceEq, true_and, and_true, false_and, and_false, and_self, ↓reduceIte]; omega) | (simp only [mS_iff, eq_self, Int.reduceEq, true_and, and_true, false_and, and_false, and_self, ↓reduceIte] at *; omega)
        · omega
        · simp [s_sum]
      · exact hQ _ (by unfold s_mark; omega)
theorem ct_263 {d : Nat} {m : aM} {Q : aO → aM → Prop} {S : aM} {p day : Int} (hd : 1 ≤ d) (hP : mPs S m) (hp : 0 ≤ p ∧ p < S 0 4) (hQ1 : s_lives S day p → Q (.inl (some (aI 1))) m) (hQ0 : ¬ s_lives S day p → Q (.inl (some (aI 0))) m) : am_wpc am_G am_T d 263 [aR 41, aI p, aI day] m Q := by
  obtain ⟨z1, z2⟩ := hP.1
  have z3 := hP.2.1
  have z4 := z2 p (by omega) (by omega)
  obtain ⟨p1, p2, p3, p4, p5, p6⟩ := hP.2.2 p (by omega) (by omega)
  refine am_in rfl hd (fun d hd => ?_)
  refine am_go 400 [] (am_wpc_cm _ _ _) wf_263 ?_
  refine And.intro (rfl) ?_
  refine And.intro (⟨rfl, by first | omega | (simp only [mS_iff, eq_self, Int.reduceEq, true_and, and_true, false_and, and_false, and_self, ↓reduceIte]; omega) | (simp only [mS_iff, eq_self, Int.reduceEq, true_and, and_true, false_and, and_false, and_self, ↓reduceIte] at *; omega)⟩) ?_
  refine And.intro (fun h1 => ?_) (fun h1 => ?_)
  · refine And.intro (by first | omega | (simp only [mS_iff, eq_self, Int.reduceEq, true_and, and_true, false_and, and_false, and_self, ↓reduceIte]; omega) | (simp only [mS_iff, eq_self, Int.reduceEq, true_and, and_true, false_and, and_false, and_self, ↓reduceIte] at *; omega)) ?_
    exact hQ0 (by unfold s_lives; omega)
  · refine And.intro (rfl) ?_
    refine And.intro (⟨rfl, by first | omega | (simp only [mS_iff, eq_self, Int.reduceEq, true_and, and_true, false_and, and_false, and_self, ↓reduceIte]; omega) | (simp only [mS_iff, eq_self, Int.reduceEq, true_and, and_true, false_and, and_false, and_self, ↓reduceIte] at *; omega)⟩) ?_
    refine And.intro (fun h2 => ?_) (fun h2 => ?_)
    · refine And.intro (by first | omega | (simp only [mS_iff, eq_self, Int.reduceEq, true_and, and_true, false_and, and_false, and_self, ↓reduceIte]; omega) | (simp only [mS_iff, eq_self, Int.reduceEq, true_and, and_true, false_and, and_false, and_self, ↓reduceIte] at *; omega)) ?_
      exact hQ0 (by unfold s_lives; omega)
    · refine And.intro (by first | omega | (simp only [mS_iff, eq_self, Int.reduceEq, true_and, and_true, false_and, and_false, and_self, ↓reduceIte]; omega) | (simp only [mS_iff, eq_self, Int.reduceEq, true_and, and_true, false_and, and_false, and_self, ↓reduceIte] at *; omega)) ?_
      exact hQ1 (by unfold s_lives; omega)
theorem ct_259 {d : Nat} {m : aM} {Q : aO → aM → Prop} {S : aM} {p day : Int} (hd : 1 ≤ d) (hP : mPs S m) (hp : 0 ≤ p ∧ p < S 0 4) (hQ1 : s_her S day p → Q (.inl (some (aI 1))) m) (hQ0 : ¬ s_her S day p → Q (.inl (some (aI 0))) m) : am_wpc am_G am_T d 259 [aR 41, aI p, aI day] m Q := by
  obtain ⟨z1, z2⟩ := hP.1
  have z3 := hP.2.1
  have z4 := z2 p (by omega) (by omega)
  obtain ⟨p1, p2, p3, p4, p5, p6⟩ := hP.2.2 p (by omega) (by omega)
  refine am_in rfl hd (fun d hd => ?_)
  have K14 : ∀ (N : Nat), ∀ (k : Int), (40 - k).toNat = N → (0 ≤ k ∧ k ≤ S 0 4) → (S 11 p ≠ -1) → (∀ j, 0 ≤ j → j < k → ¬ s_son S day p j) → am_WP am_G (am_wpc am_G am_T d) [] cd_259 Q 14 [aR 41, aI p, aI day, aI k] [] m := by
    intro N
    induction N using Nat.strongRecOn with
    | _ N ih14 =>
      intro k hN i0 i2 i1
      refine am_go 400 [14] (am_wpc_cm _ _ _) wf_259 ?_
      refine And.intro (rfl) ?_
      refine And.intro (fun h1 => ?_) (fun h1 => ?_)
      · refine And.intro (by first | omega | (simp only [mS_iff, eq_self, Int.reduceEq, true_and, and_true, false_and, and_false, and_self, ↓reduceIte]; omega) | (simp only [mS_iff, eq_self, Int.reduceEq, true_and, and_true, false_and, and_false, and_self, ↓reduceIte] at *; omega)) ?_
        exact hQ1 ⟨by omega, fun j j1 j2 => i1 j j1 (by omega)⟩
      · obtain ⟨k1, k2, k3, k4, k5, k6⟩ := hP.2.2 k (by omega) (by omega)
        have z6 := z2 k (by omega) (by omega)
        refine And.intro (rfl) ?_
        refine And.intro (⟨rfl, by first | omega | (simp only [mS_iff, eq_self, Int.reduceEq, true_and, and_true, false_and, and_false, and_self, ↓reduceIte]; omega) | (simp only [mS_iff, eq_self, Int.reduceEq, true_and, and_true, false_and, and_false, and_self, ↓reduceIte] at *; omega)⟩) ?_
        refine And.intro (fun h2 => ?_) (fun h2 => ?_)
        · refine And.intro (show -2147483648 ≤ k + 1 ∧ k + 1 ≤ 2147483647 by first | omega | (simp only [mS_iff, eq_self, Int.reduceEq, true_and, and_true, false_and, and_false, and_self, ↓reduceIte]; omega) | (simp only [mS_iff, eq_self, Int.reduceEq, true_and, and_true, false_and, and_false, and_self, ↓reduceIte] at *; omega)) ?_
          refine ih14 _ ?_ _ (Eq.refl _) ?_ ?_ ?_
          · omega
          · first | omega | (simp only [mS_iff, eq_self, Int.reduceEq, true_and, and_true, false_and, and_false, and_self, ↓reduceIte]; omega) | (simp only [mS_iff, eq_self, Int.reduceEq, true_and, and_true, false_and, and_false, and_self, ↓reduceIte] at *; omega)
          · exact i2
          · intro j a b
            by_cases e : j = k
            · subst e; intro ⟨q1, q2, q3⟩; omega
            · exact i1 j a (by omega)
        · refine And.intro (rfl) ?_
          refine And.intro (⟨rfl, by first | omega | (simp only [mS_iff, eq_self, Int.reduceEq, true_and, and_true, false_and, and_false, and_self, ↓reduceIte]; omega) | (simp only [mS_iff, eq_self, Int.reduceEq, true_and, and_true, false_and, and_false, and_self, ↓reduceIte] at *; omega)⟩) ?_
          refine And.intro (rfl) ?_
          refine And.intro (⟨rfl, by first | omega | (simp only [mS_iff, eq_self, Int.reduceEq, true_and, and_true, false_and, and_false, and_self, ↓reduceIte]; omega) | (simp only [mS_iff, eq_self, Int.reduceEq, true_and, and_true, false_and, and_false, and_self, ↓reduceIte] at *; omega)⟩) ?_
          refine And.intro (fun h3 => ?_) (fun h3 => ?_)
          · refine And.intro (show -2147483648 ≤ k + 1 ∧ k + 1 ≤ 2147483647 by first | omega | (simp only [mS_iff, eq_self, Int.reduceEq, true_and, and_true, false_and, and_false, and_self, ↓reduceIte]; omega) | (simp only [mS_iff, eq_self, Int.reduceEq, true_and, and_true, false_and, and_false, and_self, ↓reduceIte] at *; omega)) ?_
            refine ih14 _ ?_ _ (Eq.refl _) ?_ ?_ ?_
            · omega
            · first | omega | (simp only [mS_iff, eq_self, Int.reduceEq, true_and, and_true, false_and, and_false, and_self, ↓reduceIte]; omega) | (simp only [mS_iff, eq_self, Int.reduceEq, true_and, and_true, false_and, and_false, and_self, ↓reduceIte] at *; omega)
            · exact i2
            · intro j a b
              by_cases e : j = k
              · subst e; intro ⟨q1, q2, q3⟩; omega
              · exact i1 j a (by omega)
          · refine And.intro (rfl) ?_
            refine And.intro (⟨rfl, by first | omega | (simp only [mS_iff, eq_self, Int.reduceEq, true_and, and_true, false_and, and_false, and_self, ↓reduceIte]; omega) | (simp only [mS_iff, eq_self, Int.reduceEq, true_and, and_true, false_and, and_false, and_self, ↓reduceIte] at *; omega)⟩) ?_
            refine And.intro (fun h4 => ?_) (fun h4 => ?_)
            · refine And.intro (show -2147483648 ≤ k + 1 ∧ k + 1 ≤ 2147483647 by first | omega | (simp only [mS_iff, eq_self, Int.reduceEq, true_and, and_true, false_and, and_false, and_self, ↓reduceIte]; omega) | (simp only [mS_iff, eq_self, Int.reduceEq, true_and, and_true, false_and, and_false, and_self, ↓reduceIte] at *; omega)) ?_
              refine ih14 _ ?_ _ (Eq.refl _) ?_ ?_ ?_
              · omega
              · first | omega | (simp only [mS_iff, eq_self, Int.reduceEq, true_and, and_true, false_and, and_false, and_self, ↓reduceIte]; omega) | (simp only [mS_iff, eq_self, Int.reduceEq, true_and, and_true, false_and, and_false, and_self, ↓reduceIte] at *; omega)
              · exact i2
              · intro j a b
                by_cases e : j = k
                · subst e; intro ⟨q1, q2, q3⟩; omega
                · exact i1 j a (by omega)
            · refine And.intro (by first | omega | (simp only [mS_iff, eq_self, Int.reduceEq, true_and, and_true, false_and, and_false, and_self, ↓reduceIte]; omega) | (simp only [mS_iff, eq_self, Int.reduceEq, true_and, and_true, false_and, and_false, and_self, ↓reduceIte] at *; omega)) ?_
              exact hQ0 (fun q => by first | exact q.1 (by omega) | exact q.2 k (by omega) (by omega) ⟨by omega, by omega, by omega⟩)
  refine am_go 400 [14] (am_wpc_cm _ _ _) wf_259 ?_
  refine And.intro (rfl) ?_
  refine And.intro (⟨rfl, by first | omega | (simp only [mS_iff, eq_self, Int.reduceEq, true_and, and_true, false_and, and_false, and_self, ↓reduceIte]; omega) | (simp only [mS_iff, eq_self, Int.reduceEq, true_and, and_true, false_and, and_false, and_self, ↓reduceIte] at *; omega)⟩) ?_
  refine And.intro (fun h5 => ?_) (fun h5 => ?_)
  · refine K14 _ _ (Eq.refl _) ?_ ?_ ?_
    · first | omega | (simp only [mS_iff, eq_self, Int.reduceEq, true_and, and_true, false_and, and_false, and_self, ↓reduceIte]; omega) | (simp only [mS_iff, eq_self, Int.reduceEq, true_and, and_true, false_and, and_false, and_self, ↓reduceIte] at *; omega)
    · omega
    · intro j a b
      omega
  · refine And.intro (by first | omega | (simp only [mS_iff, eq_self, Int.reduceEq, true_and, and_true, false_and, and_false, and_self, ↓reduceIte]; omega) | (simp only [mS_iff, eq_self, Int.reduceEq, true_and, and_true, false_and, and_false, and_self, ↓reduceIte] at *; omega)) ?_
    exact hQ0 (fun q => by first | exact q.1 (by omega) | exact q.2 k (by omega) (by omega) ⟨by omega, by omega, by omega⟩)
theorem ct_262 {d : Nat} {m : aM} {Q : aO → aM → Prop} {S : aM} {p day : Int} (hd : 2 ≤ d) (hP : mPs S m) (hp : 0 ≤ p ∧ p < S 0 4) (hQ : ∀ x, x = s_mark S day p → Q (.inl (some (aI x))) m) : am_wpc am_G am_T d 262 [aR 41, aI p, aI day] m Q := by
  obtain ⟨z1, z2⟩ := hP.1
  have z3 := hP.2.1
  have z4 := z2 p (by omega) (by omega)
  obtain ⟨p1, p2, p3, p4, p5, p6⟩ := hP.2.2 p (by omega) (by omega)
  refine am_in rfl hd (fun d hd => ?_)
  have K36 : ∀ (N : Nat), ∀ (n : Int) (k : Int), (40 - k).toNat = N → (0 ≤ k ∧ k ≤ S 0 4) → (S 10 p = 0 ∧ S 11 p ≠ -1 ∧ S 13 p ≤ day) → (n = 1 + s_sum (s_ahd S p) k.toNat) → am_WP am_G (am_wpc am_G am_T d) [] cd_262 Q 36 [aR 41, aI p, aI day, aI n, aI k] [] m := by
    intro N
    induction N using Nat.strongRecOn with
    | _ N ih36 =>
      intro n k hN i0 i2 i1
      have b := s_sum_b (s_ahd_b S p) k.toNat
      refine am_go 400 [36] (am_wpc_cm _ _ _) wf_262 ?_
      refine And.intro (rfl) ?_
      refine And.intro (fun h1 => ?_) (fun h1 => ?_)
      · refine And.intro (fun h2 => ?_) (fun h2 => ?_)
        · have en : S 0 4 = k := by omega
          exact hQ _ (by unfold s_mark; rw [en]; omega)
        · refine And.intro (rfl) ?_
          refine And.intro (⟨rfl, by first | omega | (simp only [mS_iff, eq_self, Int.reduceEq, true_and, and_true, false_and, and_false, and_self, ↓reduceIte]; omega) | (simp only [mS_iff, eq_self, Int.reduceEq, true_and, and_true, false_and, and_false, and_self, ↓reduceIte] at *; omega)⟩) ?_
          rw [p2]
          refine And.intro (rfl) ?_
          refine ct_263 (p := S 11 p) (by omega) hP (by omega) (fun h3 => ?_) (fun h3 => ?_)
          · unfold s_lives at h3
            refine And.intro (fun _ => ?_) (fun h => absurd h (by decide))
            have en : S 0 4 = k := by omega
            exact hQ _ (by unfold s_mark; rw [en]; omega)
          · unfold s_lives at h3
            refine And.intro (fun h => absurd h (by decide)) (fun _ => ?_)
            have en : S 0 4 = k := by omega
            exact hQ _ (by unfold s_mark; rw [en]; omega)
      · obtain ⟨k1, k2, k3, k4, k5, k6⟩ := hP.2.2 k (by omega) (by omega)
        have z6 := z2 k (by omega) (by omega)
        have aq := s_ahd_eq S p k
        refine And.intro (rfl) ?_
        refine And.intro (⟨rfl, by first | omega | (simp only [mS_iff, eq_self, Int.reduceEq, true_and, and_true, false_and, and_false, and_self, ↓reduceIte]; omega) | (simp only [mS_iff, eq_self, Int.reduceEq, true_and, and_true, false_and, and_false, and_self, ↓reduceIte] at *; omega)⟩) ?_
        refine And.intro (fun h4 => ?_) (fun h4 => ?_)
        · refine And.intro (show -2147483648 ≤ k + 1 ∧ k + 1 ≤ 2147483647 by first | omega | (simp only [mS_iff, eq_self, Int.reduceEq, true_and, and_true, false_and, and_false, and_self, ↓reduceIte]; omega) | (simp only [mS_iff, eq_self, Int.reduceEq, true_and, and_true, false_and, and_false, and_self, ↓reduceIte] at *; omega)) ?_
          refine ih36 _ ?_ _ _ (Eq.refl _) ?_ ?_ ?_
          · omega
          · first | omega | (simp only [mS_iff, eq_self, Int.reduceEq, true_and, and_true, false_and, and_false, and_self, ↓reduceIte]; omega) | (simp only [mS_iff, eq_self, Int.reduceEq, true_and, and_true, false_and, and_false, and_self, ↓reduceIte] at *; omega)
          · exact i2
          · rw [s_sum_i (by omega)]; omega
        · refine And.intro (rfl) ?_
          refine And.intro (⟨rfl, by first | omega | (simp only [mS_iff, eq_self, Int.reduceEq, true_and, and_true, false_and, and_false, and_self, ↓reduceIte]; omega) | (simp only [mS_iff, eq_self, Int.reduceEq, true_and, and_true, false_and, and_false, and_self, ↓reduceIte] at *; omega)⟩) ?_
          refine And.intro (rfl) ?_
          refine And.intro (⟨rfl, by first | omega | (simp only [mS_iff, eq_self, Int.reduceEq, true_and, and_true, false_and, and_false, and_self, ↓reduceIte]; omega) | (simp only [mS_iff, eq_self, Int.reduceEq, true_and, and_true, false_and, and_false, and_self, ↓reduceIte] at *; omega)⟩) ?_
          refine And.intro (fun h5 => ?_) (fun h5 => ?_)
          · refine And.intro (show -2147483648 ≤ k + 1 ∧ k + 1 ≤ 2147483647 by first | omega | (simp only [mS_iff, eq_self, Int.reduceEq, true_and, and_true, false_and, and_false, and_self, ↓reduceIte]; omega) | (simp only [mS_iff, eq_self, Int.reduceEq, true_and, and_true, false_and, and_false, and_self, ↓reduceIte] at *; omega)) ?_
            refine ih36 _ ?_ _ _ (Eq.refl _) ?_ ?_ ?_
            · omega
            · first | omega | (simp only [mS_iff, eq_self, Int.reduceEq, true_and, and_true, false_and, and_false, and_self, ↓reduceIte]; omega) | (simp only [mS_iff, eq_self, Int.reduceEq, true_and, and_true, false_and, and_false, and_self, ↓reduceIte] at *; omega)
            · exact i2
            · rw [s_sum_i (by omega)]; omega
          · refine And.intro (rfl) ?_
            refine And.intro (⟨rfl, by first | omega | (simp only [mS_iff, eq_self, Int.reduceEq, true_and, and_true, false_and, and_false, and_self, ↓reduceIte]; omega) | (simp only [mS_iff, eq_self, Int.reduceEq, true_and, and_true, false_and, and_false, and_self, ↓reduceIte] at *; omega)⟩) ?_
            refine And.intro (fun h6 => ?_) (fun h6 => ?_)
            · refine And.intro (show -2147483648 ≤ k + 1 ∧ k + 1 ≤ 2147483647 by first | omega | (simp only [mS_iff, eq_self, Int.reduceEq, true_and, and_true, false_and, and_false, and_self, ↓reduceIte]; omega) | (simp only [mS_iff, eq_self, Int.reduceEq, true_and, and_true, false_and, and_false, and_self, ↓reduceIte] at *; omega)) ?_
              refine ih36 _ ?_ _ _ (Eq.refl _) ?_ ?_ ?_
              · omega
              · first | omega | (simp only [mS_iff, eq_self, Int.reduceEq, true_and, and_true, false_and, and_false, and_self, ↓reduceIte]; omega) | (simp only [mS_iff, eq_self, Int.reduceEq, true_and, and_true, false_and, and_false, and_self, ↓reduceIte] at *; omega)
              · exact i2
              · rw [s_sum_i (by omega)]; omega
            · refine And.intro (rfl) ?_
              refine And.intro (⟨rfl, by first | omega | (simp only [mS_iff, eq_self, Int.reduceEq, true_and, and_true, false_and, and_false, and_self, ↓reduceIte]; omega) | (simp only [mS_iff, eq_self, Int.reduceEq, true_and, and_true, false_and, and_false, and_self, ↓reduceIte] at *; omega)⟩) ?_
              refine And.intro (rfl) ?_
              refine And.intro (⟨rfl, by first | omega | (simp only [mS_iff, eq_self, Int.reduceEq, true_and, and_true, false_and, and_false, and_self, ↓reduceIte]; omega) | (simp only [mS_iff, eq_self, Int.reduceEq, true_and, and_true, false_and, and_false, and_self, ↓reduceIte] at *; omega)⟩) ?_
              refine And.intro (fun h7 => ?_) (fun h7 => ?_)
              · refine And.intro (show -2147483648 ≤ n + 1 ∧ n + 1 ≤ 2147483647 by first | omega | (simp only [mS_iff, eq_self, Int.reduceEq, true_and, and_true, false_and, and_false, and_self, ↓reduceIte]; omega) | (simp only [mS_iff, eq_self, Int.reduceEq, true_and, and_true, false_and, and_false, and_self, ↓reduceIte] at *; omega)) ?_
                refine And.intro (show -2147483648 ≤ k + 1 ∧ k + 1 ≤ 2147483647 by first | omega | (simp only [mS_iff, eq_self, Int.reduceEq, true_and, and_true, false_and, and_false, and_self, ↓reduceIte]; omega) | (simp only [mS_iff, eq_self, Int.reduceEq, true_and, and_true, false_and, and_false, and_self, ↓reduceIte] at *; omega)) ?_
                refine ih36 _ ?_ _ _ (Eq.refl _) ?_ ?_ ?_
                · omega
                · first | omega | (simp only [mS_iff, eq_self, Int.reduceEq, true_and, and_true, false_and, and_false, and_self, ↓reduceIte]; omega) | (simp only [mS_iff, eq_self, Int.reduceEq, true_and, and_true, false_and, and_false, and_self, ↓reduceIte] at *; omega)
                · exact i2
                · rw [s_sum_i (by omega)]; omega
              · refine And.intro (rfl) ?_
                refine And.intro (⟨rfl, by first | omega | (simp only [mS_iff, eq_self, Int.reduceEq, true_and, and_true, false_and, and_false, and_self, ↓reduceIte]; omega) | (simp only [mS_iff, eq_self, Int.reduceEq, true_and, and_true, false_and, and_false, and_self, ↓reduceIte] at *; omega)⟩) ?_
                refine And.intro (rfl) ?_
                refine And.intro (⟨rfl, by first | omega | (simp only [mS_iff, eq_self, Int.reduceEq, true_and, and_true, false_and, and_false, and_self, ↓reduceIte]; omega) | (simp only [mS_iff, eq_self, Int.reduceEq, true_and, and_true, false_and, and_false, and_self, ↓reduceIte] at *; omega)⟩) ?_
                refine And.intro (fun h8 => ?_) (fun h8 => ?_)
                · refine And.intro (show -2147483648 ≤ k + 1 ∧ k + 1 ≤ 2147483647 by first | omega | (simp only [mS_iff, eq_self, Int.reduceEq, true_and, and_true, false_and, and_false, and_self, ↓reduceIte]; omega) | (simp only [mS_iff, eq_self, Int.reduceEq, true_and, and_true, false_and, and_false, and_self, ↓reduceIte] at *; omega)) ?_
                  refine ih36 _ ?_ _ _ (Eq.refl _) ?_ ?_ ?_
                  · omega
                  · first | omega | (simp only [mS_iff, eq_self, Int.reduceEq, true_and, and_true, false_and, and_false, and_self, ↓reduceIte]; omega) | (simp only [mS_iff, eq_self, Int.reduceEq, true_and, and_true, false_and, and_false, and_self, ↓reduceIte] at *; omega)
                  · exact i2
                  · rw [s_sum_i (by omega)]; omega
                · refine And.intro (fun h9 => ?_) (fun h9 => ?_)
                  · refine And.intro (show -2147483648 ≤ k + 1 ∧ k + 1 ≤ 2147483647 by first | omega | (simp only [mS_iff, eq_self, Int.reduceEq, true_and, and_true, false_and, and_false, and_self, ↓reduceIte]; omega) | (simp only [mS_iff, eq_self, Int.reduceEq, true_and, and_true, false_and, and_false, and_self, ↓reduceIte] at *; omega)) ?_
                    refine ih36 _ ?_ _ _ (Eq.refl _) ?_ ?_ ?_
                    · omega
                    · first | omega | (simp only [mS_iff, eq_self, Int.reduceEq, true_and, and_true, false_and, and_false, and_self, ↓reduceIte]; omega) | (simp only [mS_iff, eq_self, Int.reduceEq, true_and, and_true, false_and, and_false, and_self, ↓reduceIte] at *; omega)
                    · exact i2
                    · rw [s_sum_i (by omega)]; omega
                  · refine And.intro (show -2147483648 ≤ n + 1 ∧ n + 1 ≤ 2147483647 by first | omega | (simp only [mS_iff, eq_self, Int.reduceEq, true_and, and_true, false_and, and_false, and_self, ↓reduceIte]; omega) | (simp only [mS_iff, eq_self, Int.reduceEq, true_and, and_true, false_and, and_false, and_self, ↓reduceIte] at *; omega)) ?_
                    refine And.intro (show -2147483648 ≤ k + 1 ∧ k + 1 ≤ 2147483647 by first | omega | (simp only [mS_iff, eq_self, Int.reduceEq, true_and, and_true, false_and, and_false, and_self, ↓reduceIte]; omega) | (simp only [mS_iff, eq_self, Int.reduceEq, true_and, and_true, false_and, and_false, and_self, ↓reduceIte] at *; omega)) ?_
                    refine ih36 _ ?_ _ _ (Eq.refl _) ?_ ?_ ?_
                    · omega
                    · first | omega | (simp only [mS_iff, eq_self, Int.reduceEq, true_and, and_true, false_and, and_false, and_self, ↓reduceIte]; omega) | (simp only [mS_iff, eq_self, Int.reduceEq, true_and, and_true, false_and, and_false, and_self, ↓reduceIte] at *; omega)
                    · exact i2
                    · rw [s_sum_i (by omega)]; omega
  refine am_go 400 [36] (am_wpc_cm _ _ _) wf_262 ?_
  refine And.intro (rfl) ?_
  refine And.intro (⟨rfl, by first | omega | (simp only [mS_iff, eq_self, Int.reduceEq, true_and, and_true, false_and, and_false, and_self, ↓reduceIte]; omega) | (simp only [mS_iff, eq_self, Int.reduceEq, true_and, and_true, false_and, and_false, and_self, ↓reduceIte] at *; omega)⟩) ?_
  refine And.intro (fun h10 => ?_) (fun h10 => ?_)
  · exact hQ _ (by unfold s_mark; omega)
  · refine And.intro (rfl) ?_
    refine And.intro (⟨rfl, by first | omega | (simp only [mS_iff, eq_self, Int.reduceEq, true_and, and_true, false_and, and_false, and_self, ↓reduceIte]; omega) | (simp only [mS_iff, eq_self, Int.reduceEq, true_and, and_true, false_and, and_false, and_self, ↓reduceIte] at *; omega)⟩) ?_
    refine And.intro (fun h11 => ?_) (fun h11 => ?_)
    · exact hQ _ (by unfold s_mark; omega)
    · refine And.intro (rfl) ?_
      refine And.intro (⟨rfl, by first | omega | (simp only [mS_iff, eq_self, Int.reduceEq, true_and, and_true, false_and, and_false, and_self, ↓reduceIte]; omega) | (simp only [mS_iff, eq_self, Int.reduceEq, true_and, and_true, false_and, and_false, and_self, ↓reduceIte] at *; omega)⟩) ?_
      refine And.intro (fun h12 => ?_) (fun h12 => ?_)
      · refine K36 _ _ _ (Eq.refl _) ?_ ?_ ?_
        · first | omega | (simp only [mS_iff, eq_self, Int.reduceEq, true_and, and_true, false_and, and_false, and_self, ↓reduceIte]; omega) | (simp only [mS_iff, eq_self, Int.reduceEq, true_and, and_true, false_and, and_false, and_self, ↓reduceIte] at *; omega)
        · omega
        · simp [s_sum]
      · exact hQ _ (by unfold s_mark; omega)
theorem s_fore_s (S : aM) (p : Int) {k : Int} (h : 0 ≤ k) : s_fore S p (k + 1).toNat = if s_fore S p k.toNat = -1 then -1 else S 11 (s_fore S p k.toNat) := by
  obtain ⟨n, rfl⟩ := Int.eq_ofNat_of_zero_le h
  rfl
theorem s_fore_e (S : aM) (p : Int) {k g : Int} (h : 0 ≤ k) (hk : k ≤ g) (e : s_fore S p k.toNat = -1) : s_fore S p g.toNat = -1 := by
  have := s_fore_n e (g.toNat - k.toNat)
  rw [show k.toNat + (g.toNat - k.toNat) = g.toNat by omega] at this
  exact this
theorem ct_261 {d : Nat} {m : aM} {Q : aO → aM → Prop} {S : aM} {p g : Int} (hd : 1 ≤ d) (hP : mPs S m) (hp : 0 ≤ p ∧ p < S 0 4) (hg : 0 ≤ g ∧ g ≤ 2147483647) (hQ : ∀ x, x = s_fore S p g.toNat → Q (.inl (some (aI x))) m) : am_wpc am_G am_T d 261 [aR 41, aI p, aI g] m Q := by
  obtain ⟨z1, z2⟩ := hP.1
  refine am_in rfl hd (fun d hd => ?_)
  have K5 : ∀ (N : Nat), ∀ (f : Int) (k : Int), (f + 1).toNat = N → (0 ≤ k ∧ k ≤ g) → (f = s_fore S p k.toNat) → am_WP am_G (am_wpc am_G am_T d) [] cd_261 Q 5 [aR 41, aI p, aI g, aI f, aI k] [] m := by
    intro N
    induction N using Nat.strongRecOn with
    | _ N ih5 =>
      intro f k hN i0 i1
      have b := s_fore_b hP.1 (p := p) (by omega) (by omega) k.toNat
      rw [← i1] at b
      refine am_go 400 [5] (am_wpc_cm _ _ _) wf_261 ?_
      refine And.intro (fun h1 => ?_) (fun h1 => ?_)
      · exact hQ _ (by first | rw [i1, show g = k by omega] | (rw [s_fore_e S p (k := k) (by omega) (by omega) (by omega)]; omega))
      · refine And.intro (fun h2 => ?_) (fun h2 => ?_)
        · exact hQ _ (by first | rw [i1, show g = k by omega] | (rw [s_fore_e S p (k := k) (by omega) (by omega) (by omega)]; omega))
        · have y := hP.2.2 f (by omega) (by omega)
          have z := z2 f (by omega) (by omega)
          refine And.intro (rfl) ?_
          refine And.intro (⟨rfl, by first | omega | (simp only [mS_iff, eq_self, Int.reduceEq, true_and, and_true, false_and, and_false, and_self, ↓reduceIte]; omega) | (simp only [mS_iff, eq_self, Int.reduceEq, true_and, and_true, false_and, and_false, and_self, ↓reduceIte] at *; omega)⟩) ?_
          refine And.intro (show -2147483648 ≤ k + 1 ∧ k + 1 ≤ 2147483647 by first | omega | (simp only [mS_iff, eq_self, Int.reduceEq, true_and, and_true, false_and, and_false, and_self, ↓reduceIte]; omega) | (simp only [mS_iff, eq_self, Int.reduceEq, true_and, and_true, false_and, and_false, and_self, ↓reduceIte] at *; omega)) ?_
          refine ih5 _ ?_ _ _ (Eq.refl _) ?_ ?_
          · omega
          · first | omega | (simp only [mS_iff, eq_self, Int.reduceEq, true_and, and_true, false_and, and_false, and_self, ↓reduceIte]; omega) | (simp only [mS_iff, eq_self, Int.reduceEq, true_and, and_true, false_and, and_false, and_self, ↓reduceIte] at *; omega)
          · rw [s_fore_s S p (by omega), ← i1, if_neg (by omega)]; exact y.2.1
  refine am_go 400 [5] (am_wpc_cm _ _ _) wf_261 ?_
  refine K5 _ _ _ (Eq.refl _) ?_ ?_
  · first | omega | (simp only [mS_iff, eq_self, Int.reduceEq, true_and, and_true, false_and, and_false, and_self, ↓reduceIte]; omega) | (simp only [mS_iff, eq_self, Int.reduceEq, true_and, and_true, false_and, and_false, and_self, ↓reduceIte] at *; omega)
  · exact rfl
