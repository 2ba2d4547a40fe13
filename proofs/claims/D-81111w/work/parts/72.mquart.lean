/-! needs: 71 -/
/-! CONTRACTS: quarters of the reference; by tools/gen72.py -/
set_option maxRecDepth 100000
theorem ct_223 {d : Nat} {m : aM} {Q : aO → aM → Prop} {a b : Int} {w v : Int → Int} (hd : 1 ≤ d) (hA : mRow m a w) (hB : mRow m b v) (hQ1 : (∀ k, 0 ≤ k → k < 66 → w k = v k) → Q (.inl (some (aI 1))) m) (hQ0 : ¬ (∀ k, 0 ≤ k → k < 66 → w k = v k) → Q (.inl (some (aI 0))) m) : am_wpc am_G am_T d 223 [aR 41, aI a, aI b] m Q := by
  obtain ⟨a1, a2, a3⟩ := hA
  obtain ⟨b1, b2, b3⟩ := hB
  refine am_in rfl hd (fun d hd => ?_)
  have K2 : ∀ (N : Nat), ∀ (k : Int), (66 - k).toNat = N → (0 ≤ k ∧ k ≤ 66) → (∀ j, 0 ≤ j → j < k → w j = v j) → am_WP am_G (am_wpc am_G am_T d) [] cd_223 Q 2 [aR 41, aI a, aI b, aI k] [] m := by
    intro N
    induction N using Nat.strongRecOn with
    | _ N ih2 =>
      intro k hN i0 i1
      refine am_go 400 [2] (am_wpc_cm _ _ _) wf_223 ?_
      refine And.intro (fun h1 => ?_) (fun h1 => ?_)
      · refine And.intro (by first | omega | (simp only [mS_iff, eq_self, Int.reduceEq, true_and, and_true, false_and, and_false, and_self, ↓reduceIte]; omega) | (simp only [mS_iff, eq_self, Int.reduceEq, true_and, and_true, false_and, and_false, and_self, ↓reduceIte] at *; omega)) ?_
        exact hQ1 (fun j x y => i1 j x (by omega))
      · have x := a3 k (by omega) (by omega)
        have y := b3 k (by omega) (by omega)
        refine And.intro (rfl) ?_
        refine And.intro (show -2147483648 ≤ 66 * a ∧ 66 * a ≤ 2147483647 by first | omega | (simp only [mS_iff, eq_self, Int.reduceEq, true_and, and_true, false_and, and_false, and_self, ↓reduceIte]; omega) | (simp only [mS_iff, eq_self, Int.reduceEq, true_and, and_true, false_and, and_false, and_self, ↓reduceIte] at *; omega)) ?_
        refine And.intro (show -2147483648 ≤ (66 * a) + k ∧ (66 * a) + k ≤ 2147483647 by first | omega | (simp only [mS_iff, eq_self, Int.reduceEq, true_and, and_true, false_and, and_false, and_self, ↓reduceIte]; omega) | (simp only [mS_iff, eq_self, Int.reduceEq, true_and, and_true, false_and, and_false, and_self, ↓reduceIte] at *; omega)) ?_
        refine And.intro (⟨rfl, by first | omega | (simp only [mS_iff, eq_self, Int.reduceEq, true_and, and_true, false_and, and_false, and_self, ↓reduceIte]; omega) | (simp only [mS_iff, eq_self, Int.reduceEq, true_and, and_true, false_and, and_false, and_self, ↓reduceIte] at *; omega)⟩) ?_
        refine And.intro (rfl) ?_
        refine And.intro (show -2147483648 ≤ 66 * b ∧ 66 * b ≤ 2147483647 by first | omega | (simp only [mS_iff, eq_self, Int.reduceEq, true_and, and_true, false_and, and_false, and_self, ↓reduceIte]; omega) | (simp only [mS_iff, eq_self, Int.reduceEq, true_and, and_true, false_and, and_false, and_self, ↓reduceIte] at *; omega)) ?_
        refine And.intro (show -2147483648 ≤ (66 * b) + k ∧ (66 * b) + k ≤ 2147483647 by first | omega | (simp only [mS_iff, eq_self, Int.reduceEq, true_and, and_true, false_and, and_false, and_self, ↓reduceIte]; omega) | (simp only [mS_iff, eq_self, Int.reduceEq, true_and, and_true, false_and, and_false, and_self, ↓reduceIte] at *; omega)) ?_
        refine And.intro (⟨rfl, by first | omega | (simp only [mS_iff, eq_self, Int.reduceEq, true_and, and_true, false_and, and_false, and_self, ↓reduceIte]; omega) | (simp only [mS_iff, eq_self, Int.reduceEq, true_and, and_true, false_and, and_false, and_self, ↓reduceIte] at *; omega)⟩) ?_
        refine And.intro (fun h2 => ?_) (fun h2 => ?_)
        · refine And.intro (show -2147483648 ≤ k + 1 ∧ k + 1 ≤ 2147483647 by first | omega | (simp only [mS_iff, eq_self, Int.reduceEq, true_and, and_true, false_and, and_false, and_self, ↓reduceIte]; omega) | (simp only [mS_iff, eq_self, Int.reduceEq, true_and, and_true, false_and, and_false, and_self, ↓reduceIte] at *; omega)) ?_
          refine ih2 _ ?_ _ (Eq.refl _) ?_ ?_
          · omega
          · first | omega | (simp only [mS_iff, eq_self, Int.reduceEq, true_and, and_true, false_and, and_false, and_self, ↓reduceIte]; omega) | (simp only [mS_iff, eq_self, Int.reduceEq, true_and, and_true, false_and, and_false, and_self, ↓reduceIte] at *; omega)
          · intro j x y
            by_cases e : j = k
            · rw [e]; omega
            · exact i1 j x (by omega)
        · refine And.intro (by first | omega | (simp only [mS_iff, eq_self, Int.reduceEq, true_and, and_true, false_and, and_false, and_self, ↓reduceIte]; omega) | (simp only [mS_iff, eq_self, Int.reduceEq, true_and, and_true, false_and, and_false, and_self, ↓reduceIte] at *; omega)) ?_
          exact hQ0 (fun q => by have := q k (by omega) (by omega); omega)
  refine am_go 400 [2] (am_wpc_cm _ _ _) wf_223 ?_
  refine K2 _ _ (Eq.refl _) ?_ ?_
  · first | omega | (simp only [mS_iff, eq_self, Int.reduceEq, true_and, and_true, false_and, and_false, and_self, ↓reduceIte]; omega) | (simp only [mS_iff, eq_self, Int.reduceEq, true_and, and_true, false_and, and_false, and_self, ↓reduceIte] at *; omega)
  · intro j x y
    omega
def mQr (m : aM) (l : List Int) : Prop := m 41 36 = l.length ∧ ∀ j : Nat, j < l.length → m 62 j = l.getD j 0
theorem mQr.at {m : aM} {l : List Int} (h : mQr m l) {k : Int} (h0 : 0 ≤ k) (h1 : k < l.length) : m 62 k = l.getD k.toNat 0 ∧ l.getD k.toNat 0 ∈ l := by
  have a := h.2 k.toNat (by omega)
  rw [show ((k.toNat : Nat) : Int) = k by omega] at a
  exact ⟨a, q_getD (by omega)⟩
/-- only what gathering writes is written -/
def fr_g (m m' : aM) : Prop := ∀ r j, r ≠ 62 → r ≠ 63 → (r ≠ 41 ∨ j ≠ 36) → m' r j = m r j
theorem fr_g.rfl (m : aM) : fr_g m m := fun _ _ _ _ _ => Eq.refl _
theorem fr_g.trans {a b c : aM} (h : fr_g a b) (g : fr_g b c) : fr_g a c := fun r j x y z => (g r j x y z).trans (h r j x y z)
theorem mRow.keep {m m' : aM} {a : Int} {w : Int → Int} (h : mRow m a w) (e : ∀ j, m' 42 j = m 42 j) : mRow m' a w := ⟨h.1, h.2.1, fun k x y => by rw [e]; exact h.2.2 k x y⟩
theorem fr_g.As {S m m' : aM} (f : fr_g m m') (h : mAs S m) : mAs S m' := ⟨h.1, by rw [f 41 1 (by omega) (by omega) (by omega)]; exact h.2.1, fun i x y => ⟨(h.2.2 i x y).1.keep (fun j => f 42 j (by omega) (by omega) (by omega)), (h.2.2 i x y).2⟩⟩
theorem fr_g.Ps {S m m' : aM} (f : fr_g m m') (h : mPs S m) : mPs S m' := ⟨h.1, by rw [f 41 28 (by omega) (by omega) (by omega)]; exact h.2.1, fun p x y => by
  rw [f 56 p (by omega) (by omega) (by omega), f 57 p (by omega) (by omega) (by omega), f 58 p (by omega) (by omega) (by omega), f 59 p (by omega) (by omega) (by omega), f 60 p (by omega) (by omega) (by omega), f 61 p (by omega) (by omega) (by omega)]
  exact h.2.2 p x y⟩
def q_abs (S : aM) (l xs : List Int) : Prop := ∀ a ∈ xs, q_in S l a
theorem q_abs.all {S : aM} {l xs : List Int} (h : q_abs S l xs) (ys : List Int) : q_abs S (q_all S l ys) xs := fun a ha => q_in_all ys (h a ha)
def mAk (m : aM) : Prop := ∀ q, 0 ≤ q → q < 40 → m 63 q = 0 ∨ m 63 q = 1
/-- gathered l, of those below p that are asked all is in it -/
def gSt (S : aM) (day p : Int) (l : List Int) (m : aM) : Prop := mQr m l ∧ mAk m ∧ ∀ q, 0 ≤ q → q < p → m 63 q = 1 → q_abs S l (q_E S day q)
/-- what gathering of p does -/
def gPo (S : aM) (day p : Int) (l : List Int) (m m' : aM) : Prop := fr_g m m' ∧ gSt S day (p + 1) (q_all S l (q_E S day p)) m' ∧ ∀ q, p < q → m' 63 q = m 63 q
theorem gSt.step {S : aM} {day p f : Int} {l : List Int} {m m' : aM} (h : gSt S day p l m) (g : gPo S day f l m m') : gSt S day p (q_all S l (q_E S day f)) m' := by
  refine ⟨g.2.1.1, g.2.1.2.1, fun q q0 q1 e => ?_⟩
  by_cases c : q ≤ f
  · exact g.2.1.2.2 q q0 (by omega) e
  · exact (h.2.2 q q0 q1 (by rw [← g.2.2 q (by omega)]; exact e)).all _
theorem gSt.mono {S : aM} {day p f : Int} {l : List Int} {m : aM} (h : gSt S day p l m) (hf : f ≤ p) : gSt S day f l m := ⟨h.1, h.2.1, fun q a b => h.2.2 q a (by omega)⟩
theorem q_all_len0 {S : aM} {l xs : List Int} (h : l.length ≤ 12) : (q_all S l xs).length ≤ 12 := q_len_all _ _ h
theorem ct_258 : ∀ (N : Nat) {d : Nat} {m : aM} {Q : aO → aM → Prop} {S : aM} {day p : Int} {l : List Int} (hd : N + 3 ≤ d) (hp : -1 ≤ p ∧ p < S 0 4 ∧ p < N) (hS : mAs S m) (hP : mPs S m) (h12 : l.length ≤ 12) (hin : ∀ b ∈ l, 0 ≤ b ∧ b < S 0 3) (hg : gSt S day (p + 1) l m) (hQ : ∀ m', gPo S day p l m m' → Q (.inl none) m'), am_wpc am_G am_T d 258 [aR 41, aI p, aI day] m Q := by
  intro N
  induction N with
  | zero =>
    intro d m Q S day p l hd hp hS hP h12 hin hg hQ
    obtain rfl : p = -1 := by omega
    refine am_in rfl hd (fun d hd => ?_)
    refine am_go 400 [] (am_wpc_cm _ _ _) wf_258 ?_
    refine And.intro (fun _ => ?_) (fun h => absurd h (by first | omega | (simp only [mS_iff, eq_self, Int.reduceEq, true_and, and_true, false_and, and_false, and_self, ↓reduceIte]; omega) | (simp only [mS_iff, eq_self, Int.reduceEq, true_and, and_true, false_and, and_false, and_self, ↓reduceIte] at *; omega)))
    exact hQ _ ⟨fr_g.rfl _, by rw [q_E_n]; exact hg, fun _ _ => rfl⟩
  | succ N ih =>
    intro d m Q S day p l hd hp hS hP h12 hin hg hQ
    obtain ⟨z0, z1⟩ := hP.1
    by_cases pe : p = -1
    · subst pe
      refine am_in rfl hd (fun d hd => ?_)
      refine am_go 400 [] (am_wpc_cm _ _ _) wf_258 ?_
      refine And.intro (fun _ => ?_) (fun h => absurd h (by first | omega | (simp only [mS_iff, eq_self, Int.reduceEq, true_and, and_true, false_and, and_false, and_self, ↓reduceIte]; omega) | (simp only [mS_iff, eq_self, Int.reduceEq, true_and, and_true, false_and, and_false, and_self, ↓reduceIte] at *; omega)))
      exact hQ _ ⟨fr_g.rfl _, by rw [q_E_n]; exact hg, fun _ _ => rfl⟩
    have zp := z1 p (by omega) (by omega)
    have ak := hg.2.1 p (by omega) (by omega)
    have okf := q_E_ok hP.1 day 41 (S 11 p) (by omega) (by omega) (by omega)
    have ok1 : ∀ b ∈ q_all S l (if S 15 p = -1 then [] else [S 15 p]), 0 ≤ b ∧ b < S 0 3 := q_in_all' _ _ hin (fun b hb => by
      by_cases e : S 15 p = -1
      · rw [if_pos e] at hb; cases hb
      · rw [if_neg e, List.mem_singleton] at hb; omega)
    refine am_in rfl hd (fun d hd => ?_)
    have K120 : ∀ (x3 : aV) (x4 : aV), ∀ (m3 : aM), (fr_g m m3) → (gSt S day p (q_all S l (if S 15 p = -1 then [] else [S 15 p])) m3) → (∀ q, p ≤ q → m3 63 q = if q = p then 1 else m 63 q) → am_WP am_G (am_wpc am_G am_T d) [] cd_258 Q 120 [aR 41, aI p, aI day, x3, x4] [] m3 := by
      intro x3 x4 m3 f3 g3 u3
      obtain ⟨k1, k2, k3, k4, k5, k6⟩ := (f3.Ps hP).2.2 p (by omega) (by omega)
      refine am_go 400 [120, 37] (am_wpc_cm _ _ _) wf_258 ?_
      refine And.intro (rfl) ?_
      refine And.intro (⟨rfl, by first | omega | (simp only [mS_iff, eq_self, Int.reduceEq, true_and, and_true, false_and, and_false, and_self, ↓reduceIte]; omega) | (simp only [mS_iff, eq_self, Int.reduceEq, true_and, and_true, false_and, and_false, and_self, ↓reduceIte] at *; omega)⟩) ?_
      rw [k2]
      refine And.intro (rfl) ?_
      refine ih (by omega) (by omega) (f3.As hS) (f3.Ps hP) (q_len_all _ _ h12) ok1 (g3.mono (by omega)) (fun mw1 h2 => ?_)
      have f4 := f3.trans h2.1
      have g4 := g3.step h2
      have u4 : ∀ q, p ≤ q → mw1 63 q = if q = p then 1 else m 63 q := fun q hq => by rw [h2.2.2 q (by omega)]; exact u3 q hq
      have c58 : mw1 58 p = S 12 p := ((f4.Ps hP).2.2 p (by omega) (by omega)).2.2.1
      refine And.intro (rfl) ?_
      refine And.intro (⟨rfl, by first | omega | (simp only [mS_iff, eq_self, Int.reduceEq, true_and, and_true, false_and, and_false, and_self, ↓reduceIte]; omega) | (simp only [mS_iff, eq_self, Int.reduceEq, true_and, and_true, false_and, and_false, and_self, ↓reduceIte] at *; omega)⟩) ?_
      refine And.intro (fun h3 => ?_) (fun h3 => ?_)
      · have eE : q_all S l (q_E S day p) = q_all S (q_all S l (if S 15 p = -1 then [] else [S 15 p])) (q_E S day (S 11 p)) := by
          rw [q_E_s hP.1 day (by omega) (by omega), q_all_app, q_all_app, if_neg (show ¬ (S 12 p ≠ -1 ∧ s_her S day (S 12 p)) by intro ⟨q1, q2⟩; first | exact hh q2 | omega)]; rfl
        refine hQ _ ⟨f4, ⟨?_, g4.2.1, fun q q0 q1 e => ?_⟩, fun q hq => by rw [u4 q (by omega), if_neg (by omega)]⟩
        · rw [eE]; exact g4.1
        · rw [eE]
          by_cases c : q = p
          · subst c
            have := fun a ha => q_in_mem (S := S) (a := a) (q_E S day q) l ha
            rw [eE] at this
            exact this
          · exact g4.2.2 q q0 (by omega) e
      · refine And.intro (rfl) ?_
        refine And.intro (⟨rfl, by first | omega | (simp only [mS_iff, eq_self, Int.reduceEq, true_and, and_true, false_and, and_false, and_self, ↓reduceIte]; omega) | (simp only [mS_iff, eq_self, Int.reduceEq, true_and, and_true, false_and, and_false, and_self, ↓reduceIte] at *; omega)⟩) ?_
        rw [c58]
        refine And.intro (rfl) ?_
        refine ct_259 (by omega) (f4.Ps hP) (by omega) (fun h4 => ?_) (fun h4 => ?_)
        · have hh := h4
          refine And.intro (fun h => absurd h (by decide)) (fun _ => ?_)
          refine And.intro (rfl) ?_
          refine And.intro (⟨rfl, by first | omega | (simp only [mS_iff, eq_self, Int.reduceEq, true_and, and_true, false_and, and_false, and_self, ↓reduceIte]; omega) | (simp only [mS_iff, eq_self, Int.reduceEq, true_and, and_true, false_and, and_false, and_self, ↓reduceIte] at *; omega)⟩) ?_
          rw [c58]
          refine And.intro (rfl) ?_
          refine ih (by omega) (by omega) (f4.As hS) (f4.Ps hP) (q_len_all _ _ (q_len_all _ _ h12)) (q_in_all' _ _ ok1 okf) (g4.mono (by omega)) (fun mw5 h6 => ?_)
          have f5 := f4.trans h6.1
          have g5 := g4.step h6
          have u5 : ∀ q, p ≤ q → mw5 63 q = if q = p then 1 else m 63 q := fun q hq => by rw [h6.2.2 q (by omega)]; exact u4 q hq
          have eE : q_all S l (q_E S day p) = q_all S (q_all S (q_all S l (if S 15 p = -1 then [] else [S 15 p])) (q_E S day (S 11 p))) (q_E S day (S 12 p)) := by
            rw [q_E_s hP.1 day (by omega) (by omega), q_all_app, q_all_app, if_pos (show S 12 p ≠ -1 ∧ s_her S day (S 12 p) from ⟨by omega, hh⟩)]
          refine hQ _ ⟨f5, ⟨?_, g5.2.1, fun q q0 q1 e => ?_⟩, fun q hq => by rw [u5 q (by omega), if_neg (by omega)]⟩
          · rw [eE]; exact g5.1
          · rw [eE]
            by_cases c : q = p
            · subst c
              have := fun a ha => q_in_mem (S := S) (a := a) (q_E S day q) l ha
              rw [eE] at this
              exact this
            · exact g5.2.2 q q0 (by omega) e
        · have hh := h4
          refine And.intro (fun _ => ?_) (fun h => absurd h (by decide))
          have eE : q_all S l (q_E S day p) = q_all S (q_all S l (if S 15 p = -1 then [] else [S 15 p])) (q_E S day (S 11 p)) := by
            rw [q_E_s hP.1 day (by omega) (by omega), q_all_app, q_all_app, if_neg (show ¬ (S 12 p ≠ -1 ∧ s_her S day (S 12 p)) by intro ⟨q1, q2⟩; first | exact hh q2 | omega)]; rfl
          refine hQ _ ⟨f4, ⟨?_, g4.2.1, fun q q0 q1 e => ?_⟩, fun q hq => by rw [u4 q (by omega), if_neg (by omega)]⟩
          · rw [eE]; exact g4.1
          · rw [eE]
            by_cases c : q = p
            · subst c
              have := fun a ha => q_in_mem (S := S) (a := a) (q_E S day q) l ha
              rw [eE] at this
              exact this
            · exact g4.2.2 q q0 (by omega) e
    have K37 : ∀ (N : Nat), ∀ (t : Int) (k : Int), ∀ (m2 : aM), (12 - k).toNat = N → (m2 = mS m 63 p 1) → (0 ≤ k ∧ k ≤ l.length ∧ S 15 p ≠ -1 ∧ m 63 p = 0) → ((t = 0 ∧ ∀ j : Nat, j < k → ¬ s_one S (l.getD j 0) (S 15 p)) ∨ (t = 1 ∧ ∃ b ∈ l, s_one S b (S 15 p))) → am_WP am_G (am_wpc am_G am_T d) [] cd_258 Q 37 [aR 41, aI p, aI day, aI t, aI k] [] m2 := by
      intro N
      induction N using Nat.strongRecOn with
      | _ N ih37 =>
        intro t k m2 hN em i0 i1
        have fm : fr_g m m2 := by rw [em]; intro r j h1 h2 h3; rw [mS_a _ _ _ _ (by omega)]
        have hS3 := fm.As hS
        have c61 : m2 61 p = S 15 p := by rw [fm 61 p (by omega) (by omega) (by omega)]; exact (hP.2.2 p (by omega) (by omega)).2.2.2.2.2
        have c36 : m2 41 36 = l.length := by rw [em, mS_a _ _ _ _ (by omega)]; exact hg.1.1
        have c62 : ∀ j, m2 62 j = m 62 j := fun j => by rw [em, mS_a _ _ _ _ (by omega)]
        skip
        refine am_go 400 [120, 37] (am_wpc_cm _ _ _) wf_258 ?_
        refine And.intro (rfl) ?_
        refine And.intro (fun h7 => ?_) (fun h7 => ?_)
        · refine And.intro (fun h8 => ?_) (fun h8 => ?_)
          · refine K120 _ _ _ ?_ ?_ ?_
            · intro r j h1 h2 h3
              exact fm r j h1 h2 h3
            · refine ⟨?_, fun q q0 q1 => ?_, fun q q0 q1 e => ?_⟩
              · rw [if_neg (by omega)]
                show mQr _ (q_add S l (S 15 p))
                rw [q_add_y (by first | exact Or.inl (i1.resolve_left (by omega)).2 | exact Or.inr (by omega))]
                exact ⟨c36, fun j hj => by rw [c62]; exact hg.1.2 j hj⟩
              · simp only [em, mS_iff, eq_self, Int.reduceEq, true_and, and_true, false_and, and_false, and_self, ↓reduceIte]
                have := hg.2.1 q q0 q1
                omega
              · refine q_abs.all (hg.2.2 q q0 (by omega) ?_) _
                simp only [em, mS_iff, eq_self, Int.reduceEq, true_and, and_true, false_and, and_false, and_self, ↓reduceIte] at e
                rw [if_neg (by omega)] at e
                exact e
            · intro q hq
              simp only [em, mS_iff, eq_self, Int.reduceEq, true_and, and_true, false_and, and_false, and_self, ↓reduceIte]
          · refine And.intro (rfl) ?_
            refine And.intro (fun h9 => ?_) (fun h9 => ?_)
            · refine K120 _ _ _ ?_ ?_ ?_
              · intro r j h1 h2 h3
                exact fm r j h1 h2 h3
              · refine ⟨?_, fun q q0 q1 => ?_, fun q q0 q1 e => ?_⟩
                · rw [if_neg (by omega)]
                  show mQr _ (q_add S l (S 15 p))
                  rw [q_add_y (by first | exact Or.inl (i1.resolve_left (by omega)).2 | exact Or.inr (by omega))]
                  exact ⟨c36, fun j hj => by rw [c62]; exact hg.1.2 j hj⟩
                · simp only [em, mS_iff, eq_self, Int.reduceEq, true_and, and_true, false_and, and_false, and_self, ↓reduceIte]
                  have := hg.2.1 q q0 q1
                  omega
                · refine q_abs.all (hg.2.2 q q0 (by omega) ?_) _
                  simp only [em, mS_iff, eq_self, Int.reduceEq, true_and, and_true, false_and, and_false, and_self, ↓reduceIte] at e
                  rw [if_neg (by omega)] at e
                  exact e
              · intro q hq
                simp only [em, mS_iff, eq_self, Int.reduceEq, true_and, and_true, false_and, and_false, and_self, ↓reduceIte]
            · refine And.intro (rfl) ?_
              refine And.intro (rfl) ?_
              refine And.intro (rfl) ?_
              refine And.intro (⟨rfl, by first | omega | (simp only [mS_iff, eq_self, Int.reduceEq, true_and, and_true, false_and, and_false, and_self, ↓reduceIte]; omega) | (simp only [mS_iff, eq_self, Int.reduceEq, true_and, and_true, false_and, and_false, and_self, ↓reduceIte] at *; omega)⟩) ?_
              refine And.intro (⟨rfl, by first | omega | (simp only [mS_iff, eq_self, Int.reduceEq, true_and, and_true, false_and, and_false, and_self, ↓reduceIte]; omega) | (simp only [mS_iff, eq_self, Int.reduceEq, true_and, and_true, false_and, and_false, and_self, ↓reduceIte] at *; omega)⟩) ?_
              refine And.intro (rfl) ?_
              refine And.intro (show -2147483648 ≤ (m2 41 36) + 1 ∧ (m2 41 36) + 1 ≤ 2147483647 by first | omega | (simp only [mS_iff, eq_self, Int.reduceEq, true_and, and_true, false_and, and_false, and_self, ↓reduceIte]; omega) | (simp only [mS_iff, eq_self, Int.reduceEq, true_and, and_true, false_and, and_false, and_self, ↓reduceIte] at *; omega)) ?_
              refine And.intro (rfl) ?_
              refine K120 _ _ _ ?_ ?_ ?_
              · intro r j h1 h2 h3
                rw [mS_iff, if_neg (by omega)]
                rw [mS_iff, if_neg (by omega)]
                exact fm r j h1 h2 h3
              · refine ⟨?_, fun q q0 q1 => ?_, fun q q0 q1 e => ?_⟩
                · have nin : ¬ q_in S l (S 15 p) := by
                    intro q
                    rcases q with ⟨b, b1, b2⟩ | q
                    · exact q_forall (P := fun b => ¬ s_one S b (S 15 p)) (fun j hj => (i1.resolve_right (by omega)).2 j (by omega)) b b1 b2
                    · omega
                  rw [if_neg (by omega)]
                  show mQr _ (q_add S l (S 15 p))
                  rw [q_add_n nin]
                  refine ⟨?_, fun j hj => ?_⟩
                  · rw [mS_eq, List.length_append, List.length_singleton]; show m2 41 36 + 1 = _; rw [c36]; rfl
                  · rw [q_app_at hj]
                    rw [List.length_append, List.length_singleton] at hj
                    rw [mS_a _ _ _ _ (by omega), mS_iff, c36]
                    by_cases e : j < l.length
                    · rw [if_pos e, if_neg (by omega), c62]; exact hg.1.2 j e
                    · rw [if_neg e, if_pos (by omega)]; exact c61
                · simp only [em, mS_iff, eq_self, Int.reduceEq, true_and, and_true, false_and, and_false, and_self, ↓reduceIte]
                  have := hg.2.1 q q0 q1
                  omega
                · refine q_abs.all (hg.2.2 q q0 (by omega) ?_) _
                  simp only [em, mS_iff, eq_self, Int.reduceEq, true_and, and_true, false_and, and_false, and_self, ↓reduceIte] at e
                  rw [if_neg (by omega)] at e
                  exact e
              · intro q hq
                simp only [em, mS_iff, eq_self, Int.reduceEq, true_and, and_true, false_and, and_false, and_self, ↓reduceIte]
        · refine And.intro (fun h10 => ?_) (fun h10 => ?_)
          · refine And.intro (show -2147483648 ≤ k + 1 ∧ k + 1 ≤ 2147483647 by first | omega | (simp only [mS_iff, eq_self, Int.reduceEq, true_and, and_true, false_and, and_false, and_self, ↓reduceIte]; omega) | (simp only [mS_iff, eq_self, Int.reduceEq, true_and, and_true, false_and, and_false, and_self, ↓reduceIte] at *; omega)) ?_
            refine ih37 _ ?_ _ _ _ (Eq.refl _) ?_ ?_ ?_
            · omega
            · exact em
            · first | omega | (simp only [mS_iff, eq_self, Int.reduceEq, true_and, and_true, false_and, and_false, and_self, ↓reduceIte]; omega) | (simp only [mS_iff, eq_self, Int.reduceEq, true_and, and_true, false_and, and_false, and_self, ↓reduceIte] at *; omega)
            · first
                | exact Or.inr ⟨rfl, _, y2, hh⟩
                | exact Or.inr ⟨rfl, (i1.resolve_left (by omega)).2⟩
                | (refine Or.inl ⟨rfl, fun j hj => ?_⟩
                   by_cases e : (j : Int) = k
                   · rw [show j = k.toNat by omega]; exact hh
                   · exact (i1.resolve_right (by omega)).2 j (by omega))
          · have y := hg.1.at (k := k) (by omega) (by omega)
            have y1 : m2 62 k = l.getD k.toNat 0 := by rw [c62]; exact y.1
            have y2 := y.2
            have yb := hin _ y.2
            refine And.intro (rfl) ?_
            refine And.intro (⟨rfl, by first | omega | (simp only [mS_iff, eq_self, Int.reduceEq, true_and, and_true, false_and, and_false, and_self, ↓reduceIte]; omega) | (simp only [mS_iff, eq_self, Int.reduceEq, true_and, and_true, false_and, and_false, and_self, ↓reduceIte] at *; omega)⟩) ?_
            refine And.intro (rfl) ?_
            refine And.intro (⟨rfl, by first | omega | (simp only [mS_iff, eq_self, Int.reduceEq, true_and, and_true, false_and, and_false, and_self, ↓reduceIte]; omega) | (simp only [mS_iff, eq_self, Int.reduceEq, true_and, and_true, false_and, and_false, and_self, ↓reduceIte] at *; omega)⟩) ?_
            refine And.intro (rfl) ?_
            refine ct_223 (by omega) (by rw [y1]; exact (hS3.2.2 _ yb.1 yb.2).1) (by rw [c61]; exact (hS3.2.2 (S 15 p) (by omega) (by omega)).1) (fun h11 => ?_) (fun h11 => ?_)
            · have hh : s_one S (l.getD k.toNat 0) (S 15 p) := h11
              refine And.intro (fun h => absurd h (by decide)) (fun _ => ?_)
              refine And.intro (show -2147483648 ≤ k + 1 ∧ k + 1 ≤ 2147483647 by first | omega | (simp only [mS_iff, eq_self, Int.reduceEq, true_and, and_true, false_and, and_false, and_self, ↓reduceIte]; omega) | (simp only [mS_iff, eq_self, Int.reduceEq, true_and, and_true, false_and, and_false, and_self, ↓reduceIte] at *; omega)) ?_
              refine ih37 _ ?_ _ _ _ (Eq.refl _) ?_ ?_ ?_
              · omega
              · exact em
              · first | omega | (simp only [mS_iff, eq_self, Int.reduceEq, true_and, and_true, false_and, and_false, and_self, ↓reduceIte]; omega) | (simp only [mS_iff, eq_self, Int.reduceEq, true_and, and_true, false_and, and_false, and_self, ↓reduceIte] at *; omega)
              · first
                  | exact Or.inr ⟨rfl, _, y2, hh⟩
                  | exact Or.inr ⟨rfl, (i1.resolve_left (by omega)).2⟩
                  | (refine Or.inl ⟨rfl, fun j hj => ?_⟩
                     by_cases e : (j : Int) = k
                     · rw [show j = k.toNat by omega]; exact hh
                     · exact (i1.resolve_right (by omega)).2 j (by omega))
            · have hh : ¬ s_one S (l.getD k.toNat 0) (S 15 p) := h11
              refine And.intro (fun _ => ?_) (fun h => absurd h (by decide))
              refine And.intro (show -2147483648 ≤ k + 1 ∧ k + 1 ≤ 2147483647 by first | omega | (simp only [mS_iff, eq_self, Int.reduceEq, true_and, and_true, false_and, and_false, and_self, ↓reduceIte]; omega) | (simp only [mS_iff, eq_self, Int.reduceEq, true_and, and_true, false_and, and_false, and_self, ↓reduceIte] at *; omega)) ?_
              refine ih37 _ ?_ _ _ _ (Eq.refl _) ?_ ?_ ?_
              · omega
              · exact em
              · first | omega | (simp only [mS_iff, eq_self, Int.reduceEq, true_and, and_true, false_and, and_false, and_self, ↓reduceIte]; omega) | (simp only [mS_iff, eq_self, Int.reduceEq, true_and, and_true, false_and, and_false, and_self, ↓reduceIte] at *; omega)
              · first
                  | exact Or.inr ⟨rfl, _, y2, hh⟩
                  | exact Or.inr ⟨rfl, (i1.resolve_left (by omega)).2⟩
                  | (refine Or.inl ⟨rfl, fun j hj => ?_⟩
                     by_cases e : (j : Int) = k
                     · rw [show j = k.toNat by omega]; exact hh
                     · exact (i1.resolve_right (by omega)).2 j (by omega))
    refine am_go 400 [120, 37] (am_wpc_cm _ _ _) wf_258 ?_
    refine And.intro (fun h => absurd h (by first | omega | (simp only [mS_iff, eq_self, Int.reduceEq, true_and, and_true, false_and, and_false, and_self, ↓reduceIte]; omega) | (simp only [mS_iff, eq_self, Int.reduceEq, true_and, and_true, false_and, and_false, and_self, ↓reduceIte] at *; omega))) (fun _ => ?_)
    refine And.intro (rfl) ?_
    refine And.intro (⟨rfl, by first | omega | (simp only [mS_iff, eq_self, Int.reduceEq, true_and, and_true, false_and, and_false, and_self, ↓reduceIte]; omega) | (simp only [mS_iff, eq_self, Int.reduceEq, true_and, and_true, false_and, and_false, and_self, ↓reduceIte] at *; omega)⟩) ?_
    refine And.intro (fun h12 => ?_) (fun h12 => ?_)
    · obtain ⟨k1, k2, k3, k4, k5, k6⟩ := hP.2.2 p (by omega) (by omega)
      refine And.intro (rfl) ?_
      refine And.intro (⟨rfl, by first | omega | (simp only [mS_iff, eq_self, Int.reduceEq, true_and, and_true, false_and, and_false, and_self, ↓reduceIte]; omega) | (simp only [mS_iff, eq_self, Int.reduceEq, true_and, and_true, false_and, and_false, and_self, ↓reduceIte] at *; omega), by first | omega | (simp only [mS_iff, eq_self, Int.reduceEq, true_and, and_true, false_and, and_false, and_self, ↓reduceIte]; omega) | (simp only [mS_iff, eq_self, Int.reduceEq, true_and, and_true, false_and, and_false, and_self, ↓reduceIte] at *; omega)⟩) ?_
      refine And.intro (rfl) ?_
      refine And.intro (⟨rfl, by first | omega | (simp only [mS_iff, eq_self, Int.reduceEq, true_and, and_true, false_and, and_false, and_self, ↓reduceIte]; omega) | (simp only [mS_iff, eq_self, Int.reduceEq, true_and, and_true, false_and, and_false, and_self, ↓reduceIte] at *; omega)⟩) ?_
      refine And.intro (fun h13 => ?_) (fun h13 => ?_)
      · replace h13 : (m 61 p) = (-1) := h13
        refine K120 _ _ _ ?_ ?_ ?_
        · intro r j h1 h2 h3
          rw [mS_iff, if_neg (by omega)]
          
        · refine ⟨?_, fun q q0 q1 => ?_, fun q q0 q1 e => ?_⟩
          · rw [if_pos (by omega)]
            exact ⟨by rw [mS_a _ _ _ _ (by omega)]; exact hg.1.1, fun j hj => by rw [mS_a _ _ _ _ (by omega)]; exact hg.1.2 j hj⟩
          · simp only [mS_iff, eq_self, Int.reduceEq, true_and, and_true, false_and, and_false, and_self, ↓reduceIte]
            have := hg.2.1 q q0 q1
            omega
          · refine q_abs.all (hg.2.2 q q0 (by omega) ?_) _
            simp only [mS_iff, eq_self, Int.reduceEq, true_and, and_true, false_and, and_false, and_self, ↓reduceIte] at e
            rw [if_neg (by omega)] at e
            exact e
        · intro q hq
          simp only [mS_iff, eq_self, Int.reduceEq, true_and, and_true, false_and, and_false, and_self, ↓reduceIte]
      · replace h13 : (m 61 p) ≠ (-1) := h13
        refine K37 _ _ _ _ (Eq.refl _) ?_ ?_ ?_
        · exact rfl
        · first | omega | (simp only [mS_iff, eq_self, Int.reduceEq, true_and, and_true, false_and, and_false, and_self, ↓reduceIte]; omega) | (simp only [mS_iff, eq_self, Int.reduceEq, true_and, and_true, false_and, and_false, and_self, ↓reduceIte] at *; omega)
        · exact Or.inl ⟨rfl, fun j hj => by omega⟩
    · exact hQ _ ⟨fr_g.rfl _, by rw [q_all_abs _ _ (hg.2.2 p (by omega) (by omega) (by omega))]; exact hg, fun _ _ => rfl⟩
theorem ct_257 {d : Nat} {m : aM} {Q : aO → aM → Prop} {S : aM} {day p : Int} (hd : 44 ≤ d) (hp : 0 ≤ p ∧ p < S 0 4) (hS : mAs S m) (hP : mPs S m) (hQ : ∀ m', fr_g m m' → mQr m' (q_Q S day p) → Q (.inl none) m') : am_wpc am_G am_T d 257 [aR 41, aI p, aI day] m Q := by
  have z0 := hP.1.1
  refine am_in rfl hd (fun d hd => ?_)
  have K7 : ∀ (N : Nat), ∀ (k : Int), ∀ (m2 : aM), (40 - k).toNat = N → (0 ≤ k ∧ k ≤ 40) → (fr_g m m2) → (m2 41 36 = 0) → (∀ q, 0 ≤ q → q < k → m2 63 q = 0) → am_WP am_G (am_wpc am_G am_T d) [] cd_257 Q 7 [aR 41, aI p, aI day, aI k] [] m2 := by
    intro N
    induction N using Nat.strongRecOn with
    | _ N ih7 =>
      intro k m2 hN i0 f2 i1 i2
      refine am_go 400 [7] (am_wpc_cm _ _ _) wf_257 ?_
      refine And.intro (fun h1 => ?_) (fun h1 => ?_)
      · refine And.intro (rfl) ?_
        refine ct_258 40 (l := []) (by omega) (by omega) (f2.As hS) (f2.Ps hP) (Nat.zero_le _) (fun b hb => absurd hb List.not_mem_nil) ⟨⟨i1, fun j hj => absurd hj (Nat.not_lt_zero _)⟩, fun q a b => Or.inl (i2 q a (by omega)), fun q a b e => by rw [i2 q a (by omega)] at e; omega⟩ (fun mw2 h3 => ?_)
        exact hQ _ (f2.trans h3.1) h3.2.1.1
      · refine And.intro (rfl) ?_
        refine And.intro (⟨rfl, by first | omega | (simp only [mS_iff, eq_self, Int.reduceEq, true_and, and_true, false_and, and_false, and_self, ↓reduceIte]; omega) | (simp only [mS_iff, eq_self, Int.reduceEq, true_and, and_true, false_and, and_false, and_self, ↓reduceIte] at *; omega), by first | omega | (simp only [mS_iff, eq_self, Int.reduceEq, true_and, and_true, false_and, and_false, and_self, ↓reduceIte]; omega) | (simp only [mS_iff, eq_self, Int.reduceEq, true_and, and_true, false_and, and_false, and_self, ↓reduceIte] at *; omega)⟩) ?_
        refine And.intro (show -2147483648 ≤ k + 1 ∧ k + 1 ≤ 2147483647 by first | omega | (simp only [mS_iff, eq_self, Int.reduceEq, true_and, and_true, false_and, and_false, and_self, ↓reduceIte]; omega) | (simp only [mS_iff, eq_self, Int.reduceEq, true_and, and_true, false_and, and_false, and_self, ↓reduceIte] at *; omega)) ?_
        refine ih7 _ ?_ _ _ (Eq.refl _) ?_ ?_ ?_ ?_
        · omega
        · first | omega | (simp only [mS_iff, eq_self, Int.reduceEq, true_and, and_true, false_and, and_false, and_self, ↓reduceIte]; omega) | (simp only [mS_iff, eq_self, Int.reduceEq, true_and, and_true, false_and, and_false, and_self, ↓reduceIte] at *; omega)
        · intro r j h1 h2 h3
          rw [mS_iff, if_neg (by omega)]
          exact f2 r j h1 h2 h3
        · exact i1
        · intro q a b
          rw [mS_iff]
          by_cases e : q = k
          · rw [if_pos ⟨rfl, e⟩]
          · rw [if_neg (by omega)]; exact i2 q a (by omega)
  refine am_go 400 [7] (am_wpc_cm _ _ _) wf_257 ?_
  refine And.intro (rfl) ?_
  refine K7 _ _ _ (Eq.refl _) ?_ ?_ ?_ ?_
  · first | omega | (simp only [mS_iff, eq_self, Int.reduceEq, true_and, and_true, false_and, and_false, and_self, ↓reduceIte]; omega) | (simp only [mS_iff, eq_self, Int.reduceEq, true_and, and_true, false_and, and_false, and_self, ↓reduceIte] at *; omega)
  · intro r j h1 h2 h3
    rw [mS_iff, if_neg (by omega)]
  · exact rfl
  · intro q a b
    omega
