/-! needs: 67 -/
/-! CONTRACTS: the arms of both, the register; by tools/gen68.py -/
set_option maxRecDepth 100000
theorem s_df_c (a b : Int) : s_df a b = s_df b a := by unfold s_df; omega
theorem s_lp_c (w v : Int → Int) (b : Int) : s_lp w v b = s_lp v w b := by
  unfold s_lp
  rw [s_df_c (w b), s_df_c (w (b + 1)), s_df_c (w (b + 2)), s_df_c (w (b + 3)), s_df_c (w (b + 4)), s_df_c (w (b + 5)), s_df_c (w (b + 6)), s_df_c (w (b + 7)), s_df_c (w (b + 8)), s_df_c (w (b + 9))]
  omega
theorem s_lt_c (w v : Int → Int) (l : Int) : s_lt w v l = s_lt v w l := by
  rw [s_lt_eq, s_lt_eq, s_lp_c w v]
  omega
theorem s_pt_c (w v : Int → Int) : s_pt w v = s_pt v w := by
  unfold s_pt s_fp
  rw [s_df_c (w 0), s_df_c (w 1), s_df_c (w 2), s_df_c (w 3), s_df_c (w 4), show s_lt w v = s_lt v w from funext (s_lt_c w v)]
/-- e is the place of the i-th one of those (below n) that f tells -/
def s_ith (f : Int → Int) (n i e : Int) : Prop := 0 ≤ e ∧ e < n ∧ f e = 1 ∧ s_sum f e.toNat = i
theorem s_sum_i {f : Int → Int} {e : Int} (h : 0 ≤ e) : s_sum f (e + 1).toNat = s_sum f e.toNat + f e := s_sum_s h
theorem s_sum_mi {f : Int → Int} (hf : ∀ k, 0 ≤ f k) {a b : Int} (h : a ≤ b) : s_sum f a.toNat ≤ s_sum f b.toNat := s_sum_m hf (by omega)
theorem s_ith_b {f : Int → Int} (hf : ∀ k, 0 ≤ f k) {n i e : Int} (h : s_ith f n i e) : 0 ≤ i ∧ i < s_sum f n.toNat := by
  obtain ⟨h1, h2, h3, h4⟩ := h
  have a := s_sum_i (f := f) h1
  have b := s_sum_mi hf (show e + 1 ≤ n by omega)
  have c := s_sum_mi hf (show (0 : Int) ≤ e by omega)
  have d : s_sum f (0 : Int).toNat = 0 := rfl
  omega
theorem s_ith_u {f : Int → Int} (hf : ∀ k, 0 ≤ f k) {n i e e' : Int} (h : s_ith f n i e) (g : s_ith f n i e') : e = e' := by
  obtain ⟨h1, h2, h3, h4⟩ := h
  obtain ⟨g1, g2, g3, g4⟩ := g
  have a := s_sum_i (f := f) h1
  have b := s_sum_i (f := f) g1
  rcases Int.lt_trichotomy e e' with q | q | q
  · have := s_sum_mi hf (show e + 1 ≤ e' by omega); omega
  · exact q
  · have := s_sum_mi hf (show e' + 1 ≤ e by omega); omega
theorem s_ith_s {f : Int → Int} {n i e : Int} (hn : 0 ≤ n) (h : s_ith f (n + 1) i e) : s_ith f n i e ∨ (e = n ∧ f n = 1 ∧ s_sum f n.toNat = i) := by
  obtain ⟨h1, h2, h3, h4⟩ := h
  by_cases q : e = n
  · subst q; exact Or.inr ⟨rfl, h3, h4⟩
  · exact Or.inl ⟨h1, by omega, h3, h4⟩
/-- the objects that come and go (but Wholes) stay as they are -/
def hK (m m' : aM) : Prop := m 0 0 ≤ m' 0 0 ∧ ∀ r, 29 ≤ r → (r ≤ 40 ∨ 77 ≤ r) → r ≤ m 0 0 → m' r (-1) = m r (-1) ∧ (m r (-1) ≠ 6 → m' r = m r)
theorem hK.rfl (m : aM) : hK m m := ⟨Int.le_refl _, fun _ _ _ _ => ⟨Eq.refl _, fun _ => Eq.refl _⟩⟩
theorem hK.trans {a b c : aM} (h : hK a b) (g : hK b c) : hK a c := ⟨Int.le_trans h.1 g.1, fun r h1 h2 h3 => by
  have a1 := h.2 r h1 h2 h3
  have a2 := g.2 r h1 h2 (Int.le_trans h3 h.1)
  refine ⟨a2.1.trans a1.1, fun n => (a2.2 (by rw [a1.1]; exact n)).trans (a1.2 n)⟩⟩
theorem hK.arms {m m' : aM} (h : hK m m') {lo hi r : Int} {w : Int → Int} (g : hArms m lo hi r w) : hArms m' lo hi r w :=
  g.keep (fun q a b => h.2 q (by have := g.1; omega) (by have := g.1; omega) (by have := g.1; omega)) (by have := g.1; have := h.1; omega)
theorem hK.of {m m' : aM} (h0 : m' 0 0 = m 0 0) (h : ∀ r, 29 ≤ r → (r ≤ 40 ∨ 77 ≤ r) → ∀ j, m' r j = m r j) : hK m m' := ⟨by omega, fun r a b _ => ⟨h r a b _, fun _ => funext (h r a b)⟩⟩
/-- the arms of the house, of the reference -/
def hAs (S : aM) (lo hi : Int → Int) (m : aM) : Prop :=
  (0 ≤ S 0 3 ∧ S 0 3 ≤ 50) ∧ m 1 20 = S 0 3 ∧ (∀ i, 0 ≤ i → i < S 0 3 → hArms m (lo i) (hi i) (m 19 i) (S (100 + i))) ∧ (∀ i, S 0 3 ≤ i → i < 50 → m 19 i = 0) ∧ (∀ i j, 0 ≤ i → i < S 0 3 → 0 ≤ j → j < S 0 3 → i ≠ j → hi i < lo j ∨ hi j < lo i)
theorem hAs.keep {S : aM} {lo hi : Int → Int} {m m' : aM} (h : hAs S lo hi m) (k : hK m m') (e : m' 1 20 = m 1 20) (e2 : m' 19 = m 19) : hAs S lo hi m' := by
  obtain ⟨h1, h2, h3, h4, h5⟩ := h
  refine ⟨h1, by rw [e, h2], fun i a b => ?_, fun i a b => by rw [e2]; exact h4 i a b, h5⟩
  rw [e2]
  exact k.arms (h3 i a b)
def mAs (S m : aM) : Prop := (0 ≤ S 0 3 ∧ S 0 3 ≤ 50) ∧ m 41 1 = S 0 3 ∧ ∀ i, 0 ≤ i → i < S 0 3 → mRow m i (S (100 + i)) ∧ okRow (S (100 + i))
theorem okRow.cnt {w : Int → Int} (h : okRow w) : 0 ≤ w 5 ∧ w 5 ≤ 6 := h.2.2.2.2.2.2.1
theorem okRow.ov {w : Int → Int} (h : okRow w) : ∀ l, 0 ≤ l → l < w 5 → w (6 + 10 * l) = 0 ∨ w (6 + 10 * l) = 1 := fun l a b => (h.2.2.2.2.2.2.2.1 l a b).1
/-- the register -/
def sEs (S : aM) : Prop := (0 ≤ S 0 5 ∧ S 0 5 ≤ 100) ∧ ∀ e, 0 ≤ e → e < S 0 5 → (0 ≤ S 16 e ∧ S 16 e < S 0 3) ∧ (0 ≤ S 17 e ∧ S 17 e ≤ 9999) ∧ (0 ≤ S 18 e ∧ S 18 e ≤ 10000)
def hEs (S : aM) (m : aM) : Prop := sEs S ∧ m 1 29 = S 0 5 ∧ ∀ e, 0 ≤ e → e < S 0 5 → m 23 e = m 19 (S 16 e) ∧ m 24 e = S 17 e ∧ m 25 e = S 18 e
def mEs (S : aM) (m : aM) : Prop := sEs S ∧ m 41 40 = S 0 5 ∧ ∀ e, 0 ≤ e → e < S 0 5 → m 65 e = S 16 e ∧ m 66 e = S 17 e ∧ m 67 e = S 18 e
/-- is entry e, that stands on a day, in conflict with w -/
def s_cf (S : aM) (w : Int → Int) (day e : Int) : Int := if S 17 e ≤ day ∧ day < S 18 e ∧ s_pt w (S (100 + S 16 e)) ≤ 1 then 1 else 0
theorem s_cf_b (S : aM) (w : Int → Int) (day e : Int) : 0 ≤ s_cf S w day e ∧ s_cf S w day e ≤ 1 := by unfold s_cf; omega
theorem s_cf_eq (S : aM) (w : Int → Int) (day e : Int) : s_cf S w day e = if S 17 e ≤ day ∧ day < S 18 e ∧ s_pt w (S (100 + S 16 e)) ≤ 1 then 1 else 0 := rfl
/-- from m to m' only place p of the house is written -/
def fr_1 (p : Int) (m m' : aM) : Prop := ∀ r j, (r ≠ 1 ∨ j ≠ p) → m' r j = m r j
theorem fr_1.K {p : Int} {m m' : aM} (h : fr_1 p m m') : hK m m' := hK.of (h 0 0 (by omega)) (fun r a _ j => h r j (by omega))
theorem fr_1.at {p : Int} {m m' : aM} (h : fr_1 p m m') {r : Int} (hr : r ≠ 1) : m' r = m r := funext fun j => h r j (Or.inl hr)
theorem ct_113 {d : Nat} {m : aM} {Q : aO → aM → Prop} {S : aM} {lo hi : Int → Int} {r l h day i : Int} {w : Int → Int} (hd : 4 ≤ d) (hS : hAs S lo hi m) (hE : hEs S m) (hA : hArms m l h r w) (hQ : ∀ m' x, fr_1 30 m m' → x = s_sum (s_cf S w day) (S 0 5).toNat → (∀ e, s_ith (s_cf S w day) (S 0 5) i e → m' 1 30 = e) → Q (.inl (some (aI x))) m') : am_wpc am_G am_T d 113 [aR 1, aR r, aI day, aI i] m Q := by
  obtain ⟨z1, z2⟩ := hE.1
  have z3 := hE.2.1
  refine am_in rfl hd (fun d hd => ?_)
  have K6 : ∀ (N : Nat), ∀ (n : Int) (e : Int), ∀ (m2 : aM), (100 - e).toNat = N → (0 ≤ e ∧ e ≤ S 0 5) → (fr_1 30 m m2) → (n = s_sum (s_cf S w day) e.toNat) → (∀ k, s_ith (s_cf S w day) e i k → m2 1 30 = k) → am_WP am_G (am_wpc am_G am_T d) [] cd_113 Q 6 [aR 1, aR r, aI day, aI i, aI n, aI e] [] m2 := by
    intro N
    induction N using Nat.strongRecOn with
    | _ N ih6 =>
      intro n e m2 hN i0 fr i1 i2
      have z4 := fr 1 29 (by omega)
      have b := s_sum_b (s_cf_b S w day) e.toNat
      refine am_go 400 [6] (am_wpc_cm _ _ _) wf_113 ?_
      refine And.intro (rfl) ?_
      refine And.intro (fun h1 => ?_) (fun h1 => ?_)
      · exact hQ _ _ fr (by rw [i1]; congr 2; omega) (by rw [show S 0 5 = e by omega]; exact i2)
      · have y1 := z2 e (by omega) (by omega)
        obtain ⟨y2, y3, y4⟩ := hE.2.2 e (by omega) (by omega)
        have y5 : m2 24 e = S 17 e := by rw [fr.at (by omega)]; exact y3
        have y6 : m2 25 e = S 18 e := by rw [fr.at (by omega)]; exact y4
        have e2 : m2 23 e = m2 19 (S 16 e) := by rw [fr.at (by omega), fr.at (by omega)]; exact y2
        have hX : hArms m2 (lo (S 16 e)) (hi (S 16 e)) (m2 19 (S 16 e)) (S (100 + S 16 e)) := by
          have q := fr.K.arms (hS.2.2.1 (S 16 e) (by omega) (by omega))
          rw [fr.at (by omega)]
          exact q
        have hA2 := fr.K.arms hA
        have cq := s_cf_eq S w day e
        refine And.intro (rfl) ?_
        refine And.intro (⟨rfl, by first | omega | (simp only [mS_iff, eq_self, Int.reduceEq, true_and, and_true, false_and, and_false, and_self, ↓reduceIte]; omega) | (simp only [mS_iff, eq_self, Int.reduceEq, true_and, and_true, false_and, and_false, and_self, ↓reduceIte] at *; omega)⟩) ?_
        refine And.intro (fun h2 => ?_) (fun h2 => ?_)
        · refine And.intro (show -2147483648 ≤ e + 1 ∧ e + 1 ≤ 2147483647 by first | omega | (simp only [mS_iff, eq_self, Int.reduceEq, true_and, and_true, false_and, and_false, and_self, ↓reduceIte]; omega) | (simp only [mS_iff, eq_self, Int.reduceEq, true_and, and_true, false_and, and_false, and_self, ↓reduceIte] at *; omega)) ?_
          refine ih6 _ ?_ _ _ _ (Eq.refl _) ?_ ?_ ?_ ?_
          · omega
          · first | omega | (simp only [mS_iff, eq_self, Int.reduceEq, true_and, and_true, false_and, and_false, and_self, ↓reduceIte]; omega) | (simp only [mS_iff, eq_self, Int.reduceEq, true_and, and_true, false_and, and_false, and_self, ↓reduceIte] at *; omega)
          · intro r j hh
            have := fr r j hh
            try simp only [mS_iff, eq_self, Int.reduceEq, true_and, and_true, false_and, and_false, and_self, ↓reduceIte]
            first | exact this | (rw [if_neg (by omega)]; exact this)
          · rw [s_sum_i (by omega)]; omega
          · intro e he
            rcases s_ith_s (by omega) he with he | he
            · have := i2 e he
              have q := s_ith_b (fun k => (s_cf_b S w day k).1) he
              (try simp only [mS_iff, eq_self, Int.reduceEq, true_and, and_true, false_and, and_false, and_self, ↓reduceIte])
              omega
            · (try simp only [mS_iff, eq_self, Int.reduceEq, true_and, and_true, false_and, and_false, and_self, ↓reduceIte])
              omega
        · refine And.intro (rfl) ?_
          refine And.intro (⟨rfl, by first | omega | (simp only [mS_iff, eq_self, Int.reduceEq, true_and, and_true, false_and, and_false, and_self, ↓reduceIte]; omega) | (simp only [mS_iff, eq_self, Int.reduceEq, true_and, and_true, false_and, and_false, and_self, ↓reduceIte] at *; omega)⟩) ?_
          refine And.intro (fun h3 => ?_) (fun h3 => ?_)
          · refine And.intro (show -2147483648 ≤ e + 1 ∧ e + 1 ≤ 2147483647 by first | omega | (simp only [mS_iff, eq_self, Int.reduceEq, true_and, and_true, false_and, and_false, and_self, ↓reduceIte]; omega) | (simp only [mS_iff, eq_self, Int.reduceEq, true_and, and_true, false_and, and_false, and_self, ↓reduceIte] at *; omega)) ?_
            refine ih6 _ ?_ _ _ _ (Eq.refl _) ?_ ?_ ?_ ?_
            · omega
            · first | omega | (simp only [mS_iff, eq_self, Int.reduceEq, true_and, and_true, false_and, and_false, and_self, ↓reduceIte]; omega) | (simp only [mS_iff, eq_self, Int.reduceEq, true_and, and_true, false_and, and_false, and_self, ↓reduceIte] at *; omega)
            · intro r j hh
              have := fr r j hh
              try simp only [mS_iff, eq_self, Int.reduceEq, true_and, and_true, false_and, and_false, and_self, ↓reduceIte]
              first | exact this | (rw [if_neg (by omega)]; exact this)
            · rw [s_sum_i (by omega)]; omega
            · intro e he
              rcases s_ith_s (by omega) he with he | he
              · have := i2 e he
                have q := s_ith_b (fun k => (s_cf_b S w day k).1) he
                (try simp only [mS_iff, eq_self, Int.reduceEq, true_and, and_true, false_and, and_false, and_self, ↓reduceIte])
                omega
              · (try simp only [mS_iff, eq_self, Int.reduceEq, true_and, and_true, false_and, and_false, and_self, ↓reduceIte])
                omega
          · refine And.intro (rfl) ?_
            refine And.intro (⟨rfl, by first | omega | (simp only [mS_iff, eq_self, Int.reduceEq, true_and, and_true, false_and, and_false, and_self, ↓reduceIte]; omega) | (simp only [mS_iff, eq_self, Int.reduceEq, true_and, and_true, false_and, and_false, and_self, ↓reduceIte] at *; omega)⟩) ?_
            refine ct_61 (by omega) (by rw [e2]; exact hX) (hA.2.2.2.2.2.2.2.2.2 |> fun _ => hA2) (fun v4 h5 => ?_)
            rw [s_pt_c] at h5
            refine And.intro (fun h6 => ?_) (fun h6 => ?_)
            · refine And.intro (show -2147483648 ≤ e + 1 ∧ e + 1 ≤ 2147483647 by first | omega | (simp only [mS_iff, eq_self, Int.reduceEq, true_and, and_true, false_and, and_false, and_self, ↓reduceIte]; omega) | (simp only [mS_iff, eq_self, Int.reduceEq, true_and, and_true, false_and, and_false, and_self, ↓reduceIte] at *; omega)) ?_
              refine ih6 _ ?_ _ _ _ (Eq.refl _) ?_ ?_ ?_ ?_
              · omega
              · first | omega | (simp only [mS_iff, eq_self, Int.reduceEq, true_and, and_true, false_and, and_false, and_self, ↓reduceIte]; omega) | (simp only [mS_iff, eq_self, Int.reduceEq, true_and, and_true, false_and, and_false, and_self, ↓reduceIte] at *; omega)
              · intro r j hh
                have := fr r j hh
                try simp only [mS_iff, eq_self, Int.reduceEq, true_and, and_true, false_and, and_false, and_self, ↓reduceIte]
                first | exact this | (rw [if_neg (by omega)]; exact this)
              · rw [s_sum_i (by omega)]; omega
              · intro e he
                rcases s_ith_s (by omega) he with he | he
                · have := i2 e he
                  have q := s_ith_b (fun k => (s_cf_b S w day k).1) he
                  (try simp only [mS_iff, eq_self, Int.reduceEq, true_and, and_true, false_and, and_false, and_self, ↓reduceIte])
                  omega
                · (try simp only [mS_iff, eq_self, Int.reduceEq, true_and, and_true, false_and, and_false, and_self, ↓reduceIte])
                  omega
            · refine And.intro (fun h7 => ?_) (fun h7 => ?_)
              · refine And.intro (rfl) ?_
                refine And.intro (rfl) ?_
                refine And.intro (show -2147483648 ≤ n + 1 ∧ n + 1 ≤ 2147483647 by first | omega | (simp only [mS_iff, eq_self, Int.reduceEq, true_and, and_true, false_and, and_false, and_self, ↓reduceIte]; omega) | (simp only [mS_iff, eq_self, Int.reduceEq, true_and, and_true, false_and, and_false, and_self, ↓reduceIte] at *; omega)) ?_
                refine And.intro (show -2147483648 ≤ e + 1 ∧ e + 1 ≤ 2147483647 by first | omega | (simp only [mS_iff, eq_self, Int.reduceEq, true_and, and_true, false_and, and_false, and_self, ↓reduceIte]; omega) | (simp only [mS_iff, eq_self, Int.reduceEq, true_and, and_true, false_and, and_false, and_self, ↓reduceIte] at *; omega)) ?_
                refine ih6 _ ?_ _ _ _ (Eq.refl _) ?_ ?_ ?_ ?_
                · omega
                · first | omega | (simp only [mS_iff, eq_self, Int.reduceEq, true_and, and_true, false_and, and_false, and_self, ↓reduceIte]; omega) | (simp only [mS_iff, eq_self, Int.reduceEq, true_and, and_true, false_and, and_false, and_self, ↓reduceIte] at *; omega)
                · intro r j hh
                  have := fr r j hh
                  try simp only [mS_iff, eq_self, Int.reduceEq, true_and, and_true, false_and, and_false, and_self, ↓reduceIte]
                  first | exact this | (rw [if_neg (by omega)]; exact this)
                · rw [s_sum_i (by omega)]; omega
                · intro e he
                  rcases s_ith_s (by omega) he with he | he
                  · have := i2 e he
                    have q := s_ith_b (fun k => (s_cf_b S w day k).1) he
                    (try simp only [mS_iff, eq_self, Int.reduceEq, true_and, and_true, false_and, and_false, and_self, ↓reduceIte])
                    omega
                  · (try simp only [mS_iff, eq_self, Int.reduceEq, true_and, and_true, false_and, and_false, and_self, ↓reduceIte])
                    omega
              · refine And.intro (rfl) ?_
                refine And.intro (show -2147483648 ≤ n + 1 ∧ n + 1 ≤ 2147483647 by first | omega | (simp only [mS_iff, eq_self, Int.reduceEq, true_and, and_true, false_and, and_false, and_self, ↓reduceIte]; omega) | (simp only [mS_iff, eq_self, Int.reduceEq, true_and, and_true, false_and, and_false, and_self, ↓reduceIte] at *; omega)) ?_
                refine And.intro (show -2147483648 ≤ e + 1 ∧ e + 1 ≤ 2147483647 by first | omega | (simp only [mS_iff, eq_self, Int.reduceEq, true_and, and_true, false_and, and_false, and_self, ↓reduceIte]; omega) | (simp only [mS_iff, eq_self, Int.reduceEq, true_and, and_true, false_and, and_false, and_self, ↓reduceIte] at *; omega)) ?_
                refine ih6 _ ?_ _ _ _ (Eq.refl _) ?_ ?_ ?_ ?_
                · omega
                · first | omega | (simp only [mS_iff, eq_self, Int.reduceEq, true_and, and_true, false_and, and_false, and_self, ↓reduceIte]; omega) | (simp only [mS_iff, eq_self, Int.reduceEq, true_and, and_true, false_and, and_false, and_self, ↓reduceIte] at *; omega)
                · intro r j hh
                  have := fr r j hh
                  try simp only [mS_iff, eq_self, Int.reduceEq, true_and, and_true, false_and, and_false, and_self, ↓reduceIte]
                  first | exact this | (rw [if_neg (by omega)]; exact this)
                · rw [s_sum_i (by omega)]; omega
                · intro e he
                  rcases s_ith_s (by omega) he with he | he
                  · have := i2 e he
                    have q := s_ith_b (fun k => (s_cf_b S w day k).1) he
                    (try simp only [mS_iff, eq_self, Int.reduceEq, true_and, and_true, false_and, and_false, and_self, ↓reduceIte])
                    omega
                  · (try simp only [mS_iff, eq_self, Int.reduceEq, true_and, and_true, false_and, and_false, and_self, ↓reduceIte])
                    omega
  refine am_go 400 [6] (am_wpc_cm _ _ _) wf_113 ?_
  refine K6 _ _ _ _ (Eq.refl _) ?_ ?_ ?_ ?_
  · first | omega | (simp only [mS_iff, eq_self, Int.reduceEq, true_and, and_true, false_and, and_false, and_self, ↓reduceIte]; omega) | (simp only [mS_iff, eq_self, Int.reduceEq, true_and, and_true, false_and, and_false, and_self, ↓reduceIte] at *; omega)
  · exact fun _ _ _ => rfl
  · exact rfl
  · intro k ⟨k1, k2, _⟩
    omega
theorem ct_276 {d : Nat} {m : aM} {Q : aO → aM → Prop} {e day : Int} (hd : 1 ≤ d) (he : 0 ≤ e ∧ e < 100) (hQ1 : m 66 e ≤ day ∧ day < m 67 e → Q (.inl (some (aI 1))) m) (hQ0 : ¬ (m 66 e ≤ day ∧ day < m 67 e) → Q (.inl (some (aI 0))) m) : am_wpc am_G am_T d 276 [aR 41, aI e, aI day] m Q := by
  refine am_in rfl hd (fun d hd => ?_)
  refine am_go 400 [] (am_wpc_cm _ _ _) wf_276 ?_
  refine And.intro (rfl) ?_
  refine And.intro (⟨rfl, by first | omega | (simp only [mS_iff, eq_self, Int.reduceEq, true_and, and_true, false_and, and_false, and_self, ↓reduceIte]; omega) | (simp only [mS_iff, eq_self, Int.reduceEq, true_and, and_true, false_and, and_false, and_self, ↓reduceIte] at *; omega)⟩) ?_
  refine And.intro (fun h1 => ?_) (fun h1 => ?_)
  · refine And.intro (by first | omega | (simp only [mS_iff, eq_self, Int.reduceEq, true_and, and_true, false_and, and_false, and_self, ↓reduceIte]; omega) | (simp only [mS_iff, eq_self, Int.reduceEq, true_and, and_true, false_and, and_false, and_self, ↓reduceIte] at *; omega)) ?_
    exact hQ0 (by omega)
  · refine And.intro (rfl) ?_
    refine And.intro (⟨rfl, by first | omega | (simp only [mS_iff, eq_self, Int.reduceEq, true_and, and_true, false_and, and_false, and_self, ↓reduceIte]; omega) | (simp only [mS_iff, eq_self, Int.reduceEq, true_and, and_true, false_and, and_false, and_self, ↓reduceIte] at *; omega)⟩) ?_
    refine And.intro (fun h2 => ?_) (fun h2 => ?_)
    · refine And.intro (by first | omega | (simp only [mS_iff, eq_self, Int.reduceEq, true_and, and_true, false_and, and_false, and_self, ↓reduceIte]; omega) | (simp only [mS_iff, eq_self, Int.reduceEq, true_and, and_true, false_and, and_false, and_self, ↓reduceIte] at *; omega)) ?_
      exact hQ0 (by omega)
    · refine And.intro (by first | omega | (simp only [mS_iff, eq_self, Int.reduceEq, true_and, and_true, false_and, and_false, and_self, ↓reduceIte]; omega) | (simp only [mS_iff, eq_self, Int.reduceEq, true_and, and_true, false_and, and_false, and_self, ↓reduceIte] at *; omega)) ?_
      exact hQ1 (by omega)
theorem ct_275 {d : Nat} {m : aM} {Q : aO → aM → Prop} {S : aM} {a day i : Int} {w : Int → Int} (hd : 4 ≤ d) (hS : mAs S m) (hE : mEs S m) (hA : mRow m a w) (hw : 0 ≤ w 5 ∧ w 5 ≤ 6) (hi : 0 ≤ i ∧ i < 2147483647) (hQ1 : ∀ e, s_ith (s_cf S w day) (S 0 5) i e → Q (.inl (some (aI e))) m) (hQ0 : s_sum (s_cf S w day) (S 0 5).toNat ≤ i → Q (.inl (some (aI (-1)))) m) : am_wpc am_G am_T d 275 [aR 41, aI a, aI day, aI i] m Q := by
  obtain ⟨z1, z2⟩ := hE.1
  have z3 := hE.2.1
  refine am_in rfl hd (fun d hd => ?_)
  have K6 : ∀ (N : Nat), ∀ (n : Int) (e : Int), (100 - e).toNat = N → (0 ≤ e ∧ e ≤ S 0 5 ∧ 0 ≤ n) → (i = s_sum (s_cf S w day) e.toNat + n) → am_WP am_G (am_wpc am_G am_T d) [] cd_275 Q 6 [aR 41, aI a, aI day, aI i, aI n, aI e] [] m := by
    intro N
    induction N using Nat.strongRecOn with
    | _ N ih6 =>
      intro n e hN i0 i1
      have b := s_sum_b (s_cf_b S w day) e.toNat
      refine am_go 400 [6] (am_wpc_cm _ _ _) wf_275 ?_
      refine And.intro (rfl) ?_
      refine And.intro (fun h1 => ?_) (fun h1 => ?_)
      · exact hQ0 (by rw [show S 0 5 = e by omega]; omega)
      · have y1 := z2 e (by omega) (by omega)
        obtain ⟨y2, y3, y4⟩ := hE.2.2 e (by omega) (by omega)
        have hX := hS.2.2 (S 16 e) (by omega) (by omega)
        have cq := s_cf_eq S w day e
        refine And.intro (rfl) ?_
        refine ct_276 (by omega) (by first | omega | (simp only [mS_iff, eq_self, Int.reduceEq, true_and, and_true, false_and, and_false, and_self, ↓reduceIte]; omega) | (simp only [mS_iff, eq_self, Int.reduceEq, true_and, and_true, false_and, and_false, and_self, ↓reduceIte] at *; omega)) (fun h2 => ?_) (fun h2 => ?_)
        · refine And.intro (fun h => absurd h (by decide)) (fun _ => ?_)
          refine And.intro (rfl) ?_
          refine And.intro (⟨rfl, by first | omega | (simp only [mS_iff, eq_self, Int.reduceEq, true_and, and_true, false_and, and_false, and_self, ↓reduceIte]; omega) | (simp only [mS_iff, eq_self, Int.reduceEq, true_and, and_true, false_and, and_false, and_self, ↓reduceIte] at *; omega)⟩) ?_
          refine And.intro (rfl) ?_
          refine ct_271 (by omega) hA (by rw [y2]; exact hX.1) hw hX.2.cnt (fun v3 h4 => ?_)
          refine And.intro (fun h5 => ?_) (fun h5 => ?_)
          · refine And.intro (show -2147483648 ≤ e + 1 ∧ e + 1 ≤ 2147483647 by first | omega | (simp only [mS_iff, eq_self, Int.reduceEq, true_and, and_true, false_and, and_false, and_self, ↓reduceIte]; omega) | (simp only [mS_iff, eq_self, Int.reduceEq, true_and, and_true, false_and, and_false, and_self, ↓reduceIte] at *; omega)) ?_
            refine ih6 _ ?_ _ _ (Eq.refl _) ?_ ?_
            · omega
            · first | omega | (simp only [mS_iff, eq_self, Int.reduceEq, true_and, and_true, false_and, and_false, and_self, ↓reduceIte]; omega) | (simp only [mS_iff, eq_self, Int.reduceEq, true_and, and_true, false_and, and_false, and_self, ↓reduceIte] at *; omega)
            · rw [s_sum_i (by omega)]; omega
          · refine And.intro (fun h6 => ?_) (fun h6 => ?_)
            · refine And.intro (show -2147483648 ≤ n + (-1) ∧ n + (-1) ≤ 2147483647 by first | omega | (simp only [mS_iff, eq_self, Int.reduceEq, true_and, and_true, false_and, and_false, and_self, ↓reduceIte]; omega) | (simp only [mS_iff, eq_self, Int.reduceEq, true_and, and_true, false_and, and_false, and_self, ↓reduceIte] at *; omega)) ?_
              refine And.intro (show -2147483648 ≤ e + 1 ∧ e + 1 ≤ 2147483647 by first | omega | (simp only [mS_iff, eq_self, Int.reduceEq, true_and, and_true, false_and, and_false, and_self, ↓reduceIte]; omega) | (simp only [mS_iff, eq_self, Int.reduceEq, true_and, and_true, false_and, and_false, and_self, ↓reduceIte] at *; omega)) ?_
              refine ih6 _ ?_ _ _ (Eq.refl _) ?_ ?_
              · omega
              · first | omega | (simp only [mS_iff, eq_self, Int.reduceEq, true_and, and_true, false_and, and_false, and_self, ↓reduceIte]; omega) | (simp only [mS_iff, eq_self, Int.reduceEq, true_and, and_true, false_and, and_false, and_self, ↓reduceIte] at *; omega)
              · rw [s_sum_i (by omega)]; omega
            · exact hQ1 _ ⟨by omega, by omega, by omega, by omega⟩
        · refine And.intro (fun _ => ?_) (fun h => absurd h (by decide))
          refine And.intro (show -2147483648 ≤ e + 1 ∧ e + 1 ≤ 2147483647 by first | omega | (simp only [mS_iff, eq_self, Int.reduceEq, true_and, and_true, false_and, and_false, and_self, ↓reduceIte]; omega) | (simp only [mS_iff, eq_self, Int.reduceEq, true_and, and_true, false_and, and_false, and_self, ↓reduceIte] at *; omega)) ?_
          refine ih6 _ ?_ _ _ (Eq.refl _) ?_ ?_
          · omega
          · first | omega | (simp only [mS_iff, eq_self, Int.reduceEq, true_and, and_true, false_and, and_false, and_self, ↓reduceIte]; omega) | (simp only [mS_iff, eq_self, Int.reduceEq, true_and, and_true, false_and, and_false, and_self, ↓reduceIte] at *; omega)
          · rw [s_sum_i (by omega)]; omega
  refine am_go 400 [6] (am_wpc_cm _ _ _) wf_275 ?_
  refine K6 _ _ _ (Eq.refl _) ?_ ?_
  · first | omega | (simp only [mS_iff, eq_self, Int.reduceEq, true_and, and_true, false_and, and_false, and_self, ↓reduceIte]; omega) | (simp only [mS_iff, eq_self, Int.reduceEq, true_and, and_true, false_and, and_false, and_self, ↓reduceIte] at *; omega)
  · simp [s_sum]
