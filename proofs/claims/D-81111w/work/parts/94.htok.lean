/-! needs: 93 -/
/-! CONTRACTS: what reads tokens, of the house; by tools/gen94.py -/
set_option maxRecDepth 100000
/-- tokens as rows: sorts, places, numbers; N of them -/
def xT (K A V : Int → Int) (N : Int) : Prop := (1 ≤ N ∧ N ≤ 1201) ∧ (K (N - 1) = 71 ∨ K (N - 1) = 72) ∧ (∀ q, 0 ≤ q → q + 1 < N → K q ≠ 71 ∧ K q ≠ 72) ∧ (∀ q, 0 ≤ q → q < N → (0 ≤ K q ∧ K q ≤ 161) ∧ (0 ≤ A q ∧ A q ≤ 1200) ∧ (0 ≤ V q ∧ V q ≤ 9999))
/-- the text of the house is at token q; f: its fault, at p -/
def hTx (m : aM) (K A V : Int → Int) (N q f p : Int) : Prop := (∀ i, 0 ≤ i → i < N → m 15 i = K i ∧ m 16 i = A i ∧ m 17 i = V i) ∧ m 13 5 = q ∧ (0 ≤ q ∧ q < N) ∧ m 13 6 = f ∧ (0 ≤ f ∧ f ≤ 5) ∧ (f ≠ 0 → m 13 7 = p)
def fr_t (m m' : aM) : Prop := ∀ r j, (r ≠ 13 ∨ (j ≠ 5 ∧ j ≠ 6 ∧ j ≠ 7)) → m' r j = m r j
theorem fr_t.rfl (m : aM) : fr_t m m := fun _ _ _ => Eq.refl _
theorem fr_t.trans {a b c : aM} (h : fr_t a b) (g : fr_t b c) : fr_t a c := fun r j x => (g r j x).trans (h r j x)
/-- the code of a token that can not stand there -/
def x_wr (k : Int) : Int := if k = 72 then 1 else 2
theorem xT.nx {K A V : Int → Int} {N q : Int} (h : xT K A V N) (q0 : 0 ≤ q) (q1 : q < N) (k : K q ≠ 71) (k2 : K q ≠ 72) : q + 1 < N := by
  have := h.2.1
  by_cases e : q + 1 < N
  · exact e
  · rw [show N - 1 = q by omega] at this
    omega
theorem ct_158 {d : Nat} {m : aM} {Q : aO → aM → Prop} {K A V : Int → Int} {N q f p : Int} (hd : 1 ≤ d) (hT : xT K A V N) (hx : hTx m K A V N q f p) {s : Int} (hQ1 : f = 0 → K q = s → Q (.inl (some (aI 1))) m) (hQ0 : ¬ (f = 0 ∧ K q = s) → Q (.inl (some (aI 0))) m) : am_wpc am_G am_T d 158 [aR 13, aI s] m Q := by
  obtain ⟨x1, x2, x3, x4, x5, x6⟩ := id hx
  obtain ⟨k1, k2, k3⟩ := x1 q x3.1 x3.2
  obtain ⟨t1, t2, t3⟩ := hT.2.2.2 q x3.1 x3.2
  have t0 := hT.1
  have e5 : m 15 (m 13 5) = K q := by rw [x2]; exact k1
  have e6 : m 16 (m 13 5) = A q := by rw [x2]; exact k2
  refine am_in rfl hd (fun d hd => ?_)
  refine am_go 400 [] (am_wpc_cm _ _ _) wf_158 ?_
  refine And.intro (rfl) ?_
  refine And.intro (fun h1 => ?_) (fun h1 => ?_)
  · refine And.intro (by first | omega | (simp only [mS_iff, eq_self, Int.reduceEq, true_and, and_true, false_and, and_false, and_self, ↓reduceIte]; omega) | (simp only [mS_iff, eq_self, Int.reduceEq, true_and, and_true, false_and, and_false, and_self, ↓reduceIte] at *; omega)) ?_
    exact hQ0 (by omega)
  · refine And.intro (rfl) ?_
    refine And.intro (rfl) ?_
    refine And.intro (⟨rfl, by first | omega | (simp only [mS_iff, eq_self, Int.reduceEq, true_and, and_true, false_and, and_false, and_self, ↓reduceIte]; omega) | (simp only [mS_iff, eq_self, Int.reduceEq, true_and, and_true, false_and, and_false, and_self, ↓reduceIte] at *; omega)⟩) ?_
    refine And.intro (fun h2 => ?_) (fun h2 => ?_)
    · refine And.intro (by first | omega | (simp only [mS_iff, eq_self, Int.reduceEq, true_and, and_true, false_and, and_false, and_self, ↓reduceIte]; omega) | (simp only [mS_iff, eq_self, Int.reduceEq, true_and, and_true, false_and, and_false, and_self, ↓reduceIte] at *; omega)) ?_
      exact hQ0 (by omega)
    · refine And.intro (by first | omega | (simp only [mS_iff, eq_self, Int.reduceEq, true_and, and_true, false_and, and_false, and_self, ↓reduceIte]; omega) | (simp only [mS_iff, eq_self, Int.reduceEq, true_and, and_true, false_and, and_false, and_self, ↓reduceIte] at *; omega)) ?_
      exact hQ1 (by omega) (by omega)
theorem ct_153 {d : Nat} {m : aM} {Q : aO → aM → Prop} {K A V : Int → Int} {N q f p : Int} (hd : 1 ≤ d) (hT : xT K A V N) (hx : hTx m K A V N q f p) {l n : Int} (hl : 0 ≤ l ∧ l ≤ 200 ∧ 0 ≤ n ∧ n ≤ 200) (hQ1 : f = 0 → (l ≤ K q ∧ K q < l + n) → Q (.inl (some (aI 1))) m) (hQ0 : ¬ (f = 0 ∧ l ≤ K q ∧ K q < l + n) → Q (.inl (some (aI 0))) m) : am_wpc am_G am_T d 153 [aR 13, aI l, aI n] m Q := by
  obtain ⟨x1, x2, x3, x4, x5, x6⟩ := id hx
  obtain ⟨k1, k2, k3⟩ := x1 q x3.1 x3.2
  obtain ⟨t1, t2, t3⟩ := hT.2.2.2 q x3.1 x3.2
  have t0 := hT.1
  have e5 : m 15 (m 13 5) = K q := by rw [x2]; exact k1
  have e6 : m 16 (m 13 5) = A q := by rw [x2]; exact k2
  refine am_in rfl hd (fun d hd => ?_)
  refine am_go 400 [] (am_wpc_cm _ _ _) wf_153 ?_
  refine And.intro (rfl) ?_
  refine And.intro (fun h1 => ?_) (fun h1 => ?_)
  · refine And.intro (by first | omega | (simp only [mS_iff, eq_self, Int.reduceEq, true_and, and_true, false_and, and_false, and_self, ↓reduceIte]; omega) | (simp only [mS_iff, eq_self, Int.reduceEq, true_and, and_true, false_and, and_false, and_self, ↓reduceIte] at *; omega)) ?_
    exact hQ0 (by omega)
  · refine And.intro (rfl) ?_
    refine And.intro (rfl) ?_
    refine And.intro (⟨rfl, by first | omega | (simp only [mS_iff, eq_self, Int.reduceEq, true_and, and_true, false_and, and_false, and_self, ↓reduceIte]; omega) | (simp only [mS_iff, eq_self, Int.reduceEq, true_and, and_true, false_and, and_false, and_self, ↓reduceIte] at *; omega)⟩) ?_
    refine And.intro (fun h2 => ?_) (fun h2 => ?_)
    · refine And.intro (by first | omega | (simp only [mS_iff, eq_self, Int.reduceEq, true_and, and_true, false_and, and_false, and_self, ↓reduceIte]; omega) | (simp only [mS_iff, eq_self, Int.reduceEq, true_and, and_true, false_and, and_false, and_self, ↓reduceIte] at *; omega)) ?_
      exact hQ0 (by omega)
    · refine And.intro (rfl) ?_
      refine And.intro (rfl) ?_
      refine And.intro (⟨rfl, by first | omega | (simp only [mS_iff, eq_self, Int.reduceEq, true_and, and_true, false_and, and_false, and_self, ↓reduceIte]; omega) | (simp only [mS_iff, eq_self, Int.reduceEq, true_and, and_true, false_and, and_false, and_self, ↓reduceIte] at *; omega)⟩) ?_
      refine And.intro (show -2147483648 ≤ l + n ∧ l + n ≤ 2147483647 by first | omega | (simp only [mS_iff, eq_self, Int.reduceEq, true_and, and_true, false_and, and_false, and_self, ↓reduceIte]; omega) | (simp only [mS_iff, eq_self, Int.reduceEq, true_and, and_true, false_and, and_false, and_self, ↓reduceIte] at *; omega)) ?_
      refine And.intro (fun h3 => ?_) (fun h3 => ?_)
      · refine And.intro (by first | omega | (simp only [mS_iff, eq_self, Int.reduceEq, true_and, and_true, false_and, and_false, and_self, ↓reduceIte]; omega) | (simp only [mS_iff, eq_self, Int.reduceEq, true_and, and_true, false_and, and_false, and_self, ↓reduceIte] at *; omega)) ?_
        exact hQ0 (by omega)
      · refine And.intro (by first | omega | (simp only [mS_iff, eq_self, Int.reduceEq, true_and, and_true, false_and, and_false, and_self, ↓reduceIte]; omega) | (simp only [mS_iff, eq_self, Int.reduceEq, true_and, and_true, false_and, and_false, and_self, ↓reduceIte] at *; omega)) ?_
        exact hQ1 (by omega) (by omega)
theorem ct_161 {d : Nat} {m : aM} {Q : aO → aM → Prop} {K A V : Int → Int} {N q f p : Int} (hd : 1 ≤ d) (hT : xT K A V N) (hx : hTx m K A V N q f p) (hQ : ∀ v, v = K q → Q (.inl (some (aI v))) m) : am_wpc am_G am_T d 161 [aR 13] m Q := by
  obtain ⟨x1, x2, x3, x4, x5, x6⟩ := id hx
  obtain ⟨k1, k2, k3⟩ := x1 q x3.1 x3.2
  obtain ⟨t1, t2, t3⟩ := hT.2.2.2 q x3.1 x3.2
  have t0 := hT.1
  have e5 : m 15 (m 13 5) = K q := by rw [x2]; exact k1
  have e6 : m 16 (m 13 5) = A q := by rw [x2]; exact k2
  refine am_in rfl hd (fun d hd => ?_)
  refine am_go 400 [] (am_wpc_cm _ _ _) wf_161 ?_
  refine And.intro (rfl) ?_
  refine And.intro (rfl) ?_
  refine And.intro (⟨rfl, by first | omega | (simp only [mS_iff, eq_self, Int.reduceEq, true_and, and_true, false_and, and_false, and_self, ↓reduceIte]; omega) | (simp only [mS_iff, eq_self, Int.reduceEq, true_and, and_true, false_and, and_false, and_self, ↓reduceIte] at *; omega)⟩) ?_
  exact hQ _ e5
theorem ct_160 {d : Nat} {m : aM} {Q : aO → aM → Prop} {K A V : Int → Int} {N q f p : Int} (hd : 1 ≤ d) (hT : xT K A V N) (hx : hTx m K A V N q f p) (hQ : ∀ v, v = (if K q = 71 ∨ K q = 72 then K q else K (q + 1)) → Q (.inl (some (aI v))) m) : am_wpc am_G am_T d 160 [aR 13] m Q := by
  obtain ⟨x1, x2, x3, x4, x5, x6⟩ := id hx
  obtain ⟨k1, k2, k3⟩ := x1 q x3.1 x3.2
  obtain ⟨t1, t2, t3⟩ := hT.2.2.2 q x3.1 x3.2
  have t0 := hT.1
  have e5 : m 15 (m 13 5) = K q := by rw [x2]; exact k1
  have e6 : m 16 (m 13 5) = A q := by rw [x2]; exact k2
  refine am_in rfl hd (fun d hd => ?_)
  refine am_go 400 [] (am_wpc_cm _ _ _) wf_160 ?_
  refine And.intro (rfl) ?_
  refine And.intro (rfl) ?_
  refine And.intro (⟨rfl, by first | omega | (simp only [mS_iff, eq_self, Int.reduceEq, true_and, and_true, false_and, and_false, and_self, ↓reduceIte]; omega) | (simp only [mS_iff, eq_self, Int.reduceEq, true_and, and_true, false_and, and_false, and_self, ↓reduceIte] at *; omega)⟩) ?_
  refine And.intro (fun h1 => ?_) (fun h1 => ?_)
  · refine And.intro (rfl) ?_
    refine And.intro (rfl) ?_
    refine And.intro (⟨rfl, by first | omega | (simp only [mS_iff, eq_self, Int.reduceEq, true_and, and_true, false_and, and_false, and_self, ↓reduceIte]; omega) | (simp only [mS_iff, eq_self, Int.reduceEq, true_and, and_true, false_and, and_false, and_self, ↓reduceIte] at *; omega)⟩) ?_
    first | exact hQ _ (by rw [if_pos (by omega)]; exact e5) | exact hQ _ (by have nn := hT.nx x3.1 x3.2 (by omega) (by omega); rw [if_neg (by omega), x2]; exact (x1 (q + 1) (by omega) nn).1)
  · refine And.intro (rfl) ?_
    refine And.intro (rfl) ?_
    refine And.intro (⟨rfl, by first | omega | (simp only [mS_iff, eq_self, Int.reduceEq, true_and, and_true, false_and, and_false, and_self, ↓reduceIte]; omega) | (simp only [mS_iff, eq_self, Int.reduceEq, true_and, and_true, false_and, and_false, and_self, ↓reduceIte] at *; omega)⟩) ?_
    refine And.intro (fun h2 => ?_) (fun h2 => ?_)
    · refine And.intro (rfl) ?_
      refine And.intro (rfl) ?_
      refine And.intro (show -2147483648 ≤ (m 13 5) + 1 ∧ (m 13 5) + 1 ≤ 2147483647 by first | omega | (simp only [mS_iff, eq_self, Int.reduceEq, true_and, and_true, false_and, and_false, and_self, ↓reduceIte]; omega) | (simp only [mS_iff, eq_self, Int.reduceEq, true_and, and_true, false_and, and_false, and_self, ↓reduceIte] at *; omega)) ?_
      refine And.intro (⟨rfl, by first | omega | (simp only [mS_iff, eq_self, Int.reduceEq, true_and, and_true, false_and, and_false, and_self, ↓reduceIte]; omega) | (simp only [mS_iff, eq_self, Int.reduceEq, true_and, and_true, false_and, and_false, and_self, ↓reduceIte] at *; omega)⟩) ?_
      first | exact hQ _ (by rw [if_pos (by omega)]; exact e5) | exact hQ _ (by have nn := hT.nx x3.1 x3.2 (by omega) (by omega); rw [if_neg (by omega), x2]; exact (x1 (q + 1) (by omega) nn).1)
    · refine And.intro (rfl) ?_
      refine And.intro (rfl) ?_
      refine And.intro (⟨rfl, by first | omega | (simp only [mS_iff, eq_self, Int.reduceEq, true_and, and_true, false_and, and_false, and_self, ↓reduceIte]; omega) | (simp only [mS_iff, eq_self, Int.reduceEq, true_and, and_true, false_and, and_false, and_self, ↓reduceIte] at *; omega)⟩) ?_
      first | exact hQ _ (by rw [if_pos (by omega)]; exact e5) | exact hQ _ (by have nn := hT.nx x3.1 x3.2 (by omega) (by omega); rw [if_neg (by omega), x2]; exact (x1 (q + 1) (by omega) nn).1)
theorem ct_156 {d : Nat} {m : aM} {Q : aO → aM → Prop} {K A V : Int → Int} {N q f p : Int} (hd : 1 ≤ d) (hT : xT K A V N) (hx : hTx m K A V N q f p) {c w : Int} (hc : 1 ≤ c ∧ c ≤ 5) (hQ : ∀ m', fr_t m m' → hTx m' K A V N q (if f = 0 then c else f) (if f = 0 then w else p) → Q (.inl none) m') : am_wpc am_G am_T d 156 [aR 13, aI c, aI w] m Q := by
  obtain ⟨x1, x2, x3, x4, x5, x6⟩ := id hx
  obtain ⟨k1, k2, k3⟩ := x1 q x3.1 x3.2
  obtain ⟨t1, t2, t3⟩ := hT.2.2.2 q x3.1 x3.2
  have t0 := hT.1
  have e5 : m 15 (m 13 5) = K q := by rw [x2]; exact k1
  have e6 : m 16 (m 13 5) = A q := by rw [x2]; exact k2
  refine am_in rfl hd (fun d hd => ?_)
  refine am_go 400 [] (am_wpc_cm _ _ _) wf_156 ?_
  refine And.intro (rfl) ?_
  refine And.intro (fun h1 => ?_) (fun h1 => ?_)
  · exact hQ _ (fr_t.rfl m) ⟨x1, x2, x3, by rw [if_neg (by omega)]; exact x4, by omega, fun _ => by rw [if_neg (by omega)]; exact x6 (by omega)⟩
  · refine And.intro (rfl) ?_
    refine And.intro (rfl) ?_
    exact hQ _ (fun r j a => by rw [mS_iff, if_neg (by omega), mS_iff, if_neg (by omega)]) ⟨x1, x2, x3, by rw [if_pos (by omega)]; rfl, by omega, fun _ => by rw [if_pos (by omega)]; rfl⟩
theorem ct_155 {d : Nat} {m : aM} {Q : aO → aM → Prop} {K A V : Int → Int} {N q f p : Int} (hd : 2 ≤ d) (hT : xT K A V N) (hx : hTx m K A V N q f p) (hQ : ∀ m', fr_t m m' → hTx m' K A V N q (if f = 0 then x_wr (K q) else f) (if f = 0 then A q else p) → Q (.inl none) m') : am_wpc am_G am_T d 155 [aR 13] m Q := by
  obtain ⟨x1, x2, x3, x4, x5, x6⟩ := id hx
  obtain ⟨k1, k2, k3⟩ := x1 q x3.1 x3.2
  obtain ⟨t1, t2, t3⟩ := hT.2.2.2 q x3.1 x3.2
  have t0 := hT.1
  have e5 : m 15 (m 13 5) = K q := by rw [x2]; exact k1
  have e6 : m 16 (m 13 5) = A q := by rw [x2]; exact k2
  refine am_in rfl hd (fun d hd => ?_)
  refine am_go 400 [] (am_wpc_cm _ _ _) wf_155 ?_
  refine And.intro (rfl) ?_
  refine And.intro (rfl) ?_
  refine And.intro (⟨rfl, by first | omega | (simp only [mS_iff, eq_self, Int.reduceEq, true_and, and_true, false_and, and_false, and_self, ↓reduceIte]; omega) | (simp only [mS_iff, eq_self, Int.reduceEq, true_and, and_true, false_and, and_false, and_self, ↓reduceIte] at *; omega)⟩) ?_
  refine And.intro (fun h1 => ?_) (fun h1 => ?_)
  · refine And.intro (rfl) ?_
    refine And.intro (rfl) ?_
    refine And.intro (⟨rfl, by first | omega | (simp only [mS_iff, eq_self, Int.reduceEq, true_and, and_true, false_and, and_false, and_self, ↓reduceIte]; omega) | (simp only [mS_iff, eq_self, Int.reduceEq, true_and, and_true, false_and, and_false, and_self, ↓reduceIte] at *; omega)⟩) ?_
    refine And.intro (rfl) ?_
    refine ct_156 (by omega) hT hx (by omega) (fun mw2 h3 h4 => ?_)
    have fz := h3
    have hz := h4
    exact hQ _ fz (by unfold x_wr; first | (rw [if_pos (show K q = 72 by omega), ← e6]; exact hz) | (rw [if_neg (show ¬ K q = 72 by omega), ← e6]; exact hz))
  · refine And.intro (rfl) ?_
    refine And.intro (rfl) ?_
    refine And.intro (⟨rfl, by first | omega | (simp only [mS_iff, eq_self, Int.reduceEq, true_and, and_true, false_and, and_false, and_self, ↓reduceIte]; omega) | (simp only [mS_iff, eq_self, Int.reduceEq, true_and, and_true, false_and, and_false, and_self, ↓reduceIte] at *; omega)⟩) ?_
    refine And.intro (rfl) ?_
    refine ct_156 (by omega) hT hx (by omega) (fun mw5 h6 h7 => ?_)
    have fz := h6
    have hz := h7
    exact hQ _ fz (by unfold x_wr; first | (rw [if_pos (show K q = 72 by omega), ← e6]; exact hz) | (rw [if_neg (show ¬ K q = 72 by omega), ← e6]; exact hz))
theorem ct_154 {d : Nat} {m : aM} {Q : aO → aM → Prop} {K A V : Int → Int} {N q f p : Int} (hd : 3 ≤ d) (hT : xT K A V N) (hx : hTx m K A V N q f p) {l n : Int} (hl : 0 ≤ l ∧ l ≤ 200 ∧ 1 ≤ n ∧ n ≤ 200) (hr : ¬ (l ≤ 71 ∧ 71 < l + n) ∧ ¬ (l ≤ 72 ∧ 72 < l + n)) (hQf : f ≠ 0 → Q (.inl (some (aI 0))) m) (hQ1 : f = 0 → (l ≤ K q ∧ K q < l + n) → ∀ m', fr_t m m' → hTx m' K A V N (q + 1) 0 p → Q (.inl (some (aI (K q - l)))) m') (hQ0 : f = 0 → ¬ (l ≤ K q ∧ K q < l + n) → ∀ m', fr_t m m' → hTx m' K A V N q (x_wr (K q)) (A q) → Q (.inl (some (aI 0))) m') : am_wpc am_G am_T d 154 [aR 13, aI l, aI n] m Q := by
  obtain ⟨x1, x2, x3, x4, x5, x6⟩ := id hx
  obtain ⟨k1, k2, k3⟩ := x1 q x3.1 x3.2
  obtain ⟨t1, t2, t3⟩ := hT.2.2.2 q x3.1 x3.2
  have t0 := hT.1
  have e5 : m 15 (m 13 5) = K q := by rw [x2]; exact k1
  have e6 : m 16 (m 13 5) = A q := by rw [x2]; exact k2
  refine am_in rfl hd (fun d hd => ?_)
  refine am_go 400 [] (am_wpc_cm _ _ _) wf_154 ?_
  refine And.intro (rfl) ?_
  refine And.intro (fun h1 => ?_) (fun h1 => ?_)
  · refine And.intro (rfl) ?_
    refine And.intro (rfl) ?_
    refine And.intro (⟨rfl, by first | omega | (simp only [mS_iff, eq_self, Int.reduceEq, true_and, and_true, false_and, and_false, and_self, ↓reduceIte]; omega) | (simp only [mS_iff, eq_self, Int.reduceEq, true_and, and_true, false_and, and_false, and_self, ↓reduceIte] at *; omega)⟩) ?_
    refine And.intro (fun h2 => ?_) (fun h2 => ?_)
    · refine And.intro (rfl) ?_
      refine ct_155 (by omega) hT hx (fun mw3 h4 h5 => ?_)
      have fz := h4
      have hz := h5
      exact hQ0 (by omega) (by omega) _ fz (by rw [if_pos (by omega), if_pos (by omega)] at hz; exact hz)
    · refine And.intro (rfl) ?_
      refine And.intro (rfl) ?_
      refine And.intro (⟨rfl, by first | omega | (simp only [mS_iff, eq_self, Int.reduceEq, true_and, and_true, false_and, and_false, and_self, ↓reduceIte]; omega) | (simp only [mS_iff, eq_self, Int.reduceEq, true_and, and_true, false_and, and_false, and_self, ↓reduceIte] at *; omega)⟩) ?_
      refine And.intro (show -2147483648 ≤ l + n ∧ l + n ≤ 2147483647 by first | omega | (simp only [mS_iff, eq_self, Int.reduceEq, true_and, and_true, false_and, and_false, and_self, ↓reduceIte]; omega) | (simp only [mS_iff, eq_self, Int.reduceEq, true_and, and_true, false_and, and_false, and_self, ↓reduceIte] at *; omega)) ?_
      refine And.intro (fun h6 => ?_) (fun h6 => ?_)
      · refine And.intro (rfl) ?_
        refine And.intro (show -2147483648 ≤ (m 13 5) + 1 ∧ (m 13 5) + 1 ≤ 2147483647 by first | omega | (simp only [mS_iff, eq_self, Int.reduceEq, true_and, and_true, false_and, and_false, and_self, ↓reduceIte]; omega) | (simp only [mS_iff, eq_self, Int.reduceEq, true_and, and_true, false_and, and_false, and_self, ↓reduceIte] at *; omega)) ?_
        refine And.intro (rfl) ?_
        have ek : m 15 (m 13 5 + 1 - 1) = K q := by rw [show m 13 5 + 1 - 1 = q by omega]; exact k1
        refine And.intro (rfl) ?_
        refine And.intro (rfl) ?_
        refine And.intro (show -2147483648 ≤ ((m 13 5) + 1) - 1 ∧ ((m 13 5) + 1) - 1 ≤ 2147483647 by first | omega | (simp only [mS_iff, eq_self, Int.reduceEq, true_and, and_true, false_and, and_false, and_self, ↓reduceIte]; omega) | (simp only [mS_iff, eq_self, Int.reduceEq, true_and, and_true, false_and, and_false, and_self, ↓reduceIte] at *; omega)) ?_
        refine And.intro (⟨rfl, by first | omega | (simp only [mS_iff, eq_self, Int.reduceEq, true_and, and_true, false_and, and_false, and_self, ↓reduceIte]; omega) | (simp only [mS_iff, eq_self, Int.reduceEq, true_and, and_true, false_and, and_false, and_self, ↓reduceIte] at *; omega)⟩) ?_
        refine And.intro (show -2147483648 ≤ (m 15 (((m 13 5) + 1) - 1)) - l ∧ (m 15 (((m 13 5) + 1) - 1)) - l ≤ 2147483647 by first | omega | (simp only [mS_iff, eq_self, Int.reduceEq, true_and, and_true, false_and, and_false, and_self, ↓reduceIte]; omega) | (simp only [mS_iff, eq_self, Int.reduceEq, true_and, and_true, false_and, and_false, and_self, ↓reduceIte] at *; omega)) ?_
        have nn := hT.nx x3.1 x3.2 (by omega) (by omega)
        have ek : m 15 (m 13 5 + 1 - 1) = K q := by rw [show m 13 5 + 1 - 1 = q by omega]; exact k1
        have := hQ1 (by omega) (by omega) (mS m 13 5 (m 13 5 + 1)) (fun r j a => by rw [mS_iff, if_neg (by omega)]) ⟨x1, by show m 13 5 + 1 = q + 1; omega, by omega, by show m 13 6 = 0; omega, by omega, fun z => by omega⟩
        rw [← ek] at this
        exact this
      · refine And.intro (rfl) ?_
        refine ct_155 (by omega) hT hx (fun mw7 h8 h9 => ?_)
        have fz := h8
        have hz := h9
        exact hQ0 (by omega) (by omega) _ fz (by rw [if_pos (by omega), if_pos (by omega)] at hz; exact hz)
  · exact hQf (by omega)
theorem ct_157 {d : Nat} {m : aM} {Q : aO → aM → Prop} {K A V : Int → Int} {N q f p : Int} (hd : 2 ≤ d) (hT : xT K A V N) (hx : hTx m K A V N q f p) {s : Int} (hs : s ≠ 71 ∧ s ≠ 72) (hQ1 : f = 0 → K q = s → ∀ m', fr_t m m' → hTx m' K A V N (q + 1) 0 p → Q (.inl (some (aI 1))) m') (hQ0 : ¬ (f = 0 ∧ K q = s) → Q (.inl (some (aI 0))) m) : am_wpc am_G am_T d 157 [aR 13, aI s] m Q := by
  obtain ⟨x1, x2, x3, x4, x5, x6⟩ := id hx
  obtain ⟨k1, k2, k3⟩ := x1 q x3.1 x3.2
  obtain ⟨t1, t2, t3⟩ := hT.2.2.2 q x3.1 x3.2
  have t0 := hT.1
  have e5 : m 15 (m 13 5) = K q := by rw [x2]; exact k1
  have e6 : m 16 (m 13 5) = A q := by rw [x2]; exact k2
  refine am_in rfl hd (fun d hd => ?_)
  refine am_go 400 [] (am_wpc_cm _ _ _) wf_157 ?_
  refine And.intro (rfl) ?_
  refine ct_158 (by omega) hT hx (fun h1 h2 => ?_) (fun h1 => ?_)
  · refine And.intro (fun h => absurd h (by decide)) (fun _ => ?_)
    refine And.intro (rfl) ?_
    refine And.intro (show -2147483648 ≤ (m 13 5) + 1 ∧ (m 13 5) + 1 ≤ 2147483647 by first | omega | (simp only [mS_iff, eq_self, Int.reduceEq, true_and, and_true, false_and, and_false, and_self, ↓reduceIte]; omega) | (simp only [mS_iff, eq_self, Int.reduceEq, true_and, and_true, false_and, and_false, and_self, ↓reduceIte] at *; omega)) ?_
    refine And.intro (rfl) ?_
    refine And.intro (by first | omega | (simp only [mS_iff, eq_self, Int.reduceEq, true_and, and_true, false_and, and_false, and_self, ↓reduceIte]; omega) | (simp only [mS_iff, eq_self, Int.reduceEq, true_and, and_true, false_and, and_false, and_self, ↓reduceIte] at *; omega)) ?_
    have nn := hT.nx x3.1 x3.2 (by omega) (by omega)
    exact hQ1 (by omega) (by omega) (mS m 13 5 (m 13 5 + 1)) (fun r j a => by rw [mS_iff, if_neg (by omega)]) ⟨x1, by show m 13 5 + 1 = q + 1; omega, by omega, by show m 13 6 = 0; omega, by omega, fun z => by omega⟩
  · refine And.intro (fun _ => ?_) (fun h => absurd h (by decide))
    refine And.intro (by first | omega | (simp only [mS_iff, eq_self, Int.reduceEq, true_and, and_true, false_and, and_false, and_self, ↓reduceIte]; omega) | (simp only [mS_iff, eq_self, Int.reduceEq, true_and, and_true, false_and, and_false, and_self, ↓reduceIte] at *; omega)) ?_
    exact hQ0 (by omega)
theorem ct_159 {d : Nat} {m : aM} {Q : aO → aM → Prop} {K A V : Int → Int} {N q f p : Int} (hd : 4 ≤ d) (hT : xT K A V N) (hx : hTx m K A V N q f p) {s : Int} (hs : 0 ≤ s ∧ s ≤ 199 ∧ s ≠ 71 ∧ s ≠ 72) (hQf : f ≠ 0 → Q (.inl none) m) (hQ1 : f = 0 → K q = s → ∀ m', fr_t m m' → hTx m' K A V N (q + 1) 0 p → Q (.inl none) m') (hQ0 : f = 0 → K q ≠ s → ∀ m', fr_t m m' → hTx m' K A V N q (x_wr (K q)) (A q) → Q (.inl none) m') : am_wpc am_G am_T d 159 [aR 13, aI s] m Q := by
  refine am_in rfl hd (fun d hd => ?_)
  refine am_go 400 [] (am_wpc_cm _ _ _) wf_159 ?_
  refine And.intro (rfl) ?_
  refine ct_154 (by omega) hT hx (by omega) (by omega) (fun h1 => ?_) (fun h1 h2 mw5 h3 h4 => ?_) (fun h1 h2 mw5 h3 h4 => ?_)
  · first | exact hQf (by omega) | exact hQ1 (by omega) (by omega) _ fz hz | exact hQ0 (by omega) (by omega) _ fz hz
  · have fz := h3
    have hz := h4
    first | exact hQf (by omega) | exact hQ1 (by omega) (by omega) _ fz hz | exact hQ0 (by omega) (by omega) _ fz hz
  · have fz := h3
    have hz := h4
    first | exact hQf (by omega) | exact hQ1 (by omega) (by omega) _ fz hz | exact hQ0 (by omega) (by omega) _ fz hz
