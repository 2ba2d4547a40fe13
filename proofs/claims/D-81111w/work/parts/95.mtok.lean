/-! needs: 94 -/
/-! CONTRACTS: what reads tokens, of the reference; by tools/gen95.py -/
set_option maxRecDepth 100000
/-- the text of the reference is at token q; f: its fault, at p -/
def mTx (m : aM) (n : Int) (K A V E : Int → Int) (N q f p : Int) : Prop :=
  (m 41 3 = n ∧ 0 ≤ n ∧ n ≤ 1200) ∧ (∀ k, 0 ≤ k → k < n → 0 ≤ m 43 k ∧ m 43 k ≤ 255) ∧ x_lx (m 43) n K A V E N ∧ (0 ≤ q ∧ q < N) ∧ (0 ≤ f ∧ f ≤ 5) ∧ (m 41 16 = 0 ∨ m 41 16 = 1) ∧
  (f = 0 → m 41 16 = 0 ∧ m 41 17 = 0 ∧ x_R (K q) (V q) (m 41 13) (m 41 15) ∧ m 41 14 = A q ∧ m 41 12 = E q) ∧ (f ≠ 0 → m 41 16 = 1 ∧ m 41 17 = f ∧ m 41 18 = p)
def fr_M (m m' : aM) : Prop := ∀ r j, (r ≠ 41 ∨ (j < 12 ∨ 18 < j)) → m' r j = m r j
theorem fr_M.rfl (m : aM) : fr_M m m := fun _ _ _ => Eq.refl _
theorem fr_M.trans {a b c : aM} (h : fr_M a b) (g : fr_M b c) : fr_M a c := fun r j x => (g r j x).trans (h r j x)
theorem fr_N.M {m m' : aM} (h : fr_N m m') : fr_M m m' := fun r j x => h r j (by omega)
theorem x_lx.pos {t : Int → Int} {n : Int} {K A V E : Int → Int} {N : Int} (h : x_lx t n K A V E N) (hn : 0 ≤ n) {q : Int} (q0 : 0 ≤ q) (q1 : q < N) : (0 ≤ A q ∧ A q ≤ n) ∧ (A q ≤ E q ∧ E q ≤ n) := by
  obtain ⟨h1, h2, h3, h4, h5⟩ := h
  have pos : ∀ i : Nat, (i : Int) < N → 0 ≤ A i ∧ A i ≤ n := by
    intro i
    induction i with
    | zero => intro _; exact ⟨h2.1, h2.2.1⟩
    | succ i ih =>
      intro hi
      have a := ih (by omega)
      have b := x_tk_e (h3 i (by omega) (by omega)) a.2
      have c := (h4 i (by omega) (by omega)).1
      have c1 := c.1
      have c2 := c.2.1
      rw [show (((i + 1 : Nat)) : Int) = (i : Int) + 1 by omega]
      omega
  have a := pos q.toNat (by omega)
  rw [show ((q.toNat : Nat) : Int) = q by omega] at a
  have b := x_tk_e (h3 q q0 q1) a.2
  exact ⟨a, b.1, b.2.1⟩
theorem x_lx.nx {t : Int → Int} {n : Int} {K A V E : Int → Int} {N : Int} (h : x_lx t n K A V E N) {q : Int} (q0 : 0 ≤ q) (q1 : q < N) (k : K q ≠ 71) (k2 : K q ≠ 72) : q + 1 < N := by
  have := h.2.2.2.2
  by_cases e : q + 1 < N
  · exact e
  · rw [show N - 1 = q by omega] at this
    omega
theorem x_lx.T {t : Int → Int} {n : Int} {K A V E : Int → Int} {N : Int} (h : x_lx t n K A V E N) (hn : 0 ≤ n ∧ n ≤ 1200) (hN : N ≤ 1201) : xT K A V N := by
  refine ⟨⟨h.1, hN⟩, h.2.2.2.2, fun q a b => (h.2.2.2.1 q a b).2, fun q a b => ?_⟩
  have k := x_tk_k (h.2.2.1 q a b)
  have p := h.pos hn.1 a b
  omega
theorem ct_198 {d : Nat} {m : aM} {Q : aO → aM → Prop} {n : Int} {K A V E : Int → Int} {N q f p : Int} (hd : 1 ≤ d) (hx : mTx m n K A V E N q f p) {w v : Int} (hw : 0 ≤ w ∧ w < 67) (hv : v = s_cd w) (hQ1 : f = 0 → K q = w → Q (.inl (some (aI 1))) m) (hQ0 : ¬ (f = 0 ∧ K q = w) → Q (.inl (some (aI 0))) m) : am_wpc am_G am_T d 198 [aR 41, aL v] m Q := by
  obtain ⟨x1, x2, x3, x4, x5, x55, x6, x7⟩ := id hx
  have r := fun z => (x6 z).2.2.1.2.2.2.2.1 w hw.1 hw.2
  have x6a := fun z => (x6 z).1
  have x7a := fun z => (x7 z).1
  refine am_in rfl hd (fun d hd => ?_)
  refine am_go 400 [] (am_wpc_cm _ _ _) wf_198 ?_
  refine And.intro (rfl) ?_
  refine And.intro (fun h1 => ?_) (fun h1 => ?_)
  · refine And.intro (by first | omega | (simp only [mS_iff, eq_self, Int.reduceEq, true_and, and_true, false_and, and_false, and_self, ↓reduceIte]; omega) | (simp only [mS_iff, eq_self, Int.reduceEq, true_and, and_true, false_and, and_false, and_self, ↓reduceIte] at *; omega)) ?_
    exact hQ0 (fun z => by have a := (r z.1).mp z.2; have b := x6a z.1; omega)
  · refine And.intro (rfl) ?_
    refine And.intro (fun h2 => ?_) (fun h2 => ?_)
    · refine And.intro (by first | omega | (simp only [mS_iff, eq_self, Int.reduceEq, true_and, and_true, false_and, and_false, and_self, ↓reduceIte]; omega) | (simp only [mS_iff, eq_self, Int.reduceEq, true_and, and_true, false_and, and_false, and_self, ↓reduceIte] at *; omega)) ?_
      exact hQ0 (fun z => by have a := (r z.1).mp z.2; have b := x6a z.1; omega)
    · refine And.intro (rfl) ?_
      refine And.intro (fun h3 => ?_) (fun h3 => ?_)
      · replace h3 := am_lc_ne.mp h3
        refine And.intro (by first | omega | (simp only [mS_iff, eq_self, Int.reduceEq, true_and, and_true, false_and, and_false, and_self, ↓reduceIte]; omega) | (simp only [mS_iff, eq_self, Int.reduceEq, true_and, and_true, false_and, and_false, and_self, ↓reduceIte] at *; omega)) ?_
        exact hQ0 (fun z => by have a := (r z.1).mp z.2; have b := x6a z.1; omega)
      · replace h3 := am_lc_eq.mp h3
        refine And.intro (by first | omega | (simp only [mS_iff, eq_self, Int.reduceEq, true_and, and_true, false_and, and_false, and_self, ↓reduceIte]; omega) | (simp only [mS_iff, eq_self, Int.reduceEq, true_and, and_true, false_and, and_false, and_self, ↓reduceIte] at *; omega)) ?_
        have f0 : f = 0 := by omega
        exact hQ1 f0 ((r f0).mpr ⟨by omega, by omega⟩)
theorem ct_206 {d : Nat} {m : aM} {Q : aO → aM → Prop} {n : Int} {K A V E : Int → Int} {N q f p : Int} (hd : 1 ≤ d) (hx : mTx m n K A V E N q f p) {c : Int} (hc : x_sg c) (hQ1 : f = 0 → K q = 100 + c → Q (.inl (some (aI 1))) m) (hQ0 : ¬ (f = 0 ∧ K q = 100 + c) → Q (.inl (some (aI 0))) m) : am_wpc am_G am_T d 206 [aR 41, aI c] m Q := by
  obtain ⟨x1, x2, x3, x4, x5, x55, x6, x7⟩ := id hx
  have r := fun z => (x6 z).2.2.1.2.2.2.2.2.1 c hc
  have x6a := fun z => (x6 z).1
  have x7a := fun z => (x7 z).1
  refine am_in rfl hd (fun d hd => ?_)
  refine am_go 400 [] (am_wpc_cm _ _ _) wf_206 ?_
  refine And.intro (rfl) ?_
  refine And.intro (fun h1 => ?_) (fun h1 => ?_)
  · refine And.intro (by first | omega | (simp only [mS_iff, eq_self, Int.reduceEq, true_and, and_true, false_and, and_false, and_self, ↓reduceIte]; omega) | (simp only [mS_iff, eq_self, Int.reduceEq, true_and, and_true, false_and, and_false, and_self, ↓reduceIte] at *; omega)) ?_
    exact hQ0 (fun z => by have a := (r z.1).mp z.2; have b := x6a z.1; omega)
  · refine And.intro (rfl) ?_
    refine And.intro (fun h2 => ?_) (fun h2 => ?_)
    · refine And.intro (by first | omega | (simp only [mS_iff, eq_self, Int.reduceEq, true_and, and_true, false_and, and_false, and_self, ↓reduceIte]; omega) | (simp only [mS_iff, eq_self, Int.reduceEq, true_and, and_true, false_and, and_false, and_self, ↓reduceIte] at *; omega)) ?_
      exact hQ0 (fun z => by have a := (r z.1).mp z.2; have b := x6a z.1; omega)
    · refine And.intro (rfl) ?_
      refine And.intro (fun h3 => ?_) (fun h3 => ?_)
      · replace h3 := am_lc_ne.mp h3
        refine And.intro (by first | omega | (simp only [mS_iff, eq_self, Int.reduceEq, true_and, and_true, false_and, and_false, and_self, ↓reduceIte]; omega) | (simp only [mS_iff, eq_self, Int.reduceEq, true_and, and_true, false_and, and_false, and_self, ↓reduceIte] at *; omega)) ?_
        exact hQ0 (fun z => by have a := (r z.1).mp z.2; have b := x6a z.1; omega)
      · replace h3 := am_lc_eq.mp h3
        refine And.intro (by first | omega | (simp only [mS_iff, eq_self, Int.reduceEq, true_and, and_true, false_and, and_false, and_self, ↓reduceIte]; omega) | (simp only [mS_iff, eq_self, Int.reduceEq, true_and, and_true, false_and, and_false, and_self, ↓reduceIte] at *; omega)) ?_
        have f0 : f = 0 := by omega
        exact hQ1 f0 ((r f0).mpr ⟨by omega, by omega⟩)
theorem ct_199 {d : Nat} {m : aM} {Q : aO → aM → Prop} {n : Int} {K A V E : Int → Int} {N q f p : Int} (hd : 3 ≤ d) (hx : mTx m n K A V E N q f p) (hk : f = 0 → K q ≠ 71 ∧ K q ≠ 72) (hQf : f ≠ 0 → Q (.inl none) m) (hQ : f = 0 → ∀ m', fr_M m m' → mTx m' n K A V E N (q + 1) 0 p → Q (.inl none) m') : am_wpc am_G am_T d 199 [aR 41] m Q := by
  obtain ⟨x1, x2, x3, x4, x5, x55, x6, x7⟩ := id hx
  refine am_in rfl hd (fun d hd => ?_)
  refine am_go 400 [] (am_wpc_cm _ _ _) wf_199 ?_
  refine And.intro (rfl) ?_
  refine And.intro (fun h1 => ?_) (fun h1 => ?_)
  · exact hQf (fun z => by have := (x6 z).1; omega)
  · have f0 : f = 0 := by
      by_cases z : f = 0
      · exact z
      · have := (x7 z).1; omega
    refine And.intro (rfl) ?_
    refine ct_194 (n := n) (by omega) x1 (by have := x3.pos x1.2.1 x4.1 x4.2; have := (x6 f0).2.2.2.2; omega) x2 (fun mw2 h3 h4 h5 => ?_)
    have nn := x3.nx x4.1 x4.2 (hk f0).1 (hk f0).2
    have e43 : mw2 43 = m 43 := funext fun k => h3 43 k (by omega)
    have sk := (x3.2.2.2.1 q x4.1 nn).1
    have ej : mw2 41 14 = A (q + 1) := x_sk_u h4 (by rw [(x6 f0).2.2.2.2]; exact sk)
    rw [ej] at h5
    have tr := x_tk_mk (x3.2.2.1 (q + 1) (by omega) nn) h5
    have z3 := h3 41 3 (by omega)
    have z16 := h3 41 16 (by omega)
    have z17 := h3 41 17 (by omega)
    exact hQ f0 _ (fr_N.M h3) ⟨by rw [z3]; exact x1, by rw [e43]; exact x2, by rw [e43]; exact x3, by omega, by omega, by omega, fun _ => ⟨by rw [z16]; exact (x6 f0).1, by rw [z17]; exact (x6 f0).2.1, tr.2, ej, tr.1.symm⟩, fun z => absurd rfl z⟩
theorem ct_201 {d : Nat} {m : aM} {Q : aO → aM → Prop} {n : Int} {K A V E : Int → Int} {N q f p : Int} (hd : 1 ≤ d) (hx : mTx m n K A V E N q f p) {c : Int} (hc : 1 ≤ c ∧ c ≤ 5) (hQ : ∀ m', fr_M m m' → mTx m' n K A V E N q (if f = 0 then (if K q = 72 then 1 else c) else f) (if f = 0 then A q else p) → Q (.inl none) m') : am_wpc am_G am_T d 201 [aR 41, aI c] m Q := by
  obtain ⟨x1, x2, x3, x4, x5, x55, x6, x7⟩ := id hx
  have x6a := fun z => (x6 z).1
  have x7a := fun z => (x7 z).1
  refine am_in rfl hd (fun d hd => ?_)
  refine am_go 400 [] (am_wpc_cm _ _ _) wf_201 ?_
  refine And.intro (rfl) ?_
  refine And.intro (fun h1 => ?_) (fun h1 => ?_)
  · have f0 : f ≠ 0 := fun z => by have := x6a z; omega
    exact hQ _ (fr_M.rfl m) (by rw [if_neg f0, if_neg f0]; exact hx)
  · refine And.intro (⟨rfl, by first | omega | (simp only [mS_iff, eq_self, Int.reduceEq, true_and, and_true, false_and, and_false, and_self, ↓reduceIte]; omega) | (simp only [mS_iff, eq_self, Int.reduceEq, true_and, and_true, false_and, and_false, and_self, ↓reduceIte] at *; omega)⟩) ?_
    refine And.intro (rfl) ?_
    refine And.intro (fun h2 => ?_) (fun h2 => ?_)
    · replace h2 : (m 41 13) ≠ 4 := h2
      refine And.intro (rfl) ?_
      refine And.intro (rfl) ?_
      refine And.intro (rfl) ?_
      have f0 : f = 0 := by
        by_cases z : f = 0
        · exact z
        · have := x7a z; omega
      obtain ⟨y1, y2, y3, y4, y5⟩ := x6 f0
      have y6 := y3.1
      refine hQ _ (fun r j a => by rw [mS_iff, if_neg (by omega), mS_iff, if_neg (by omega), mS_iff, if_neg (by omega)]) ?_
      rw [if_pos f0, if_pos f0]
      refine ⟨x1, x2, x3, x4, by omega, Or.inr rfl, fun z => by omega, fun _ => ⟨rfl, ?_, ?_⟩⟩
      · show c = if K q = 72 then 1 else c
        first | rw [if_pos (by omega)] | rw [if_neg (by omega)]
      · show m 41 14 = A q
        exact y4
    · replace h2 : (m 41 13) = 4 := h2
      refine And.intro (rfl) ?_
      refine And.intro (rfl) ?_
      refine And.intro (rfl) ?_
      have f0 : f = 0 := by
        by_cases z : f = 0
        · exact z
        · have := x7a z; omega
      obtain ⟨y1, y2, y3, y4, y5⟩ := x6 f0
      have y6 := y3.1
      refine hQ _ (fun r j a => by rw [mS_iff, if_neg (by omega), mS_iff, if_neg (by omega), mS_iff, if_neg (by omega)]) ?_
      rw [if_pos f0, if_pos f0]
      refine ⟨x1, x2, x3, x4, by omega, Or.inr rfl, fun z => by omega, fun _ => ⟨rfl, ?_, ?_⟩⟩
      · show 1 = if K q = 72 then 1 else c
        first | rw [if_pos (by omega)] | rw [if_neg (by omega)]
      · show m 41 14 = A q
        exact y4
