/-! needs: c10p -/
/-! CLAUSES, plain: the place of a fault is that of a token -/
def okC (A : Int → Int) (N q : Int) (r : xC) : Prop := (∀ c p, r = .inl (c, p) → ∃ t, (0 ≤ t ∧ t < N) ∧ p = A t) ∧ (∀ q2 k f, r = .inr (q2, k, f) → q ≤ q2 ∧ q2 < N)
theorem okC.e {A : Int → Int} {N q t c : Int} (h : 0 ≤ t ∧ t < N) : okC A N q (.inl (c, A t)) := ⟨fun c p e => (by injection e with e; injection e with e1 e2; exact ⟨t, h, e2.symm⟩), fun q2 k f e => (by cases e)⟩
theorem okC.v {A : Int → Int} {N q q2 k : Int} {f : aD} (h : q ≤ q2 ∧ q2 < N) : okC A N q (.inr (q2, k, f)) := ⟨fun c p e => (by cases e), fun x b g e => (by injection e with e; injection e with e1 e2; omega)⟩
theorem okC.b {A : Int → Int} {N q : Int} {r : xC} {g : Int → Int → aD → xC} (h : okC A N q r) (k : ∀ q2 a f, r = .inr (q2, a, f) → q ≤ q2 → q2 < N → okC A N q2 (g q2 a f)) : okC A N q (c_bd r g) := by
  rcases r with ⟨c, p⟩ | ⟨q2, a, f⟩
  · obtain ⟨t, h1, h2⟩ := h.1 c p rfl
    show okC A N q (.inl (c, p))
    rw [h2]
    exact okC.e h1
  · have z := h.2 q2 a f rfl
    have y := k q2 a f rfl z.1 z.2
    exact ⟨y.1, fun x b g e => by have := y.2 x b g e; omega⟩
theorem okC.w {A : Int → Int} {N q q0 : Int} {r : xC} (h : okC A N q r) (e : q0 ≤ q) : okC A N q0 r := ⟨h.1, fun x b f z => by have := h.2 x b f z; omega⟩
theorem okC_may {K A : Int → Int} {N u dep q : Int} {r : xC} (h : 0 ≤ q ∧ q < N) (k : c_beg (K q) → okC A N q r) : okC A N q (c_may K A u dep q r) := by
  unfold c_may
  split
  · split
    · exact okC.e h
    · exact k (by rename_i a _; exact a.1)
  · exact okC.e h
theorem okC_pt {A : Int → Int} {N q k : Int} {r : xC} {q0 : Int} (h : 0 ≤ q ∧ q < N) (g : okC A N q0 r) : okC A N q0 (c_pt A q k r) := by
  unfold c_pt
  split
  · exact okC.e h
  · exact g
theorem okC_wt {K A : Int → Int} {N s q : Int} {r : xC} (h : 0 ≤ q ∧ q < N) (g : K q = s → okC A N q r) : okC A N q (c_wt K A s q r) := by
  unfold c_wt
  split
  · exact g (by assumption)
  · exact okC.e h
theorem okC_x {K A V : Int → Int} {N : Int} (hT : xT K A V N) : ∀ (n : Nat) (j dep q k : Int) (f : aD), (0 ≤ q ∧ q < N) → okC A N q (c_x K A V n j dep q k f) := by
  intro n
  induction n with
  | zero => intro j dep q k f h; exact okC.e h
  | succ n ih =>
    intro j dep q k f h
    show okC A N q (c_st K A V (c_x K A V n) j dep q k f)
    have nx : K q ≠ 71 → K q ≠ 72 → q + 1 < N := fun a b => hT.nx h.1 h.2 a b
    unfold c_st
    by_cases j0 : j = 0
    · rw [if_pos j0]
      exact okC_may h (fun _ => (ih _ _ _ _ _ h).b fun q2 a g _ u v => ih _ _ _ _ _ ⟨by omega, v⟩)
    rw [if_neg j0]
    by_cases j1 : j = 1
    · rw [if_pos j1]
      split
      · have t := nx (by omega) (by omega)
        exact okC_pt h (((ih _ _ _ _ _ ⟨by omega, t⟩).b fun q2 a g _ u v => ih _ _ _ _ _ ⟨by omega, v⟩).w (by omega))
      · exact okC.v (by omega)
    rw [if_neg j1]
    by_cases j2 : j = 2
    · rw [if_pos j2]
      exact (ih _ _ _ _ _ h).b fun q2 a g _ u v => ih _ _ _ _ _ ⟨by omega, v⟩
    rw [if_neg j2]
    by_cases j3 : j = 3
    · rw [if_pos j3]
      split
      · have t := nx (by omega) (by omega)
        exact okC_pt h (((ih _ _ _ _ _ ⟨by omega, t⟩).b fun q2 a g _ u v => ih _ _ _ _ _ ⟨by omega, v⟩).w (by omega))
      · exact okC.v (by omega)
    rw [if_neg j3]
    by_cases j4 : j = 4
    · rw [if_pos j4]
      refine okC_may h (fun _ => ?_)
      split
      · have t := nx (by omega) (by omega)
        exact okC_pt h (((ih _ _ _ _ _ ⟨by omega, t⟩).b fun q2 a g _ u v => okC.v (by omega)).w (by omega))
      · refine (ih _ _ _ _ _ h).b fun q2 a g _ u v => ?_
        split
        · have t := hT.nx (q := q2) (by omega) v (by omega) (by omega)
          exact okC_pt ⟨by omega, v⟩ (((ih _ _ _ _ _ ⟨by omega, t⟩).b fun q3 a g _ x y => okC.v (by omega)).w (by omega))
        · exact okC.v (by omega)
    rw [if_neg j4]
    by_cases j5 : j = 5
    · rw [if_pos j5]
      exact (ih _ _ _ _ _ h).b fun q2 a g _ u v => ih _ _ _ _ _ ⟨by omega, v⟩
    rw [if_neg j5]
    by_cases j6 : j = 6
    · rw [if_pos j6]
      split
      · have t := nx (by omega) (by omega)
        exact okC_pt h (((ih _ _ _ _ _ ⟨by omega, t⟩).b fun q2 a g _ u v => ih _ _ _ _ _ ⟨by omega, v⟩).w (by omega))
      · exact okC.v (by omega)
    rw [if_neg j6]
    by_cases j7 : j = 7
    · rw [if_pos j7]
      exact (ih _ _ _ _ _ h).b fun q2 a g _ u v => ih _ _ _ _ _ ⟨by omega, v⟩
    rw [if_neg j7]
    by_cases j8 : j = 8
    · rw [if_pos j8]
      split
      · have t := nx (by omega) (by omega)
        exact okC_pt h (((ih _ _ _ _ _ ⟨by omega, t⟩).b fun q2 a g _ u v => ih _ _ _ _ _ ⟨by omega, v⟩).w (by omega))
      · exact okC.v (by omega)
    rw [if_neg j8]
    refine okC_may h (fun bg => ?_)
    have bg1 : K q = 51 ∨ K q = 145 ∨ K q = 70 ∨ K q = 140 ∨ (52 ≤ K q ∧ K q ≤ 65) := bg
    have t := nx (by omega) (by omega)
    split
    · refine ((ih _ _ _ _ _ ⟨by omega, t⟩).b fun q2 a g _ u v => okC_wt ⟨by omega, v⟩ (fun z => ?_)).w (by omega)
      have := hT.nx (q := q2) (by omega) v (by omega) (by omega)
      exact okC.v (by omega)
    · refine okC_pt h ?_
      split
      · exact okC.v (by omega)
      · split
        · exact okC.v (by omega)
        · split
          · exact ((ih _ _ _ _ _ ⟨by omega, t⟩).b fun q2 a g _ u v => okC.v (by omega)).w (by omega)
          · split
            · refine ((ih _ _ _ _ _ ⟨by omega, t⟩).b fun q2 a g _ u v => okC_wt ⟨by omega, v⟩ (fun z => ?_)).w (by omega)
              have t2 := hT.nx (q := q2) (by omega) v (by omega) (by omega)
              exact ((ih _ _ _ _ _ ⟨by omega, t2⟩).b fun q3 a g _ x y => okC.v (by omega)).w (by omega)
            · refine (okC_wt ⟨by omega, t⟩ (fun z => ?_)).w (by omega)
              have t2 := hT.nx (q := q + 1) (by omega) t (by omega) (by omega)
              refine ((ih _ _ _ _ _ ⟨by omega, t2⟩).b fun q2 a g _ u v => okC_wt ⟨by omega, v⟩ (fun z => ?_)).w (by omega)
              have := hT.nx (q := q2) (by omega) v (by omega) (by omega)
              exact okC.v (by omega)
theorem c_x_b {K A V : Int → Int} {N : Int} (hT : xT K A V N) {n : Nat} {j dep q k c p : Int} {f : aD} (h : 0 ≤ q ∧ q < N) (e : c_x K A V n j dep q k f = .inl (c, p)) : 0 ≤ p ∧ p ≤ 1200 := by
  obtain ⟨t, h1, h2⟩ := (okC_x hT n j dep q k f h).1 c p e
  have := (hT.2.2.2 t h1.1 h1.2).2.1
  rw [h2]
  omega
