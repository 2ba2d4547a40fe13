/-! needs: b11 -/
/-! CLAUSES, plain: the codes of faults are not 0 -/
def okE (f : aD) : Prop := ∀ w c q, f w = .inl (c, q) → 1 ≤ c ∧ c ≤ 4
theorem okE_num (v : Int) : okE (d_num v) := fun w c q e => by cases e
theorem okE_pl {s : Int} : okE (d_pl s) := fun w c q e => by
  unfold d_pl at e
  split at e
  · cases e
  · split at e <;> cases e
theorem d_bd_j {r : (Int × Int) ⊕ (Int × Int)} {g : Int → Int → (Int × Int) ⊕ (Int × Int)} {z : Int × Int} (h : d_bd r g = .inl z) : r = .inl z ∨ ∃ t v, r = .inr (t, v) ∧ g t v = .inl z := by
  rcases r with e | ⟨t, v⟩
  · exact Or.inl h
  · exact Or.inr ⟨t, v, Eq.refl _, h⟩
theorem c1_e {k a c q : Int} (e : (Sum.inl (k, a) : (Int × Int) ⊕ (Int × Int)) = .inl (c, q)) (h : 1 ≤ k ∧ k ≤ 4) : 1 ≤ c ∧ c ≤ 4 := by
  injection e with e; injection e with e1 e2; omega
theorem d_my_e {a x c q : Int} (e : d_my a x = .inl (c, q)) : 1 ≤ c ∧ c ≤ 4 := by
  unfold d_my at e
  split at e
  · exact c1_e e (by omega)
  · cases e
theorem okE_c1 {w : Int → Int} {a s t v c q : Int} (e : d_c1 w a s t v = .inl (c, q)) : 1 ≤ c ∧ c ≤ 4 := by
  have E2 : ∀ {x : Int}, (Sum.inl (2, x) : (Int × Int) ⊕ (Int × Int)) = .inl (c, q) → 1 ≤ c ∧ c ≤ 4 := fun e => c1_e e (by omega)
  have E3 : ∀ {x : Int}, (Sum.inl (3, x) : (Int × Int) ⊕ (Int × Int)) = .inl (c, q) → 1 ≤ c ∧ c ≤ 4 := fun e => c1_e e (by omega)
  have E1 : ∀ {x : Int}, (Sum.inl (1, x) : (Int × Int) ⊕ (Int × Int)) = .inl (c, q) → 1 ≤ c ∧ c ≤ 4 := fun e => c1_e e (by omega)
  unfold d_c1 at e
  by_cases h51 : s = 51
  · rw [if_pos h51] at e
    split at e
    · cases e
    · exact E2 e
  rw [if_neg h51] at e
  by_cases h52 : s = 145
  · rw [if_pos h52] at e
    split at e
    · cases e
    · exact E2 e
  rw [if_neg h52] at e
  by_cases h55 : s = 55
  · rw [if_pos h55] at e
    split at e
    · split at e
      · cases e
      · exact E3 e
    · exact E2 e
  rw [if_neg h55] at e
  by_cases h56 : s = 56
  · rw [if_pos h56] at e
    split at e
    · split at e
      · exact E1 e
      · cases e
    · exact E2 e
  rw [if_neg h56] at e
  by_cases h57 : s = 57
  · rw [if_pos h57] at e
    split at e
    · cases e
    · exact E2 e
  rw [if_neg h57] at e
  by_cases h58 : s = 58
  · rw [if_pos h58] at e
    split at e
    · exact d_my_e e
    · exact E2 e
  rw [if_neg h58] at e
  by_cases h59 : s = 59
  · rw [if_pos h59] at e
    by_cases t1 : t = 1
    · rw [if_pos t1] at e; exact d_my_e e
    rw [if_neg t1] at e
    by_cases t2 : t = 2
    · rw [if_pos t2] at e; exact d_my_e e
    rw [if_neg t2] at e
    by_cases t3 : t = 3
    · rw [if_pos t3] at e; exact d_my_e e
    rw [if_neg t3] at e
    exact E2 e
  rw [if_neg h59] at e
  by_cases h60 : s = 60
  · rw [if_pos h60] at e
    split at e
    · cases e
    · exact E2 e
  rw [if_neg h60] at e
  by_cases h61 : s = 61
  · rw [if_pos h61] at e
    split at e
    · cases e
    · exact E2 e
  rw [if_neg h61] at e
  by_cases h62 : s = 62
  · rw [if_pos h62] at e
    split at e
    · exact d_my_e e
    · exact E2 e
  rw [if_neg h62] at e
  by_cases h63 : s = 63
  · rw [if_pos h63] at e
    split at e
    · split at e
      · cases e
      · exact E3 e
    · exact E2 e
  rw [if_neg h63] at e
  by_cases t2 : t = 2
  · rw [if_pos t2] at e; exact d_my_e e
  rw [if_neg t2] at e
  exact E2 e
theorem okE_one {a s : Int} {f : aD} (h : okE f) : okE (d_one a s f) := fun w c q e => by
  rcases d_bd_j e with e | ⟨t, v, e1, e2⟩
  · exact h w c q e
  · exact okE_c1 e2
theorem okE_try {f g : aD} (hg : okE g) : okE (d_try f g) := fun w c q e => by
  rcases hh : f w with z | z
  · rw [d_try_l hh] at e; exact hg w c q e
  · rw [d_try_r hh] at e; cases e
theorem okE_c2 {a k x y c q : Int} (e : d_c2 a k x y = .inl (c, q)) : 1 ≤ c ∧ c ≤ 4 := by
  unfold d_c2 at e
  by_cases h1 : k = 160
  · rw [if_pos h1] at e; cases e
  rw [if_neg h1] at e
  by_cases h2 : k = 143
  · rw [if_pos h2] at e; cases e
  rw [if_neg h2] at e
  by_cases h3 : k = 145
  · rw [if_pos h3] at e; cases e
  rw [if_neg h3] at e
  by_cases h4 : k = 142
  · rw [if_pos h4] at e; cases e
  rw [if_neg h4] at e
  by_cases h5 : y = 0
  · rw [if_pos h5] at e; exact c1_e e (by omega)
  rw [if_neg h5] at e; cases e
theorem okE_two {a k : Int} {f g : aD} (hf : okE f) (hg : okE g) : okE (d_two a k f g) := fun w c q e => by
  rcases d_bd_j e with e | ⟨t, v, e1, e2⟩
  · exact hf w c q e
  split at e2
  · split at e2
    · split at e2
      · cases e2
      · rcases d_bd_j e2 with e | ⟨t, v, e3, e4⟩
        · exact hg w c q e
        · split at e4
          · cases e4
          · exact c1_e e4 (by omega)
    · exact c1_e e2 (by omega)
  · rcases d_bd_j e2 with e | ⟨t2, v2, e3, e4⟩
    · exact hg w c q e
    · split at e4
      · cases e4
      · split at e4
        · exact okE_c2 e4
        · exact c1_e e4 (by omega)
theorem c_bd_i {r : xC} {g : Int → Int → aD → xC} {z : Int × Int × aD} (h : c_bd r g = .inr z) : ∃ q k f, r = .inr (q, k, f) ∧ g q k f = .inr z := by
  rcases r with e | ⟨q, k, f⟩
  · cases h
  · exact ⟨q, k, f, Eq.refl _, h⟩
theorem c_may_i {K A : Int → Int} {u dep q : Int} {r : xC} {z : Int × Int × aD} (h : c_may K A u dep q r = .inr z) : r = .inr z := by
  unfold c_may at h
  split at h
  · split at h
    · cases h
    · exact h
  · cases h
theorem c_pt_i {A : Int → Int} {q k : Int} {r : xC} {z : Int × Int × aD} (h : c_pt A q k r = .inr z) : r = .inr z := by
  unfold c_pt at h
  split at h
  · cases h
  · exact h
theorem c_wt_i {K A : Int → Int} {s q : Int} {r : xC} {z : Int × Int × aD} (h : c_wt K A s q r = .inr z) : r = .inr z := by
  unfold c_wt at h
  split at h
  · exact h
  · cases h
theorem okE_in {q k q' k' : Int} {f g : aD} (e : (Sum.inr (q, k, f) : xC) = .inr (q', k', g)) (h : okE f) : okE g := by
  injection e with e; injection e with e1 e2; injection e2 with e3 e4; rw [← e4]; exact h
/-- the loops: like one another -/
theorem okE_lp {A : Int → Int} {c : Prop} [Decidable c] {q k s : Int} {f : aD} {r : xC} {Y : Int → Int → aD → xC} (hf : okE f) (hr : ∀ q' k' g, r = .inr (q', k', g) → okE g) (hY : ∀ q1 k1 g, okE g → ∀ q' k' h, Y q1 k1 g = .inr (q', k', h) → okE h) {q' k' : Int} {g : aD} (e : (if c then c_pt A q k (c_bd r (fun q1 k1 g => Y q1 k1 (d_two (A q) s f g))) else .inr (q, k, f)) = .inr (q', k', g)) : okE g := by
  split at e
  · obtain ⟨q1, k1, f1, e1, e2⟩ := c_bd_i (c_pt_i e)
    exact hY q1 k1 _ (okE_two hf (hr _ _ _ e1)) _ _ _ e2
  · exact okE_in e hf
theorem okE_x {K A V : Int → Int} : ∀ (n : Nat) (j dep q k : Int) (f : aD), okE f → ∀ q' k' g, c_x K A V n j dep q k f = .inr (q', k', g) → okE g := by
  intro n
  induction n with
  | zero => intro j dep q k f _ q' k' g h; cases h
  | succ n ih =>
    intro j dep q k f hf q' k' g h
    have h : c_st K A V (c_x K A V n) j dep q k f = .inr (q', k', g) := h
    unfold c_st at h
    by_cases j0 : j = 0
    · rw [if_pos j0] at h
      obtain ⟨q1, k1, f1, e1, e2⟩ := c_bd_i (c_may_i h)
      exact ih _ _ _ _ _ (ih _ _ _ _ _ hf _ _ _ e1) _ _ _ e2
    rw [if_neg j0] at h
    by_cases j1 : j = 1
    · rw [if_pos j1] at h
      exact okE_lp hf (fun _ _ _ e => ih _ _ _ _ _ hf _ _ _ e) (fun _ _ _ z _ _ _ e => ih _ _ _ _ _ z _ _ _ e) h
    rw [if_neg j1] at h
    by_cases j2 : j = 2
    · rw [if_pos j2] at h
      obtain ⟨q1, k1, f1, e1, e2⟩ := c_bd_i h
      exact ih _ _ _ _ _ (ih _ _ _ _ _ hf _ _ _ e1) _ _ _ e2
    rw [if_neg j2] at h
    by_cases j3 : j = 3
    · rw [if_pos j3] at h
      exact okE_lp hf (fun _ _ _ e => ih _ _ _ _ _ hf _ _ _ e) (fun _ _ _ z _ _ _ e => ih _ _ _ _ _ z _ _ _ e) h
    rw [if_neg j3] at h
    by_cases j4 : j = 4
    · rw [if_pos j4] at h
      replace h := c_may_i h
      split at h
      · obtain ⟨q1, k1, f1, e1, e2⟩ := c_bd_i (c_pt_i h)
        exact okE_in e2 (okE_one (ih _ _ _ _ _ hf _ _ _ e1))
      · obtain ⟨q1, k1, f1, e1, e2⟩ := c_bd_i h
        split at e2
        · obtain ⟨q2, k2, f2, e3, e4⟩ := c_bd_i (c_pt_i e2)
          exact okE_in e4 (okE_two (ih _ _ _ _ _ hf _ _ _ e1) (ih _ _ _ _ _ hf _ _ _ e3))
        · exact okE_in e2 (ih _ _ _ _ _ hf _ _ _ e1)
    rw [if_neg j4] at h
    by_cases j5 : j = 5
    · rw [if_pos j5] at h
      obtain ⟨q1, k1, f1, e1, e2⟩ := c_bd_i h
      exact ih _ _ _ _ _ (ih _ _ _ _ _ hf _ _ _ e1) _ _ _ e2
    rw [if_neg j5] at h
    by_cases j6 : j = 6
    · rw [if_pos j6] at h
      exact okE_lp hf (fun _ _ _ e => ih _ _ _ _ _ hf _ _ _ e) (fun _ _ _ z _ _ _ e => ih _ _ _ _ _ z _ _ _ e) h
    rw [if_neg j6] at h
    by_cases j7 : j = 7
    · rw [if_pos j7] at h
      obtain ⟨q1, k1, f1, e1, e2⟩ := c_bd_i h
      exact ih _ _ _ _ _ (ih _ _ _ _ _ hf _ _ _ e1) _ _ _ e2
    rw [if_neg j7] at h
    by_cases j8 : j = 8
    · rw [if_pos j8] at h
      exact okE_lp hf (fun _ _ _ e => ih _ _ _ _ _ hf _ _ _ e) (fun _ _ _ z _ _ _ e => ih _ _ _ _ _ z _ _ _ e) h
    rw [if_neg j8] at h
    replace h := c_may_i h
    split at h
    · obtain ⟨q1, k1, f1, e1, e2⟩ := c_bd_i h
      exact okE_in (c_wt_i e2) (ih _ _ _ _ _ hf _ _ _ e1)
    · replace h := c_pt_i h
      split at h
      · exact okE_in h (okE_num _)
      · split at h
        · exact okE_in h okE_pl
        · split at h
          · obtain ⟨q1, k1, f1, e1, e2⟩ := c_bd_i h
            exact okE_in e2 (okE_one (ih _ _ _ _ _ hf _ _ _ e1))
          · split at h
            · obtain ⟨q1, k1, f1, e1, e2⟩ := c_bd_i h
              obtain ⟨q2, k2, f2, e3, e4⟩ := c_bd_i (c_wt_i e2)
              exact okE_in e4 (okE_try (ih _ _ _ _ _ hf _ _ _ e3))
            · obtain ⟨q1, k1, f1, e1, e2⟩ := c_bd_i (c_wt_i h)
              exact okE_in (c_wt_i e2) (okE_one (ih _ _ _ _ _ hf _ _ _ e1))
