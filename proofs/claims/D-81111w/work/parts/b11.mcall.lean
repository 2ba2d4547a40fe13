/-! needs: b10 -/
/-! CONTRACTS: parts of clauses of the reference: what they say; by tools/genb11.py -/
set_option maxRecDepth 100000
set_option maxHeartbeats 8000000
/-- working a part of the reference: its own places of what is worked change -/
def fr_Z (m m' : aM) : Prop := ∀ x j, (x ≠ 41 ∨ j < 57 ∨ 60 < j) → m' x j = m x j
theorem fr_Z.rfl (m : aM) : fr_Z m m := fun _ _ _ => Eq.refl _
theorem fr_Z.trans {a b c : aM} (h : fr_Z a b) (g : fr_Z b c) : fr_Z a c := fun x j u => (g x j u).trans (h x j u)
theorem fr_Z.S {a b : aM} {j v : Int} (h : fr_Z a b) (hj : 57 ≤ j ∧ j ≤ 60) : fr_Z a (mS b 41 j v) := fun x i u => by rw [mS_iff, if_neg (by omega)]; exact h x i u
/-- a clause's values are there -/
def okV (w : Int → Int) (s v : Int) : Prop := s = 0 ∨ (s = 1 ∧ v = 0) ∨ ((s = 2 ∨ s = 3) ∧ 0 ≤ v ∧ v < w 5)
def okD (f : aD) : Prop := ∀ w, okRow w → ∀ s v, f w = .inr (s, v) → okV w s v
theorem okD_num (v : Int) : okD (d_num v) := fun w _ s x e => by
  unfold d_num at e
  simp at e
  exact Or.inl e.1.symm
theorem okD_pl {k : Int} : okD (d_pl k) := fun w _ s x e => by
  unfold d_pl at e
  unfold okV
  split at e
  · simp at e; omega
  · split at e <;> (simp at e; omega)
theorem okD_try {f g : aD} (hf : okD f) (hg : okD g) : okD (d_try f g) := fun w o s x e => by
  rcases hh : f w with z | z
  · rw [d_try_l hh] at e; exact hg w o s x e
  · rw [d_try_r hh] at e; exact hf w o s x (hh.trans e)
theorem d_bd_i {r : (Int × Int) ⊕ (Int × Int)} {g : Int → Int → (Int × Int) ⊕ (Int × Int)} {z : Int × Int} (h : d_bd r g = .inr z) : ∃ t v, r = .inr (t, v) ∧ g t v = .inr z := by
  rcases r with e | ⟨t, v⟩
  · cases h
  · exact ⟨t, v, Eq.refl _, h⟩
theorem d_my_i {a x s v : Int} (h : d_my a x = .inr (s, v)) : s = 0 := by
  unfold d_my at h
  split at h
  · cases h
  · simp at h; exact h.1.symm
theorem c1_a {c : Prop} [Decidable c] {x s v : Int} {y : Int × Int} (e : (if c then (Sum.inr (0, x) : (Int × Int) ⊕ (Int × Int)) else .inl y) = .inr (s, v)) : s = 0 := by
  split at e
  · injection e with e; injection e with e1 e2; omega
  · cases e
theorem c1_b {c : Prop} [Decidable c] {a x s v : Int} {r : (Int × Int) ⊕ (Int × Int)} (e : (if c then d_my a x else r) = .inr (s, v)) (h : r = .inr (s, v) → s = 0) : s = 0 := by
  split at e
  · exact d_my_i e
  · exact h e
theorem c1_l {y : Int × Int} {s v : Int} (e : (Sum.inl y : (Int × Int) ⊕ (Int × Int)) = .inr (s, v)) : s = 0 := by cases e
theorem okD_one {a k : Int} {f : aD} (hf : okD f) : okD (d_one a k f) := fun w o s x e => by
  obtain ⟨t, v, e1, e2⟩ := d_bd_i e
  have h := hf w o t v e1
  unfold d_c1 at e2
  unfold okV at h ⊢
  by_cases h51 : k = 51
  · rw [if_pos h51] at e2
    exact Or.inl (c1_a e2)
  rw [if_neg h51] at e2
  by_cases h145 : k = 145
  · rw [if_pos h145] at e2
    exact Or.inl (c1_a e2)
  rw [if_neg h145] at e2
  by_cases h55 : k = 55
  · rw [if_pos h55] at e2
    split at e2
    · split at e2
      · injection e2 with e3; injection e3 with e4 e5; omega
      · cases e2
    · cases e2
  rw [if_neg h55] at e2
  by_cases h56 : k = 56
  · rw [if_pos h56] at e2
    split at e2
    · split at e2
      · cases e2
      · injection e2 with e3; injection e3 with e4 e5; omega
    · cases e2
  rw [if_neg h56] at e2
  by_cases h57 : k = 57
  · rw [if_pos h57] at e2
    exact Or.inl (c1_a e2)
  rw [if_neg h57] at e2
  by_cases h58 : k = 58
  · rw [if_pos h58] at e2
    exact Or.inl (c1_b e2 c1_l)
  rw [if_neg h58] at e2
  by_cases h59 : k = 59
  · rw [if_pos h59] at e2
    exact Or.inl (c1_b e2 (fun e2 => c1_b e2 (fun e2 => c1_b e2 c1_l)))
  rw [if_neg h59] at e2
  by_cases h60 : k = 60
  · rw [if_pos h60] at e2
    exact Or.inl (c1_a e2)
  rw [if_neg h60] at e2
  by_cases h61 : k = 61
  · rw [if_pos h61] at e2
    exact Or.inl (c1_a e2)
  rw [if_neg h61] at e2
  by_cases h62 : k = 62
  · rw [if_pos h62] at e2
    exact Or.inl (c1_b e2 c1_l)
  rw [if_neg h62] at e2
  by_cases h63 : k = 63
  · rw [if_pos h63] at e2
    split at e2
    · exact Or.inl (c1_a e2)
    · cases e2
  rw [if_neg h63] at e2
  exact Or.inl (c1_b e2 c1_l)
theorem okD_c2 {a k x y : Int} {w : Int → Int} {s v : Int} (e : d_c2 a k x y = .inr (s, v)) : okV w s v := by
  unfold d_c2 at e
  unfold okV
  repeat' split at e
  all_goals first | (cases e; done) | (simp at e; omega)
theorem okD_two {a k : Int} {f g : aD} : okD (d_two a k f g) := fun w o s x e => by
  obtain ⟨t, v, e1, e2⟩ := d_bd_i e
  split at e2
  · split at e2
    · split at e2
      · simp at e2; exact Or.inl (by omega)
      · obtain ⟨t2, v2, e3, e4⟩ := d_bd_i e2
        split at e4
        · simp at e4; exact Or.inl (by omega)
        · cases e4
    · cases e2
  · obtain ⟨t2, v2, e3, e4⟩ := d_bd_i e2
    split at e4
    · simp at e4; exact Or.inl (by omega)
    · split at e4
      · exact okD_c2 e4
      · cases e4
/-- part t says f: p parts -/
def mSy (m : aM) (t : Int) (f : aD) (p : Int) : Prop := ∀ (d : Nat) (Q : aO → aM → Prop) (a : Int) (w : Int → Int), 2 * p + 10 ≤ (d : Int) → mRow m a w → okRow w → m 41 61 = a → m 41 59 = 0 → (∀ s v, f w = .inr (s, v) → ∀ m', fr_Z m m' → m' 41 57 = s → m' 41 58 = v → m' 41 59 = 0 → Q (.inl none) m') → (∀ c q, f w = .inl (c, q) → ∀ m', fr_Z m m' → m' 41 59 = c → 1 ≤ c → m' 41 60 = q → Q (.inl none) m') → am_wpc am_G am_T d 299 [aR 41, aI t] m Q
/-- ... on every memory that keeps the parts lo .. hi - 1 -/
def mKp (m m' : aM) (lo hi : Int) : Prop := ∀ x j, 71 ≤ x → x ≤ 74 → lo ≤ j → j < hi → m' x j = m x j
def mNd (m : aM) (lo hi t : Int) (f : aD) (p : Int) : Prop := okD f ∧ 1 ≤ p ∧ (0 ≤ lo ∧ lo ≤ t ∧ t < hi ∧ hi ≤ 1260) ∧ ∀ m', mKp m m' lo hi → mSy m' t f p
theorem mKp.rfl (m : aM) (lo hi : Int) : mKp m m lo hi := fun _ _ _ _ _ _ => Eq.refl _
theorem mNd.keep {m m' : aM} {lo hi t p : Int} {f : aD} (h : mNd m lo hi t f p) (k : mKp m m' lo hi) : mNd m' lo hi t f p := ⟨h.1, h.2.1, h.2.2.1, fun m2 g => h.2.2.2 m2 (fun x j a b c e => (g x j a b c e).trans (k x j a b c e))⟩
theorem mNd.hi {m : aM} {lo hi hi' t p : Int} {f : aD} (h : mNd m lo hi t f p) (a : hi ≤ hi') (b : hi' ≤ 1260) : mNd m lo hi' t f p := ⟨h.1, h.2.1, ⟨h.2.2.1.1, h.2.2.1.2.1, by have := h.2.2.1; omega, b⟩, fun m2 g => h.2.2.2 m2 (fun x j u v c e => g x j u v c (by omega))⟩
theorem mNd.wd {m : aM} {lo hi t p p' : Int} {f : aD} (h : mNd m lo hi t f p) (e : p = p') : mNd m lo hi t f p' := e ▸ h
theorem fr_Z.kp {m m' : aM} (h : fr_Z m m') (lo hi : Int) : mKp m m' lo hi := fun x j a b _ _ => h x j (by omega)
theorem fr_Z.row {m m' : aM} {a : Int} {w : Int → Int} (h : fr_Z m m') (g : mRow m a w) : mRow m' a w := g.keep (fun j => h 42 j (by omega))
theorem ct_303_0 {d : Nat} {m : aM} {Q : aO → aM → Prop} {a t s v : Int} {w : Int → Int} (hd : 4 ≤ d) (hA : mRow m a w) (ok : okRow w) (ab : m 41 61 = a) (h59 : m 41 59 = 0) (ht : 0 ≤ t ∧ t < 1260) (h57 : m 41 57 = s) (h58 : m 41 58 = v) (hv : okV w s v) (hQ : ∀ s' v', d_c1 w (m 74 t) 55 s v = .inr (s', v') → ∀ m', fr_Z m m' → m' 41 57 = s' → m' 41 58 = v' → m' 41 59 = 0 → Q (.inl none) m') (hQe : ∀ c q, d_c1 w (m 74 t) 55 s v = .inl (c, q) → ∀ m', fr_Z m m' → m' 41 59 = c → 1 ≤ c → m' 41 60 = q → Q (.inl none) m') : am_wpc am_G am_T d 303 [aR 41, aI t, aI 0] m Q := by
  subst ab h57 h58
  unfold okV at hv
  have okr := ok.2.2.2.2.2.2.1

  refine am_in rfl hd (fun d hd => ?_)
  refine am_go 400 [] (am_wpc_cm _ _ _) wf_303 ?_
  refine And.intro (rfl) ?_
  refine And.intro (rfl) ?_
  refine And.intro (fun _ => ?_) (fun h => absurd h (by decide))
  refine And.intro (fun h1 => ?_) (fun h1 => ?_)
  · refine And.intro (fun h => absurd h (by decide)) (fun _ => ?_)
    refine And.intro (rfl) ?_
    refine am_in (k := 0) rfl (by omega) (fun d hd => ?_)
    refine am_go 400 [] (am_wpc_cm _ _ _) wf_302 ?_
    refine And.intro (rfl) ?_
    refine And.intro (fun h => absurd h (by omega)) (fun _ => ?_)
    refine And.intro (rfl) ?_
    refine And.intro (rfl) ?_
    refine And.intro (⟨rfl, ht⟩) ?_
    refine And.intro (rfl) ?_
    have SP : d_c1 w (m 74 t) 55 (m 41 57) (m 41 58) = .inl (2, m 74 t) := by
      rw [d_c1_55]
      first | unfold d_my | skip
      repeat' split
      all_goals first | rfl | (simp only [Sum.inr.injEq, Sum.inl.injEq, Prod.mk.injEq, true_and, and_true]; omega) | (exfalso; omega)
    exact hQe _ _ SP _ (((fr_Z.rfl m).S (by omega)).S (by omega)) (by simp only [mS_iff, eq_self, Int.reduceEq, true_and, and_true, false_and, and_false, and_self, ↓reduceIte] <;> first | omega | done) (by omega) (by simp only [mS_iff, eq_self, Int.reduceEq, true_and, and_true, false_and, and_false, and_self, ↓reduceIte] <;> first | omega | done)
  · refine And.intro (fun _ => ?_) (fun h => absurd h (by decide))
    refine And.intro (fun _ => ?_) (fun h => absurd h (by decide))
    refine And.intro (fun h2 => ?_) (fun h2 => ?_)
    · replace h2 := am_lc_lt.mp h2
      refine And.intro (rfl) ?_
      refine am_in (k := 0) rfl (by omega) (fun d hd => ?_)
      refine am_go 400 [] (am_wpc_cm _ _ _) wf_302 ?_
      refine And.intro (rfl) ?_
      refine And.intro (fun h => absurd h (by omega)) (fun _ => ?_)
      refine And.intro (rfl) ?_
      refine And.intro (rfl) ?_
      refine And.intro (⟨rfl, ht⟩) ?_
      refine And.intro (rfl) ?_
      have SP : d_c1 w (m 74 t) 55 (m 41 57) (m 41 58) = .inl (3, m 74 t) := by
        rw [d_c1_55]
        first | unfold d_my | skip
        repeat' split
        all_goals first | rfl | (simp only [Sum.inr.injEq, Sum.inl.injEq, Prod.mk.injEq, true_and, and_true]; omega) | (exfalso; omega)
      exact hQe _ _ SP _ (((fr_Z.rfl m).S (by omega)).S (by omega)) (by simp only [mS_iff, eq_self, Int.reduceEq, true_and, and_true, false_and, and_false, and_self, ↓reduceIte] <;> first | omega | done) (by omega) (by simp only [mS_iff, eq_self, Int.reduceEq, true_and, and_true, false_and, and_false, and_self, ↓reduceIte] <;> first | omega | done)
    · replace h2 := am_lc_ge.mp h2
      refine And.intro (fun h => absurd h (by decide)) (fun _ => ?_)
      refine And.intro (rfl) ?_
      refine And.intro (rfl) ?_
      refine ct_186 (by omega) hA (by omega) (fun v3 h4 => ?_)
      refine And.intro (fun h5 => ?_) (fun h5 => ?_)
      · replace h5 := am_lc_lt.mp h5
        refine And.intro (fun h => absurd h (by decide)) (fun _ => ?_)
        refine And.intro (rfl) ?_
        have SP : d_c1 w (m 74 t) 55 (m 41 57) (m 41 58) = .inr (2, m 41 58) := by
          rw [d_c1_55]
          first | unfold d_my | skip
          repeat' split
          all_goals first | rfl | (simp only [Sum.inr.injEq, Sum.inl.injEq, Prod.mk.injEq, true_and, and_true]; omega) | (exfalso; omega)
        exact hQ _ _ SP _ ((fr_Z.rfl m).S (by omega)) (by simp only [mS_iff, eq_self, Int.reduceEq, true_and, and_true, false_and, and_false, and_self, ↓reduceIte] <;> first | omega | done) (by simp only [mS_iff, eq_self, Int.reduceEq, true_and, and_true, false_and, and_false, and_self, ↓reduceIte] <;> first | omega | done) (by simp only [mS_iff, eq_self, Int.reduceEq, true_and, and_true, false_and, and_false, and_self, ↓reduceIte] <;> first | omega | done)
      · replace h5 := am_lc_ge.mp h5
        refine And.intro (rfl) ?_
        refine am_in (k := 0) rfl (by omega) (fun d hd => ?_)
        refine am_go 400 [] (am_wpc_cm _ _ _) wf_302 ?_
        refine And.intro (rfl) ?_
        refine And.intro (fun h => absurd h (by omega)) (fun _ => ?_)
        refine And.intro (rfl) ?_
        refine And.intro (rfl) ?_
        refine And.intro (⟨rfl, ht⟩) ?_
        refine And.intro (rfl) ?_
        have SP : d_c1 w (m 74 t) 55 (m 41 57) (m 41 58) = .inl (3, m 74 t) := by
          rw [d_c1_55]
          first | unfold d_my | skip
          repeat' split
          all_goals first | rfl | (simp only [Sum.inr.injEq, Sum.inl.injEq, Prod.mk.injEq, true_and, and_true]; omega) | (exfalso; omega)
        exact hQe _ _ SP _ (((fr_Z.rfl m).S (by omega)).S (by omega)) (by simp only [mS_iff, eq_self, Int.reduceEq, true_and, and_true, false_and, and_false, and_self, ↓reduceIte] <;> first | omega | done) (by omega) (by simp only [mS_iff, eq_self, Int.reduceEq, true_and, and_true, false_and, and_false, and_self, ↓reduceIte] <;> first | omega | done)
theorem ct_303_1 {d : Nat} {m : aM} {Q : aO → aM → Prop} {a t s v : Int} {w : Int → Int} (hd : 4 ≤ d) (hA : mRow m a w) (ok : okRow w) (ab : m 41 61 = a) (h59 : m 41 59 = 0) (ht : 0 ≤ t ∧ t < 1260) (h57 : m 41 57 = s) (h58 : m 41 58 = v) (hv : okV w s v) (hQ : ∀ s' v', d_c1 w (m 74 t) 56 s v = .inr (s', v') → ∀ m', fr_Z m m' → m' 41 57 = s' → m' 41 58 = v' → m' 41 59 = 0 → Q (.inl none) m') (hQe : ∀ c q, d_c1 w (m 74 t) 56 s v = .inl (c, q) → ∀ m', fr_Z m m' → m' 41 59 = c → 1 ≤ c → m' 41 60 = q → Q (.inl none) m') : am_wpc am_G am_T d 303 [aR 41, aI t, aI 1] m Q := by
  subst ab h57 h58
  unfold okV at hv
  have okr := ok.2.2.2.2.2.2.1

  refine am_in rfl hd (fun d hd => ?_)
  refine am_go 400 [] (am_wpc_cm _ _ _) wf_303 ?_
  refine And.intro (rfl) ?_
  refine And.intro (rfl) ?_
  refine And.intro (fun h => absurd h (by decide)) (fun _ => ?_)
  refine And.intro (fun _ => ?_) (fun h => absurd h (by decide))
  refine And.intro (fun _ => ?_) (fun h => absurd h (by decide))
  refine And.intro (fun h1 => ?_) (fun h1 => ?_)
  · refine And.intro (fun h => absurd h (by decide)) (fun _ => ?_)
    refine And.intro (rfl) ?_
    refine am_in (k := 0) rfl (by omega) (fun d hd => ?_)
    refine am_go 400 [] (am_wpc_cm _ _ _) wf_302 ?_
    refine And.intro (rfl) ?_
    refine And.intro (fun h => absurd h (by omega)) (fun _ => ?_)
    refine And.intro (rfl) ?_
    refine And.intro (rfl) ?_
    refine And.intro (⟨rfl, ht⟩) ?_
    refine And.intro (rfl) ?_
    have SP : d_c1 w (m 74 t) 56 (m 41 57) (m 41 58) = .inl (2, m 74 t) := by
      rw [d_c1_56]
      first | unfold d_my | skip
      repeat' split
      all_goals first | rfl | (simp only [Sum.inr.injEq, Sum.inl.injEq, Prod.mk.injEq, true_and, and_true]; omega) | (exfalso; omega)
    exact hQe _ _ SP _ (((fr_Z.rfl m).S (by omega)).S (by omega)) (by simp only [mS_iff, eq_self, Int.reduceEq, true_and, and_true, false_and, and_false, and_self, ↓reduceIte] <;> first | omega | done) (by omega) (by simp only [mS_iff, eq_self, Int.reduceEq, true_and, and_true, false_and, and_false, and_self, ↓reduceIte] <;> first | omega | done)
  · refine And.intro (fun _ => ?_) (fun h => absurd h (by decide))
    refine And.intro (fun h => absurd h (by decide)) (fun _ => ?_)
    refine And.intro (fun _ => ?_) (fun h => absurd h (by decide))
    have l3 : am_l2i (m 41 58) = m 41 58 := am_l2i_eq (by omega)
    refine And.intro rfl ?_
    refine And.intro (And.intro (fun h2 => ?_) (And.intro (fun h2 => absurd h2 (by omega)) (And.intro (fun h2 => absurd h2 (by omega)) (And.intro (fun h2 => absurd h2 (by omega)) (And.intro (fun h2 => absurd h2 (by omega)) (And.intro (fun h2 => absurd h2 (by omega)) (And.intro (fun h2 => absurd h2 (by omega)) (True.intro)))))))) (fun h2 => absurd h2 (by omega))
    · refine And.intro (rfl) ?_
      refine And.intro (rfl) ?_
      refine ct_188 (by omega) hA (by omega) (by omega) (fun v3 h4 => ?_)
      rw [l3] at h4
      refine And.intro (fun h5 => ?_) (fun h5 => ?_)
      · refine And.intro (rfl) ?_
        have SP : d_c1 w (m 74 t) 56 (m 41 57) (m 41 58) = .inr (3, m 41 58) := by
          rw [d_c1_56]
          first | unfold d_my | skip
          repeat' split
          all_goals first | rfl | (simp only [Sum.inr.injEq, Sum.inl.injEq, Prod.mk.injEq, true_and, and_true]; omega) | (exfalso; omega)
        exact hQ _ _ SP _ ((fr_Z.rfl m).S (by omega)) (by simp only [mS_iff, eq_self, Int.reduceEq, true_and, and_true, false_and, and_false, and_self, ↓reduceIte] <;> first | omega | done) (by simp only [mS_iff, eq_self, Int.reduceEq, true_and, and_true, false_and, and_false, and_self, ↓reduceIte] <;> first | omega | done) (by simp only [mS_iff, eq_self, Int.reduceEq, true_and, and_true, false_and, and_false, and_self, ↓reduceIte] <;> first | omega | done)
      · refine And.intro (rfl) ?_
        refine am_in (k := 0) rfl (by omega) (fun d hd => ?_)
        refine am_go 400 [] (am_wpc_cm _ _ _) wf_302 ?_
        refine And.intro (rfl) ?_
        refine And.intro (fun h => absurd h (by omega)) (fun _ => ?_)
        refine And.intro (rfl) ?_
        refine And.intro (rfl) ?_
        refine And.intro (⟨rfl, ht⟩) ?_
        refine And.intro (rfl) ?_
        refine And.intro (rfl) ?_
        have SP : d_c1 w (m 74 t) 56 (m 41 57) (m 41 58) = .inl (1, m 74 t) := by
          rw [d_c1_56]
          first | unfold d_my | skip
          repeat' split
          all_goals first | rfl | (simp only [Sum.inr.injEq, Sum.inl.injEq, Prod.mk.injEq, true_and, and_true]; omega) | (exfalso; omega)
        exact hQe _ _ SP _ ((((fr_Z.rfl m).S (by omega)).S (by omega)).S (by omega)) (by simp only [mS_iff, eq_self, Int.reduceEq, true_and, and_true, false_and, and_false, and_self, ↓reduceIte] <;> first | omega | done) (by omega) (by simp only [mS_iff, eq_self, Int.reduceEq, true_and, and_true, false_and, and_false, and_self, ↓reduceIte] <;> first | omega | done)
theorem ct_303_2 {d : Nat} {m : aM} {Q : aO → aM → Prop} {a t s v : Int} {w : Int → Int} (hd : 4 ≤ d) (hA : mRow m a w) (ok : okRow w) (ab : m 41 61 = a) (h59 : m 41 59 = 0) (ht : 0 ≤ t ∧ t < 1260) (h57 : m 41 57 = s) (h58 : m 41 58 = v) (hv : okV w s v) (hQ : ∀ s' v', d_c1 w (m 74 t) 57 s v = .inr (s', v') → ∀ m', fr_Z m m' → m' 41 57 = s' → m' 41 58 = v' → m' 41 59 = 0 → Q (.inl none) m') (hQe : ∀ c q, d_c1 w (m 74 t) 57 s v = .inl (c, q) → ∀ m', fr_Z m m' → m' 41 59 = c → 1 ≤ c → m' 41 60 = q → Q (.inl none) m') : am_wpc am_G am_T d 303 [aR 41, aI t, aI 2] m Q := by
  subst ab h57 h58
  unfold okV at hv
  have okr := ok.2.2.2.2.2.2.1

  refine am_in rfl hd (fun d hd => ?_)
  refine am_go 400 [] (am_wpc_cm _ _ _) wf_303 ?_
  refine And.intro (rfl) ?_
  refine And.intro (rfl) ?_
  refine And.intro (fun h => absurd h (by decide)) (fun _ => ?_)
  refine And.intro (fun _ => ?_) (fun h => absurd h (by decide))
  refine And.intro (fun h => absurd h (by decide)) (fun _ => ?_)
  refine And.intro (fun h => absurd h (by decide)) (fun _ => ?_)
  refine And.intro (fun _ => ?_) (fun h => absurd h (by decide))
  refine And.intro (fun _ => ?_) (fun h => absurd h (by decide))
  refine And.intro (fun h1 => ?_) (fun h1 => ?_)
  · refine And.intro (fun h => absurd h (by decide)) (fun _ => ?_)
    refine And.intro (rfl) ?_
    refine am_in (k := 0) rfl (by omega) (fun d hd => ?_)
    refine am_go 400 [] (am_wpc_cm _ _ _) wf_302 ?_
    refine And.intro (rfl) ?_
    refine And.intro (fun h => absurd h (by omega)) (fun _ => ?_)
    refine And.intro (rfl) ?_
    refine And.intro (rfl) ?_
    refine And.intro (⟨rfl, ht⟩) ?_
    refine And.intro (rfl) ?_
    have SP : d_c1 w (m 74 t) 57 (m 41 57) (m 41 58) = .inl (2, m 74 t) := by
      rw [d_c1_57]
      first | unfold d_my | skip
      repeat' split
      all_goals first | rfl | (simp only [Sum.inr.injEq, Sum.inl.injEq, Prod.mk.injEq, true_and, and_true]; omega) | (exfalso; omega)
    exact hQe _ _ SP _ (((fr_Z.rfl m).S (by omega)).S (by omega)) (by simp only [mS_iff, eq_self, Int.reduceEq, true_and, and_true, false_and, and_false, and_self, ↓reduceIte] <;> first | omega | done) (by omega) (by simp only [mS_iff, eq_self, Int.reduceEq, true_and, and_true, false_and, and_false, and_self, ↓reduceIte] <;> first | omega | done)
  · refine And.intro (fun _ => ?_) (fun h => absurd h (by decide))
    refine And.intro (fun h => absurd h (by decide)) (fun _ => ?_)
    refine And.intro (fun _ => ?_) (fun h => absurd h (by decide))
    have l3 : am_l2i (m 41 58) = m 41 58 := am_l2i_eq (by omega)
    refine And.intro rfl ?_
    refine And.intro (And.intro (fun h2 => absurd h2 (by omega)) (And.intro (fun h2 => ?_) (And.intro (fun h2 => absurd h2 (by omega)) (And.intro (fun h2 => absurd h2 (by omega)) (And.intro (fun h2 => absurd h2 (by omega)) (And.intro (fun h2 => absurd h2 (by omega)) (And.intro (fun h2 => absurd h2 (by omega)) (True.intro)))))))) (fun h2 => absurd h2 (by omega))
    · refine And.intro (rfl) ?_
      refine And.intro (rfl) ?_
      refine ct_186 (by omega) hA (by omega) (fun v3 h4 => ?_)
      refine And.intro (rfl) ?_
      refine am_in (k := 0) rfl (by omega) (fun d hd => ?_)
      refine am_go 400 [] (am_wpc_cm _ _ _) wf_301 ?_
      refine And.intro (rfl) ?_
      refine And.intro (rfl) ?_
      have SP : d_c1 w (m 74 t) 57 (m 41 57) (m 41 58) = .inr (0, v3) := by
        rw [d_c1_57]
        first | unfold d_my | skip
        repeat' split
        all_goals first | rfl | (simp only [Sum.inr.injEq, Sum.inl.injEq, Prod.mk.injEq, true_and, and_true]; omega) | (exfalso; omega)
      exact hQ _ _ SP _ (((fr_Z.rfl m).S (by omega)).S (by omega)) (by simp only [mS_iff, eq_self, Int.reduceEq, true_and, and_true, false_and, and_false, and_self, ↓reduceIte] <;> first | omega | done) (by simp only [mS_iff, eq_self, Int.reduceEq, true_and, and_true, false_and, and_false, and_self, ↓reduceIte] <;> first | omega | done) (by simp only [mS_iff, eq_self, Int.reduceEq, true_and, and_true, false_and, and_false, and_self, ↓reduceIte] <;> first | omega | done)
theorem ct_303_3 {d : Nat} {m : aM} {Q : aO → aM → Prop} {a t s v : Int} {w : Int → Int} (hd : 4 ≤ d) (hA : mRow m a w) (ok : okRow w) (ab : m 41 61 = a) (h59 : m 41 59 = 0) (ht : 0 ≤ t ∧ t < 1260) (h57 : m 41 57 = s) (h58 : m 41 58 = v) (hv : okV w s v) (hQ : ∀ s' v', d_c1 w (m 74 t) 58 s v = .inr (s', v') → ∀ m', fr_Z m m' → m' 41 57 = s' → m' 41 58 = v' → m' 41 59 = 0 → Q (.inl none) m') (hQe : ∀ c q, d_c1 w (m 74 t) 58 s v = .inl (c, q) → ∀ m', fr_Z m m' → m' 41 59 = c → 1 ≤ c → m' 41 60 = q → Q (.inl none) m') : am_wpc am_G am_T d 303 [aR 41, aI t, aI 3] m Q := by
  subst ab h57 h58
  unfold okV at hv
  have okr := ok.2.2.2.2.2.2.1

  refine am_in rfl hd (fun d hd => ?_)
  refine am_go 400 [] (am_wpc_cm _ _ _) wf_303 ?_
  refine And.intro (rfl) ?_
  refine And.intro (rfl) ?_
  refine And.intro (fun h => absurd h (by decide)) (fun _ => ?_)
  refine And.intro (fun _ => ?_) (fun h => absurd h (by decide))
  refine And.intro (fun h => absurd h (by decide)) (fun _ => ?_)
  refine And.intro (fun h => absurd h (by decide)) (fun _ => ?_)
  refine And.intro (fun _ => ?_) (fun h => absurd h (by decide))
  refine And.intro (fun h => absurd h (by decide)) (fun _ => ?_)
  refine And.intro (fun h => absurd h (by decide)) (fun _ => ?_)
  refine And.intro (fun h1 => ?_) (fun h1 => ?_)
  · refine And.intro (fun h => absurd h (by decide)) (fun _ => ?_)
    refine And.intro (rfl) ?_
    refine am_in (k := 0) rfl (by omega) (fun d hd => ?_)
    refine am_go 400 [] (am_wpc_cm _ _ _) wf_302 ?_
    refine And.intro (rfl) ?_
    refine And.intro (fun h => absurd h (by omega)) (fun _ => ?_)
    refine And.intro (rfl) ?_
    refine And.intro (rfl) ?_
    refine And.intro (⟨rfl, ht⟩) ?_
    refine And.intro (rfl) ?_
    have SP : d_c1 w (m 74 t) 58 (m 41 57) (m 41 58) = .inl (2, m 74 t) := by
      rw [d_c1_58]
      first | unfold d_my | skip
      repeat' split
      all_goals first | rfl | (simp only [Sum.inr.injEq, Sum.inl.injEq, Prod.mk.injEq, true_and, and_true]; omega) | (exfalso; omega)
    exact hQe _ _ SP _ (((fr_Z.rfl m).S (by omega)).S (by omega)) (by simp only [mS_iff, eq_self, Int.reduceEq, true_and, and_true, false_and, and_false, and_self, ↓reduceIte] <;> first | omega | done) (by omega) (by simp only [mS_iff, eq_self, Int.reduceEq, true_and, and_true, false_and, and_false, and_self, ↓reduceIte] <;> first | omega | done)
  · refine And.intro (fun _ => ?_) (fun h => absurd h (by decide))
    refine And.intro (fun h => absurd h (by decide)) (fun _ => ?_)
    refine And.intro (fun _ => ?_) (fun h => absurd h (by decide))
    have l3 : am_l2i (m 41 58) = m 41 58 := am_l2i_eq (by omega)
    refine And.intro rfl ?_
    refine And.intro (And.intro (fun h2 => absurd h2 (by omega)) (And.intro (fun h2 => absurd h2 (by omega)) (And.intro (fun h2 => ?_) (And.intro (fun h2 => absurd h2 (by omega)) (And.intro (fun h2 => absurd h2 (by omega)) (And.intro (fun h2 => absurd h2 (by omega)) (And.intro (fun h2 => absurd h2 (by omega)) (True.intro)))))))) (fun h2 => absurd h2 (by omega))
    · refine And.intro (rfl) ?_
      refine And.intro (rfl) ?_
      refine ct_186 (by omega) hA (by omega) (fun v3 h4 => ?_)
      refine And.intro (rfl) ?_
      refine am_in (k := 1) rfl (by omega) (fun d hd => ?_)
      refine am_go 400 [] (am_wpc_cm _ _ _) wf_304 ?_
      refine And.intro (fun h5 => ?_) (fun h5 => ?_)
      · refine And.intro (rfl) ?_
        refine am_in (k := 0) rfl (by omega) (fun d hd => ?_)
        refine am_go 400 [] (am_wpc_cm _ _ _) wf_301 ?_
        refine And.intro (rfl) ?_
        refine And.intro (rfl) ?_
        have SP : d_c1 w (m 74 t) 58 (m 41 57) (m 41 58) = .inr (0, v3) := by
          rw [d_c1_58]
          first | unfold d_my | skip
          repeat' split
          all_goals first | rfl | (simp only [Sum.inr.injEq, Sum.inl.injEq, Prod.mk.injEq, true_and, and_true]; omega) | (exfalso; omega)
        exact hQ _ _ SP _ (((fr_Z.rfl m).S (by omega)).S (by omega)) (by simp only [mS_iff, eq_self, Int.reduceEq, true_and, and_true, false_and, and_false, and_self, ↓reduceIte] <;> first | omega | done) (by simp only [mS_iff, eq_self, Int.reduceEq, true_and, and_true, false_and, and_false, and_self, ↓reduceIte] <;> first | omega | done) (by simp only [mS_iff, eq_self, Int.reduceEq, true_and, and_true, false_and, and_false, and_self, ↓reduceIte] <;> first | omega | done)
      · refine And.intro (rfl) ?_
        refine am_in (k := 0) rfl (by omega) (fun d hd => ?_)
        refine am_go 400 [] (am_wpc_cm _ _ _) wf_302 ?_
        refine And.intro (rfl) ?_
        refine And.intro (fun h => absurd h (by omega)) (fun _ => ?_)
        refine And.intro (rfl) ?_
        refine And.intro (rfl) ?_
        refine And.intro (⟨rfl, ht⟩) ?_
        refine And.intro (rfl) ?_
        have SP : d_c1 w (m 74 t) 58 (m 41 57) (m 41 58) = .inl (1, m 74 t) := by
          rw [d_c1_58]
          first | unfold d_my | skip
          repeat' split
          all_goals first | rfl | (simp only [Sum.inr.injEq, Sum.inl.injEq, Prod.mk.injEq, true_and, and_true]; omega) | (exfalso; omega)
        exact hQe _ _ SP _ (((fr_Z.rfl m).S (by omega)).S (by omega)) (by simp only [mS_iff, eq_self, Int.reduceEq, true_and, and_true, false_and, and_false, and_self, ↓reduceIte] <;> first | omega | done) (by omega) (by simp only [mS_iff, eq_self, Int.reduceEq, true_and, and_true, false_and, and_false, and_self, ↓reduceIte] <;> first | omega | done)
theorem ct_303_4 {d : Nat} {m : aM} {Q : aO → aM → Prop} {a t s v : Int} {w : Int → Int} (hd : 4 ≤ d) (hA : mRow m a w) (ok : okRow w) (ab : m 41 61 = a) (h59 : m 41 59 = 0) (ht : 0 ≤ t ∧ t < 1260) (h57 : m 41 57 = s) (h58 : m 41 58 = v) (hv : okV w s v) (hQ : ∀ s' v', d_c1 w (m 74 t) 59 s v = .inr (s', v') → ∀ m', fr_Z m m' → m' 41 57 = s' → m' 41 58 = v' → m' 41 59 = 0 → Q (.inl none) m') (hQe : ∀ c q, d_c1 w (m 74 t) 59 s v = .inl (c, q) → ∀ m', fr_Z m m' → m' 41 59 = c → 1 ≤ c → m' 41 60 = q → Q (.inl none) m') : am_wpc am_G am_T d 303 [aR 41, aI t, aI 4] m Q := by
  subst ab h57 h58
  unfold okV at hv
  have okr := ok.2.2.2.2.2.2.1

  refine am_in rfl hd (fun d hd => ?_)
  refine am_go 400 [] (am_wpc_cm _ _ _) wf_303 ?_
  refine And.intro (rfl) ?_
  refine And.intro (rfl) ?_
  refine And.intro (fun h => absurd h (by decide)) (fun _ => ?_)
  refine And.intro (fun _ => ?_) (fun h => absurd h (by decide))
  refine And.intro (fun h => absurd h (by decide)) (fun _ => ?_)
  refine And.intro (fun h => absurd h (by decide)) (fun _ => ?_)
  refine And.intro (fun _ => ?_) (fun h => absurd h (by decide))
  refine And.intro (fun h => absurd h (by decide)) (fun _ => ?_)
  refine And.intro (fun _ => ?_) (fun h => absurd h (by decide))
  refine And.intro (fun h => absurd h (by decide)) (fun _ => ?_)
  refine And.intro (fun h1 => ?_) (fun h1 => ?_)
  · refine And.intro (fun h => absurd h (by decide)) (fun _ => ?_)
    refine And.intro (rfl) ?_
    refine am_in (k := 0) rfl (by omega) (fun d hd => ?_)
    refine am_go 400 [] (am_wpc_cm _ _ _) wf_302 ?_
    refine And.intro (rfl) ?_
    refine And.intro (fun h => absurd h (by omega)) (fun _ => ?_)
    refine And.intro (rfl) ?_
    refine And.intro (rfl) ?_
    refine And.intro (⟨rfl, ht⟩) ?_
    refine And.intro (rfl) ?_
    have SP : d_c1 w (m 74 t) 59 (m 41 57) (m 41 58) = .inl (2, m 74 t) := by
      rw [d_c1_59]
      first | unfold d_my | skip
      repeat' split
      all_goals first | rfl | (simp only [Sum.inr.injEq, Sum.inl.injEq, Prod.mk.injEq, true_and, and_true]; omega) | (exfalso; omega)
    exact hQe _ _ SP _ (((fr_Z.rfl m).S (by omega)).S (by omega)) (by simp only [mS_iff, eq_self, Int.reduceEq, true_and, and_true, false_and, and_false, and_self, ↓reduceIte] <;> first | omega | done) (by omega) (by simp only [mS_iff, eq_self, Int.reduceEq, true_and, and_true, false_and, and_false, and_self, ↓reduceIte] <;> first | omega | done)
  · refine And.intro (fun _ => ?_) (fun h => absurd h (by decide))
    refine And.intro (fun h => absurd h (by decide)) (fun _ => ?_)
    refine And.intro (fun _ => ?_) (fun h => absurd h (by decide))
    have l3 : am_l2i (m 41 58) = m 41 58 := am_l2i_eq (by omega)
    refine And.intro rfl ?_
    refine And.intro (And.intro (fun h2 => absurd h2 (by omega)) (And.intro (fun h2 => absurd h2 (by omega)) (And.intro (fun h2 => absurd h2 (by omega)) (And.intro (fun h2 => ?_) (And.intro (fun h2 => absurd h2 (by omega)) (And.intro (fun h2 => absurd h2 (by omega)) (And.intro (fun h2 => absurd h2 (by omega)) (True.intro)))))))) (fun h2 => absurd h2 (by omega))
    · refine And.intro (fun h3 => ?_) (fun h3 => ?_)
      · refine And.intro (rfl) ?_
        refine And.intro (fun h4 => ?_) (fun h4 => ?_)
        · refine And.intro (rfl) ?_
          refine ct_188 (by omega) hA (by omega) (by omega) (fun v5 h6 => ?_)
          rw [l3] at h6
          refine And.intro (rfl) ?_
          refine am_in (k := 1) rfl (by omega) (fun d hd => ?_)
          refine am_go 400 [] (am_wpc_cm _ _ _) wf_304 ?_
          refine And.intro (fun h7 => ?_) (fun h7 => ?_)
          · refine And.intro (rfl) ?_
            refine am_in (k := 0) rfl (by omega) (fun d hd => ?_)
            refine am_go 400 [] (am_wpc_cm _ _ _) wf_301 ?_
            refine And.intro (rfl) ?_
            refine And.intro (rfl) ?_
            have SP : d_c1 w (m 74 t) 59 (m 41 57) (m 41 58) = .inr (0, v5) := by
              rw [d_c1_59]
              first | unfold d_my | skip
              repeat' split
              all_goals first | rfl | (simp only [Sum.inr.injEq, Sum.inl.injEq, Prod.mk.injEq, true_and, and_true]; omega) | (exfalso; omega)
            exact hQ _ _ SP _ (((fr_Z.rfl m).S (by omega)).S (by omega)) (by simp only [mS_iff, eq_self, Int.reduceEq, true_and, and_true, false_and, and_false, and_self, ↓reduceIte] <;> first | omega | done) (by simp only [mS_iff, eq_self, Int.reduceEq, true_and, and_true, false_and, and_false, and_self, ↓reduceIte] <;> first | omega | done) (by simp only [mS_iff, eq_self, Int.reduceEq, true_and, and_true, false_and, and_false, and_self, ↓reduceIte] <;> first | omega | done)
          · refine And.intro (rfl) ?_
            refine am_in (k := 0) rfl (by omega) (fun d hd => ?_)
            refine am_go 400 [] (am_wpc_cm _ _ _) wf_302 ?_
            refine And.intro (rfl) ?_
            refine And.intro (fun h => absurd h (by omega)) (fun _ => ?_)
            refine And.intro (rfl) ?_
            refine And.intro (rfl) ?_
            refine And.intro (⟨rfl, ht⟩) ?_
            refine And.intro (rfl) ?_
            have SP : d_c1 w (m 74 t) 59 (m 41 57) (m 41 58) = .inl (1, m 74 t) := by
              rw [d_c1_59]
              first | unfold d_my | skip
              repeat' split
              all_goals first | rfl | (simp only [Sum.inr.injEq, Sum.inl.injEq, Prod.mk.injEq, true_and, and_true]; omega) | (exfalso; omega)
            exact hQe _ _ SP _ (((fr_Z.rfl m).S (by omega)).S (by omega)) (by simp only [mS_iff, eq_self, Int.reduceEq, true_and, and_true, false_and, and_false, and_self, ↓reduceIte] <;> first | omega | done) (by omega) (by simp only [mS_iff, eq_self, Int.reduceEq, true_and, and_true, false_and, and_false, and_self, ↓reduceIte] <;> first | omega | done)
        · refine And.intro (rfl) ?_
          refine ct_188 (by omega) hA (by omega) (by omega) (fun v8 h9 => ?_)
          rw [l3] at h9
          refine And.intro (rfl) ?_
          refine am_in (k := 1) rfl (by omega) (fun d hd => ?_)
          refine am_go 400 [] (am_wpc_cm _ _ _) wf_304 ?_
          refine And.intro (fun h10 => ?_) (fun h10 => ?_)
          · refine And.intro (rfl) ?_
            refine am_in (k := 0) rfl (by omega) (fun d hd => ?_)
            refine am_go 400 [] (am_wpc_cm _ _ _) wf_301 ?_
            refine And.intro (rfl) ?_
            refine And.intro (rfl) ?_
            have SP : d_c1 w (m 74 t) 59 (m 41 57) (m 41 58) = .inr (0, v8) := by
              rw [d_c1_59]
              first | unfold d_my | skip
              repeat' split
              all_goals first | rfl | (simp only [Sum.inr.injEq, Sum.inl.injEq, Prod.mk.injEq, true_and, and_true]; omega) | (exfalso; omega)
            exact hQ _ _ SP _ (((fr_Z.rfl m).S (by omega)).S (by omega)) (by simp only [mS_iff, eq_self, Int.reduceEq, true_and, and_true, false_and, and_false, and_self, ↓reduceIte] <;> first | omega | done) (by simp only [mS_iff, eq_self, Int.reduceEq, true_and, and_true, false_and, and_false, and_self, ↓reduceIte] <;> first | omega | done) (by simp only [mS_iff, eq_self, Int.reduceEq, true_and, and_true, false_and, and_false, and_self, ↓reduceIte] <;> first | omega | done)
          · refine And.intro (rfl) ?_
            refine am_in (k := 0) rfl (by omega) (fun d hd => ?_)
            refine am_go 400 [] (am_wpc_cm _ _ _) wf_302 ?_
            refine And.intro (rfl) ?_
            refine And.intro (fun h => absurd h (by omega)) (fun _ => ?_)
            refine And.intro (rfl) ?_
            refine And.intro (rfl) ?_
            refine And.intro (⟨rfl, ht⟩) ?_
            refine And.intro (rfl) ?_
            have SP : d_c1 w (m 74 t) 59 (m 41 57) (m 41 58) = .inl (1, m 74 t) := by
              rw [d_c1_59]
              first | unfold d_my | skip
              repeat' split
              all_goals first | rfl | (simp only [Sum.inr.injEq, Sum.inl.injEq, Prod.mk.injEq, true_and, and_true]; omega) | (exfalso; omega)
            exact hQe _ _ SP _ (((fr_Z.rfl m).S (by omega)).S (by omega)) (by simp only [mS_iff, eq_self, Int.reduceEq, true_and, and_true, false_and, and_false, and_self, ↓reduceIte] <;> first | omega | done) (by omega) (by simp only [mS_iff, eq_self, Int.reduceEq, true_and, and_true, false_and, and_false, and_self, ↓reduceIte] <;> first | omega | done)
      · refine And.intro (rfl) ?_
        refine And.intro (rfl) ?_
        refine ct_186 (by omega) hA (by omega) (fun v11 h12 => ?_)
        refine And.intro (fun h13 => ?_) (fun h13 => ?_)
        · refine And.intro (rfl) ?_
          refine am_in (k := 1) rfl (by omega) (fun d hd => ?_)
          refine am_go 400 [] (am_wpc_cm _ _ _) wf_304 ?_
          refine And.intro (fun h => absurd h (by decide)) (fun _ => ?_)
          refine And.intro (rfl) ?_
          refine am_in (k := 0) rfl (by omega) (fun d hd => ?_)
          refine am_go 400 [] (am_wpc_cm _ _ _) wf_302 ?_
          refine And.intro (rfl) ?_
          refine And.intro (fun h => absurd h (by omega)) (fun _ => ?_)
          refine And.intro (rfl) ?_
          refine And.intro (rfl) ?_
          refine And.intro (⟨rfl, ht⟩) ?_
          refine And.intro (rfl) ?_
          have SP : d_c1 w (m 74 t) 59 (m 41 57) (m 41 58) = .inl (1, m 74 t) := by
            rw [d_c1_59]
            first | unfold d_my | skip
            repeat' split
            all_goals first | rfl | (simp only [Sum.inr.injEq, Sum.inl.injEq, Prod.mk.injEq, true_and, and_true]; omega) | (exfalso; omega)
          exact hQe _ _ SP _ (((fr_Z.rfl m).S (by omega)).S (by omega)) (by simp only [mS_iff, eq_self, Int.reduceEq, true_and, and_true, false_and, and_false, and_self, ↓reduceIte] <;> first | omega | done) (by omega) (by simp only [mS_iff, eq_self, Int.reduceEq, true_and, and_true, false_and, and_false, and_self, ↓reduceIte] <;> first | omega | done)
        · refine And.intro (rfl) ?_
          refine And.intro (rfl) ?_
          refine ct_186 (by omega) hA (by omega) (fun v14 h15 => ?_)
          refine And.intro (rfl) ?_
          refine am_in (k := 1) rfl (by omega) (fun d hd => ?_)
          refine am_go 400 [] (am_wpc_cm _ _ _) wf_304 ?_
          refine And.intro (fun h16 => ?_) (fun h16 => ?_)
          · refine And.intro (rfl) ?_
            refine am_in (k := 0) rfl (by omega) (fun d hd => ?_)
            refine am_go 400 [] (am_wpc_cm _ _ _) wf_301 ?_
            refine And.intro (rfl) ?_
            refine And.intro (rfl) ?_
            have SP : d_c1 w (m 74 t) 59 (m 41 57) (m 41 58) = .inr (0, v14) := by
              rw [d_c1_59]
              first | unfold d_my | skip
              repeat' split
              all_goals first | rfl | (simp only [Sum.inr.injEq, Sum.inl.injEq, Prod.mk.injEq, true_and, and_true]; omega) | (exfalso; omega)
            exact hQ _ _ SP _ (((fr_Z.rfl m).S (by omega)).S (by omega)) (by simp only [mS_iff, eq_self, Int.reduceEq, true_and, and_true, false_and, and_false, and_self, ↓reduceIte] <;> first | omega | done) (by simp only [mS_iff, eq_self, Int.reduceEq, true_and, and_true, false_and, and_false, and_self, ↓reduceIte] <;> first | omega | done) (by simp only [mS_iff, eq_self, Int.reduceEq, true_and, and_true, false_and, and_false, and_self, ↓reduceIte] <;> first | omega | done)
          · refine And.intro (rfl) ?_
            refine am_in (k := 0) rfl (by omega) (fun d hd => ?_)
            refine am_go 400 [] (am_wpc_cm _ _ _) wf_302 ?_
            refine And.intro (rfl) ?_
            refine And.intro (fun h => absurd h (by omega)) (fun _ => ?_)
            refine And.intro (rfl) ?_
            refine And.intro (rfl) ?_
            refine And.intro (⟨rfl, ht⟩) ?_
            refine And.intro (rfl) ?_
            have SP : d_c1 w (m 74 t) 59 (m 41 57) (m 41 58) = .inl (1, m 74 t) := by
              rw [d_c1_59]
              first | unfold d_my | skip
              repeat' split
              all_goals first | rfl | (simp only [Sum.inr.injEq, Sum.inl.injEq, Prod.mk.injEq, true_and, and_true]; omega) | (exfalso; omega)
            exact hQe _ _ SP _ (((fr_Z.rfl m).S (by omega)).S (by omega)) (by simp only [mS_iff, eq_self, Int.reduceEq, true_and, and_true, false_and, and_false, and_self, ↓reduceIte] <;> first | omega | done) (by omega) (by simp only [mS_iff, eq_self, Int.reduceEq, true_and, and_true, false_and, and_false, and_self, ↓reduceIte] <;> first | omega | done)
theorem ct_303_5 {d : Nat} {m : aM} {Q : aO → aM → Prop} {a t s v : Int} {w : Int → Int} (hd : 4 ≤ d) (hA : mRow m a w) (ok : okRow w) (ab : m 41 61 = a) (h59 : m 41 59 = 0) (ht : 0 ≤ t ∧ t < 1260) (h57 : m 41 57 = s) (h58 : m 41 58 = v) (hv : okV w s v) (hQ : ∀ s' v', d_c1 w (m 74 t) 60 s v = .inr (s', v') → ∀ m', fr_Z m m' → m' 41 57 = s' → m' 41 58 = v' → m' 41 59 = 0 → Q (.inl none) m') (hQe : ∀ c q, d_c1 w (m 74 t) 60 s v = .inl (c, q) → ∀ m', fr_Z m m' → m' 41 59 = c → 1 ≤ c → m' 41 60 = q → Q (.inl none) m') : am_wpc am_G am_T d 303 [aR 41, aI t, aI 5] m Q := by
  subst ab h57 h58
  unfold okV at hv
  have okr := ok.2.2.2.2.2.2.1

  refine am_in rfl hd (fun d hd => ?_)
  refine am_go 400 [] (am_wpc_cm _ _ _) wf_303 ?_
  refine And.intro (rfl) ?_
  refine And.intro (rfl) ?_
  refine And.intro (fun h => absurd h (by decide)) (fun _ => ?_)
  refine And.intro (fun _ => ?_) (fun h => absurd h (by decide))
  refine And.intro (fun h => absurd h (by decide)) (fun _ => ?_)
  refine And.intro (fun h => absurd h (by decide)) (fun _ => ?_)
  refine And.intro (fun _ => ?_) (fun h => absurd h (by decide))
  refine And.intro (fun h => absurd h (by decide)) (fun _ => ?_)
  refine And.intro (fun _ => ?_) (fun h => absurd h (by decide))
  refine And.intro (fun _ => ?_) (fun h => absurd h (by decide))
  refine And.intro (fun h1 => ?_) (fun h1 => ?_)
  · refine And.intro (fun h => absurd h (by decide)) (fun _ => ?_)
    refine And.intro (rfl) ?_
    refine am_in (k := 0) rfl (by omega) (fun d hd => ?_)
    refine am_go 400 [] (am_wpc_cm _ _ _) wf_302 ?_
    refine And.intro (rfl) ?_
    refine And.intro (fun h => absurd h (by omega)) (fun _ => ?_)
    refine And.intro (rfl) ?_
    refine And.intro (rfl) ?_
    refine And.intro (⟨rfl, ht⟩) ?_
    refine And.intro (rfl) ?_
    have SP : d_c1 w (m 74 t) 60 (m 41 57) (m 41 58) = .inl (2, m 74 t) := by
      rw [d_c1_60]
      first | unfold d_my | skip
      repeat' split
      all_goals first | rfl | (simp only [Sum.inr.injEq, Sum.inl.injEq, Prod.mk.injEq, true_and, and_true]; omega) | (exfalso; omega)
    exact hQe _ _ SP _ (((fr_Z.rfl m).S (by omega)).S (by omega)) (by simp only [mS_iff, eq_self, Int.reduceEq, true_and, and_true, false_and, and_false, and_self, ↓reduceIte] <;> first | omega | done) (by omega) (by simp only [mS_iff, eq_self, Int.reduceEq, true_and, and_true, false_and, and_false, and_self, ↓reduceIte] <;> first | omega | done)
  · refine And.intro (fun _ => ?_) (fun h => absurd h (by decide))
    refine And.intro (fun h => absurd h (by decide)) (fun _ => ?_)
    refine And.intro (fun _ => ?_) (fun h => absurd h (by decide))
    have l3 : am_l2i (m 41 58) = m 41 58 := am_l2i_eq (by omega)
    refine And.intro rfl ?_
    refine And.intro (And.intro (fun h2 => absurd h2 (by omega)) (And.intro (fun h2 => absurd h2 (by omega)) (And.intro (fun h2 => absurd h2 (by omega)) (And.intro (fun h2 => absurd h2 (by omega)) (And.intro (fun h2 => ?_) (And.intro (fun h2 => absurd h2 (by omega)) (And.intro (fun h2 => absurd h2 (by omega)) (True.intro)))))))) (fun h2 => absurd h2 (by omega))
    · refine And.intro (rfl) ?_
      refine And.intro (rfl) ?_
      refine ct_188 (by omega) hA (by omega) (by omega) (fun v3 h4 => ?_)
      rw [l3] at h4
      refine And.intro (rfl) ?_
      refine am_in (k := 0) rfl (by omega) (fun d hd => ?_)
      refine am_go 400 [] (am_wpc_cm _ _ _) wf_301 ?_
      refine And.intro (rfl) ?_
      refine And.intro (rfl) ?_
      have SP : d_c1 w (m 74 t) 60 (m 41 57) (m 41 58) = .inr (0, v3) := by
        rw [d_c1_60]
        first | unfold d_my | skip
        repeat' split
        all_goals first | rfl | (simp only [Sum.inr.injEq, Sum.inl.injEq, Prod.mk.injEq, true_and, and_true]; omega) | (exfalso; omega)
      exact hQ _ _ SP _ (((fr_Z.rfl m).S (by omega)).S (by omega)) (by simp only [mS_iff, eq_self, Int.reduceEq, true_and, and_true, false_and, and_false, and_self, ↓reduceIte] <;> first | omega | done) (by simp only [mS_iff, eq_self, Int.reduceEq, true_and, and_true, false_and, and_false, and_self, ↓reduceIte] <;> first | omega | done) (by simp only [mS_iff, eq_self, Int.reduceEq, true_and, and_true, false_and, and_false, and_self, ↓reduceIte] <;> first | omega | done)
theorem ct_303_6 {d : Nat} {m : aM} {Q : aO → aM → Prop} {a t s v : Int} {w : Int → Int} (hd : 4 ≤ d) (hA : mRow m a w) (ok : okRow w) (ab : m 41 61 = a) (h59 : m 41 59 = 0) (ht : 0 ≤ t ∧ t < 1260) (h57 : m 41 57 = s) (h58 : m 41 58 = v) (hv : okV w s v) (hQ : ∀ s' v', d_c1 w (m 74 t) 61 s v = .inr (s', v') → ∀ m', fr_Z m m' → m' 41 57 = s' → m' 41 58 = v' → m' 41 59 = 0 → Q (.inl none) m') (hQe : ∀ c q, d_c1 w (m 74 t) 61 s v = .inl (c, q) → ∀ m', fr_Z m m' → m' 41 59 = c → 1 ≤ c → m' 41 60 = q → Q (.inl none) m') : am_wpc am_G am_T d 303 [aR 41, aI t, aI 6] m Q := by
  subst ab h57 h58
  unfold okV at hv
  have okr := ok.2.2.2.2.2.2.1

  refine am_in rfl hd (fun d hd => ?_)
  refine am_go 400 [] (am_wpc_cm _ _ _) wf_303 ?_
  refine And.intro (rfl) ?_
  refine And.intro (rfl) ?_
  refine And.intro (fun h => absurd h (by decide)) (fun _ => ?_)
  refine And.intro (fun _ => ?_) (fun h => absurd h (by decide))
  refine And.intro (fun h => absurd h (by decide)) (fun _ => ?_)
  refine And.intro (fun h => absurd h (by decide)) (fun _ => ?_)
  refine And.intro (fun _ => ?_) (fun h => absurd h (by decide))
  refine And.intro (fun h => absurd h (by decide)) (fun _ => ?_)
  refine And.intro (fun _ => ?_) (fun h => absurd h (by decide))
  refine And.intro (fun _ => ?_) (fun h => absurd h (by decide))
  refine And.intro (fun h1 => ?_) (fun h1 => ?_)
  · refine And.intro (fun h => absurd h (by decide)) (fun _ => ?_)
    refine And.intro (rfl) ?_
    refine am_in (k := 0) rfl (by omega) (fun d hd => ?_)
    refine am_go 400 [] (am_wpc_cm _ _ _) wf_302 ?_
    refine And.intro (rfl) ?_
    refine And.intro (fun h => absurd h (by omega)) (fun _ => ?_)
    refine And.intro (rfl) ?_
    refine And.intro (rfl) ?_
    refine And.intro (⟨rfl, ht⟩) ?_
    refine And.intro (rfl) ?_
    have SP : d_c1 w (m 74 t) 61 (m 41 57) (m 41 58) = .inl (2, m 74 t) := by
      rw [d_c1_61]
      first | unfold d_my | skip
      repeat' split
      all_goals first | rfl | (simp only [Sum.inr.injEq, Sum.inl.injEq, Prod.mk.injEq, true_and, and_true]; omega) | (exfalso; omega)
    exact hQe _ _ SP _ (((fr_Z.rfl m).S (by omega)).S (by omega)) (by simp only [mS_iff, eq_self, Int.reduceEq, true_and, and_true, false_and, and_false, and_self, ↓reduceIte] <;> first | omega | done) (by omega) (by simp only [mS_iff, eq_self, Int.reduceEq, true_and, and_true, false_and, and_false, and_self, ↓reduceIte] <;> first | omega | done)
  · refine And.intro (fun _ => ?_) (fun h => absurd h (by decide))
    refine And.intro (fun h => absurd h (by decide)) (fun _ => ?_)
    refine And.intro (fun _ => ?_) (fun h => absurd h (by decide))
    have l3 : am_l2i (m 41 58) = m 41 58 := am_l2i_eq (by omega)
    refine And.intro rfl ?_
    refine And.intro (And.intro (fun h2 => absurd h2 (by omega)) (And.intro (fun h2 => absurd h2 (by omega)) (And.intro (fun h2 => absurd h2 (by omega)) (And.intro (fun h2 => absurd h2 (by omega)) (And.intro (fun h2 => absurd h2 (by omega)) (And.intro (fun h2 => ?_) (And.intro (fun h2 => absurd h2 (by omega)) (True.intro)))))))) (fun h2 => absurd h2 (by omega))
    · refine And.intro (rfl) ?_
      refine And.intro (rfl) ?_
      refine ct_188 (by omega) hA (by omega) (by omega) (fun v3 h4 => ?_)
      rw [l3] at h4
      refine And.intro (rfl) ?_
      refine am_in (k := 0) rfl (by omega) (fun d hd => ?_)
      refine am_go 400 [] (am_wpc_cm _ _ _) wf_301 ?_
      refine And.intro (rfl) ?_
      refine And.intro (rfl) ?_
      have SP : d_c1 w (m 74 t) 61 (m 41 57) (m 41 58) = .inr (0, v3) := by
        rw [d_c1_61]
        first | unfold d_my | skip
        repeat' split
        all_goals first | rfl | (simp only [Sum.inr.injEq, Sum.inl.injEq, Prod.mk.injEq, true_and, and_true]; omega) | (exfalso; omega)
      exact hQ _ _ SP _ (((fr_Z.rfl m).S (by omega)).S (by omega)) (by simp only [mS_iff, eq_self, Int.reduceEq, true_and, and_true, false_and, and_false, and_self, ↓reduceIte] <;> first | omega | done) (by simp only [mS_iff, eq_self, Int.reduceEq, true_and, and_true, false_and, and_false, and_self, ↓reduceIte] <;> first | omega | done) (by simp only [mS_iff, eq_self, Int.reduceEq, true_and, and_true, false_and, and_false, and_self, ↓reduceIte] <;> first | omega | done)
theorem ct_303_7 {d : Nat} {m : aM} {Q : aO → aM → Prop} {a t s v : Int} {w : Int → Int} (hd : 4 ≤ d) (hA : mRow m a w) (ok : okRow w) (ab : m 41 61 = a) (h59 : m 41 59 = 0) (ht : 0 ≤ t ∧ t < 1260) (h57 : m 41 57 = s) (h58 : m 41 58 = v) (hv : okV w s v) (hQ : ∀ s' v', d_c1 w (m 74 t) 62 s v = .inr (s', v') → ∀ m', fr_Z m m' → m' 41 57 = s' → m' 41 58 = v' → m' 41 59 = 0 → Q (.inl none) m') (hQe : ∀ c q, d_c1 w (m 74 t) 62 s v = .inl (c, q) → ∀ m', fr_Z m m' → m' 41 59 = c → 1 ≤ c → m' 41 60 = q → Q (.inl none) m') : am_wpc am_G am_T d 303 [aR 41, aI t, aI 7] m Q := by
  subst ab h57 h58
  unfold okV at hv
  have okr := ok.2.2.2.2.2.2.1

  refine am_in rfl hd (fun d hd => ?_)
  refine am_go 400 [] (am_wpc_cm _ _ _) wf_303 ?_
  refine And.intro (rfl) ?_
  refine And.intro (rfl) ?_
  refine And.intro (fun h => absurd h (by decide)) (fun _ => ?_)
  refine And.intro (fun _ => ?_) (fun h => absurd h (by decide))
  refine And.intro (fun h => absurd h (by decide)) (fun _ => ?_)
  refine And.intro (fun _ => ?_) (fun h => absurd h (by decide))
  refine And.intro (fun h1 => ?_) (fun h1 => ?_)
  · refine And.intro (fun h => absurd h (by decide)) (fun _ => ?_)
    refine And.intro (rfl) ?_
    refine am_in (k := 0) rfl (by omega) (fun d hd => ?_)
    refine am_go 400 [] (am_wpc_cm _ _ _) wf_302 ?_
    refine And.intro (rfl) ?_
    refine And.intro (fun h => absurd h (by omega)) (fun _ => ?_)
    refine And.intro (rfl) ?_
    refine And.intro (rfl) ?_
    refine And.intro (⟨rfl, ht⟩) ?_
    refine And.intro (rfl) ?_
    have SP : d_c1 w (m 74 t) 62 (m 41 57) (m 41 58) = .inl (2, m 74 t) := by
      rw [d_c1_62]
      first | unfold d_my | skip
      repeat' split
      all_goals first | rfl | (simp only [Sum.inr.injEq, Sum.inl.injEq, Prod.mk.injEq, true_and, and_true]; omega) | (exfalso; omega)
    exact hQe _ _ SP _ (((fr_Z.rfl m).S (by omega)).S (by omega)) (by simp only [mS_iff, eq_self, Int.reduceEq, true_and, and_true, false_and, and_false, and_self, ↓reduceIte] <;> first | omega | done) (by omega) (by simp only [mS_iff, eq_self, Int.reduceEq, true_and, and_true, false_and, and_false, and_self, ↓reduceIte] <;> first | omega | done)
  · refine And.intro (fun _ => ?_) (fun h => absurd h (by decide))
    refine And.intro (fun h => absurd h (by decide)) (fun _ => ?_)
    refine And.intro (fun _ => ?_) (fun h => absurd h (by decide))
    have l3 : am_l2i (m 41 58) = m 41 58 := am_l2i_eq (by omega)
    refine And.intro rfl ?_
    refine And.intro (And.intro (fun h2 => absurd h2 (by omega)) (And.intro (fun h2 => absurd h2 (by omega)) (And.intro (fun h2 => absurd h2 (by omega)) (And.intro (fun h2 => absurd h2 (by omega)) (And.intro (fun h2 => absurd h2 (by omega)) (And.intro (fun h2 => absurd h2 (by omega)) (And.intro (fun h2 => ?_) (True.intro)))))))) (fun h2 => absurd h2 (by omega))
    · refine And.intro (rfl) ?_
      refine And.intro (rfl) ?_
      refine ct_188 (by omega) hA (by omega) (by omega) (fun v3 h4 => ?_)
      rw [l3] at h4
      refine And.intro (rfl) ?_
      refine am_in (k := 1) rfl (by omega) (fun d hd => ?_)
      refine am_go 400 [] (am_wpc_cm _ _ _) wf_304 ?_
      refine And.intro (fun h5 => ?_) (fun h5 => ?_)
      · refine And.intro (rfl) ?_
        refine am_in (k := 0) rfl (by omega) (fun d hd => ?_)
        refine am_go 400 [] (am_wpc_cm _ _ _) wf_301 ?_
        refine And.intro (rfl) ?_
        refine And.intro (rfl) ?_
        have SP : d_c1 w (m 74 t) 62 (m 41 57) (m 41 58) = .inr (0, v3) := by
          rw [d_c1_62]
          first | unfold d_my | skip
          repeat' split
          all_goals first | rfl | (simp only [Sum.inr.injEq, Sum.inl.injEq, Prod.mk.injEq, true_and, and_true]; omega) | (exfalso; omega)
        exact hQ _ _ SP _ (((fr_Z.rfl m).S (by omega)).S (by omega)) (by simp only [mS_iff, eq_self, Int.reduceEq, true_and, and_true, false_and, and_false, and_self, ↓reduceIte] <;> first | omega | done) (by simp only [mS_iff, eq_self, Int.reduceEq, true_and, and_true, false_and, and_false, and_self, ↓reduceIte] <;> first | omega | done) (by simp only [mS_iff, eq_self, Int.reduceEq, true_and, and_true, false_and, and_false, and_self, ↓reduceIte] <;> first | omega | done)
      · refine And.intro (rfl) ?_
        refine am_in (k := 0) rfl (by omega) (fun d hd => ?_)
        refine am_go 400 [] (am_wpc_cm _ _ _) wf_302 ?_
        refine And.intro (rfl) ?_
        refine And.intro (fun h => absurd h (by omega)) (fun _ => ?_)
        refine And.intro (rfl) ?_
        refine And.intro (rfl) ?_
        refine And.intro (⟨rfl, ht⟩) ?_
        refine And.intro (rfl) ?_
        have SP : d_c1 w (m 74 t) 62 (m 41 57) (m 41 58) = .inl (1, m 74 t) := by
          rw [d_c1_62]
          first | unfold d_my | skip
          repeat' split
          all_goals first | rfl | (simp only [Sum.inr.injEq, Sum.inl.injEq, Prod.mk.injEq, true_and, and_true]; omega) | (exfalso; omega)
        exact hQe _ _ SP _ (((fr_Z.rfl m).S (by omega)).S (by omega)) (by simp only [mS_iff, eq_self, Int.reduceEq, true_and, and_true, false_and, and_false, and_self, ↓reduceIte] <;> first | omega | done) (by omega) (by simp only [mS_iff, eq_self, Int.reduceEq, true_and, and_true, false_and, and_false, and_self, ↓reduceIte] <;> first | omega | done)
theorem ct_303_8 {d : Nat} {m : aM} {Q : aO → aM → Prop} {a t s v : Int} {w : Int → Int} (hd : 4 ≤ d) (hA : mRow m a w) (ok : okRow w) (ab : m 41 61 = a) (h59 : m 41 59 = 0) (ht : 0 ≤ t ∧ t < 1260) (h57 : m 41 57 = s) (h58 : m 41 58 = v) (hv : okV w s v) (hQ : ∀ s' v', d_c1 w (m 74 t) 63 s v = .inr (s', v') → ∀ m', fr_Z m m' → m' 41 57 = s' → m' 41 58 = v' → m' 41 59 = 0 → Q (.inl none) m') (hQe : ∀ c q, d_c1 w (m 74 t) 63 s v = .inl (c, q) → ∀ m', fr_Z m m' → m' 41 59 = c → 1 ≤ c → m' 41 60 = q → Q (.inl none) m') : am_wpc am_G am_T d 303 [aR 41, aI t, aI 8] m Q := by
  subst ab h57 h58
  unfold okV at hv
  have okr := ok.2.2.2.2.2.2.1

  refine am_in rfl hd (fun d hd => ?_)
  refine am_go 400 [] (am_wpc_cm _ _ _) wf_303 ?_
  refine And.intro (rfl) ?_
  refine And.intro (rfl) ?_
  refine And.intro (fun h => absurd h (by decide)) (fun _ => ?_)
  refine And.intro (fun h => absurd h (by decide)) (fun _ => ?_)
  refine And.intro (fun h1 => ?_) (fun h1 => ?_)
  · refine And.intro (fun h => absurd h (by decide)) (fun _ => ?_)
    refine And.intro (rfl) ?_
    refine am_in (k := 0) rfl (by omega) (fun d hd => ?_)
    refine am_go 400 [] (am_wpc_cm _ _ _) wf_302 ?_
    refine And.intro (rfl) ?_
    refine And.intro (fun h => absurd h (by omega)) (fun _ => ?_)
    refine And.intro (rfl) ?_
    refine And.intro (rfl) ?_
    refine And.intro (⟨rfl, ht⟩) ?_
    refine And.intro (rfl) ?_
    have SP : d_c1 w (m 74 t) 63 (m 41 57) (m 41 58) = .inl (2, m 74 t) := by
      rw [d_c1_63]
      first | unfold d_my | skip
      repeat' split
      all_goals first | rfl | (simp only [Sum.inr.injEq, Sum.inl.injEq, Prod.mk.injEq, true_and, and_true]; omega) | (exfalso; omega)
    exact hQe _ _ SP _ (((fr_Z.rfl m).S (by omega)).S (by omega)) (by simp only [mS_iff, eq_self, Int.reduceEq, true_and, and_true, false_and, and_false, and_self, ↓reduceIte] <;> first | omega | done) (by omega) (by simp only [mS_iff, eq_self, Int.reduceEq, true_and, and_true, false_and, and_false, and_self, ↓reduceIte] <;> first | omega | done)
  · refine And.intro (fun _ => ?_) (fun h => absurd h (by decide))
    refine And.intro (fun h => absurd h (by decide)) (fun _ => ?_)
    refine And.intro (fun h => absurd h (by decide)) (fun _ => ?_)
    refine And.intro (fun h2 => ?_) (fun h2 => ?_)
    · replace h2 := am_lc_lt.mp h2
      refine And.intro (rfl) ?_
      refine am_in (k := 0) rfl (by omega) (fun d hd => ?_)
      refine am_go 400 [] (am_wpc_cm _ _ _) wf_302 ?_
      refine And.intro (rfl) ?_
      refine And.intro (fun h => absurd h (by omega)) (fun _ => ?_)
      refine And.intro (rfl) ?_
      refine And.intro (rfl) ?_
      refine And.intro (⟨rfl, ht⟩) ?_
      refine And.intro (rfl) ?_
      have SP : d_c1 w (m 74 t) 63 (m 41 57) (m 41 58) = .inl (3, m 74 t) := by
        rw [d_c1_63]
        first | unfold d_my | skip
        repeat' split
        all_goals first | rfl | (simp only [Sum.inr.injEq, Sum.inl.injEq, Prod.mk.injEq, true_and, and_true]; omega) | (exfalso; omega)
      exact hQe _ _ SP _ (((fr_Z.rfl m).S (by omega)).S (by omega)) (by simp only [mS_iff, eq_self, Int.reduceEq, true_and, and_true, false_and, and_false, and_self, ↓reduceIte] <;> first | omega | done) (by omega) (by simp only [mS_iff, eq_self, Int.reduceEq, true_and, and_true, false_and, and_false, and_self, ↓reduceIte] <;> first | omega | done)
    · replace h2 := am_lc_ge.mp h2
      refine And.intro (fun _ => ?_) (fun h => absurd h (by decide))
      refine And.intro (fun h3 => ?_) (fun h3 => ?_)
      · replace h3 := am_lc_lt.mp h3
        refine And.intro (fun _ => ?_) (fun h => absurd h (by decide))
        have l3 : am_l2i (m 41 58) = m 41 58 := am_l2i_eq (by omega)
        refine ct_190 (by omega) (fun v4 h5 => ?_)
        rw [l3] at h5
        refine And.intro (rfl) ?_
        refine am_in (k := 0) rfl (by omega) (fun d hd => ?_)
        refine am_go 400 [] (am_wpc_cm _ _ _) wf_301 ?_
        refine And.intro (rfl) ?_
        refine And.intro (rfl) ?_
        have SP : d_c1 w (m 74 t) 63 (m 41 57) (m 41 58) = .inr (0, v4) := by
          rw [d_c1_63]
          first | unfold d_my | skip
          repeat' split
          all_goals first | rfl | (simp only [Sum.inr.injEq, Sum.inl.injEq, Prod.mk.injEq, true_and, and_true]; omega) | (exfalso; omega)
        exact hQ _ _ SP _ (((fr_Z.rfl m).S (by omega)).S (by omega)) (by simp only [mS_iff, eq_self, Int.reduceEq, true_and, and_true, false_and, and_false, and_self, ↓reduceIte] <;> first | omega | done) (by simp only [mS_iff, eq_self, Int.reduceEq, true_and, and_true, false_and, and_false, and_self, ↓reduceIte] <;> first | omega | done) (by simp only [mS_iff, eq_self, Int.reduceEq, true_and, and_true, false_and, and_false, and_self, ↓reduceIte] <;> first | omega | done)
      · replace h3 := am_lc_ge.mp h3
        refine And.intro (rfl) ?_
        refine am_in (k := 0) rfl (by omega) (fun d hd => ?_)
        refine am_go 400 [] (am_wpc_cm _ _ _) wf_302 ?_
        refine And.intro (rfl) ?_
        refine And.intro (fun h => absurd h (by omega)) (fun _ => ?_)
        refine And.intro (rfl) ?_
        refine And.intro (rfl) ?_
        refine And.intro (⟨rfl, ht⟩) ?_
        refine And.intro (rfl) ?_
        have SP : d_c1 w (m 74 t) 63 (m 41 57) (m 41 58) = .inl (3, m 74 t) := by
          rw [d_c1_63]
          first | unfold d_my | skip
          repeat' split
          all_goals first | rfl | (simp only [Sum.inr.injEq, Sum.inl.injEq, Prod.mk.injEq, true_and, and_true]; omega) | (exfalso; omega)
        exact hQe _ _ SP _ (((fr_Z.rfl m).S (by omega)).S (by omega)) (by simp only [mS_iff, eq_self, Int.reduceEq, true_and, and_true, false_and, and_false, and_self, ↓reduceIte] <;> first | omega | done) (by omega) (by simp only [mS_iff, eq_self, Int.reduceEq, true_and, and_true, false_and, and_false, and_self, ↓reduceIte] <;> first | omega | done)
theorem ct_303_9 {d : Nat} {m : aM} {Q : aO → aM → Prop} {a t s v : Int} {w : Int → Int} (hd : 4 ≤ d) (hA : mRow m a w) (ok : okRow w) (ab : m 41 61 = a) (h59 : m 41 59 = 0) (ht : 0 ≤ t ∧ t < 1260) (h57 : m 41 57 = s) (h58 : m 41 58 = v) (hv : okV w s v) (hQ : ∀ s' v', d_c1 w (m 74 t) 64 s v = .inr (s', v') → ∀ m', fr_Z m m' → m' 41 57 = s' → m' 41 58 = v' → m' 41 59 = 0 → Q (.inl none) m') (hQe : ∀ c q, d_c1 w (m 74 t) 64 s v = .inl (c, q) → ∀ m', fr_Z m m' → m' 41 59 = c → 1 ≤ c → m' 41 60 = q → Q (.inl none) m') : am_wpc am_G am_T d 303 [aR 41, aI t, aI 9] m Q := by
  subst ab h57 h58
  unfold okV at hv
  have okr := ok.2.2.2.2.2.2.1

  refine am_in rfl hd (fun d hd => ?_)
  refine am_go 400 [] (am_wpc_cm _ _ _) wf_303 ?_
  refine And.intro (rfl) ?_
  refine And.intro (rfl) ?_
  refine And.intro (fun h => absurd h (by decide)) (fun _ => ?_)
  refine And.intro (fun _ => ?_) (fun h => absurd h (by decide))
  refine And.intro (fun h => absurd h (by decide)) (fun _ => ?_)
  refine And.intro (fun h => absurd h (by decide)) (fun _ => ?_)
  refine And.intro (fun h => absurd h (by decide)) (fun _ => ?_)
  refine And.intro (fun h1 => ?_) (fun h1 => ?_)
  · refine And.intro (fun h => absurd h (by decide)) (fun _ => ?_)
    refine And.intro (rfl) ?_
    refine am_in (k := 0) rfl (by omega) (fun d hd => ?_)
    refine am_go 400 [] (am_wpc_cm _ _ _) wf_302 ?_
    refine And.intro (rfl) ?_
    refine And.intro (fun h => absurd h (by omega)) (fun _ => ?_)
    refine And.intro (rfl) ?_
    refine And.intro (rfl) ?_
    refine And.intro (⟨rfl, ht⟩) ?_
    refine And.intro (rfl) ?_
    have SP : d_c1 w (m 74 t) 64 (m 41 57) (m 41 58) = .inl (2, m 74 t) := by
      rw [d_c1_64]
      first | unfold d_my | skip
      repeat' split
      all_goals first | rfl | (simp only [Sum.inr.injEq, Sum.inl.injEq, Prod.mk.injEq, true_and, and_true]; omega) | (exfalso; omega)
    exact hQe _ _ SP _ (((fr_Z.rfl m).S (by omega)).S (by omega)) (by simp only [mS_iff, eq_self, Int.reduceEq, true_and, and_true, false_and, and_false, and_self, ↓reduceIte] <;> first | omega | done) (by omega) (by simp only [mS_iff, eq_self, Int.reduceEq, true_and, and_true, false_and, and_false, and_self, ↓reduceIte] <;> first | omega | done)
  · refine And.intro (fun _ => ?_) (fun h => absurd h (by decide))
    refine And.intro (fun h => absurd h (by decide)) (fun _ => ?_)
    refine And.intro (fun _ => ?_) (fun h => absurd h (by decide))
    have l3 : am_l2i (m 41 58) = m 41 58 := am_l2i_eq (by omega)
    refine And.intro rfl ?_
    refine And.intro (And.intro (fun h2 => absurd h2 (by omega)) (And.intro (fun h2 => absurd h2 (by omega)) (And.intro (fun h2 => absurd h2 (by omega)) (And.intro (fun h2 => absurd h2 (by omega)) (And.intro (fun h2 => absurd h2 (by omega)) (And.intro (fun h2 => absurd h2 (by omega)) (And.intro (fun h2 => absurd h2 (by omega)) (True.intro)))))))) (fun h2 => ?_)
    · refine And.intro (rfl) ?_
      refine And.intro (rfl) ?_
      refine ct_188 (by omega) hA (by omega) (by omega) (fun v3 h4 => ?_)
      rw [l3] at h4
      refine And.intro (fun h5 => ?_) (fun h5 => ?_)
      · refine And.intro (rfl) ?_
        refine am_in (k := 1) rfl (by omega) (fun d hd => ?_)
        refine am_go 400 [] (am_wpc_cm _ _ _) wf_304 ?_
        refine And.intro (fun h => absurd h (by decide)) (fun _ => ?_)
        refine And.intro (rfl) ?_
        refine am_in (k := 0) rfl (by omega) (fun d hd => ?_)
        refine am_go 400 [] (am_wpc_cm _ _ _) wf_302 ?_
        refine And.intro (rfl) ?_
        refine And.intro (fun h => absurd h (by omega)) (fun _ => ?_)
        refine And.intro (rfl) ?_
        refine And.intro (rfl) ?_
        refine And.intro (⟨rfl, ht⟩) ?_
        refine And.intro (rfl) ?_
        have SP : d_c1 w (m 74 t) 64 (m 41 57) (m 41 58) = .inl (1, m 74 t) := by
          rw [d_c1_64]
          first | unfold d_my | skip
          repeat' split
          all_goals first | rfl | (simp only [Sum.inr.injEq, Sum.inl.injEq, Prod.mk.injEq, true_and, and_true]; omega) | (exfalso; omega)
        exact hQe _ _ SP _ (((fr_Z.rfl m).S (by omega)).S (by omega)) (by simp only [mS_iff, eq_self, Int.reduceEq, true_and, and_true, false_and, and_false, and_self, ↓reduceIte] <;> first | omega | done) (by omega) (by simp only [mS_iff, eq_self, Int.reduceEq, true_and, and_true, false_and, and_false, and_self, ↓reduceIte] <;> first | omega | done)
      · refine And.intro (rfl) ?_
        refine And.intro (rfl) ?_
        refine ct_188 (by omega) hA (by omega) (by omega) (fun v6 h7 => ?_)
        rw [l3] at h7
        refine And.intro (rfl) ?_
        refine am_in (k := 1) rfl (by omega) (fun d hd => ?_)
        refine am_go 400 [] (am_wpc_cm _ _ _) wf_304 ?_
        refine And.intro (fun h8 => ?_) (fun h8 => ?_)
        · refine And.intro (rfl) ?_
          refine am_in (k := 0) rfl (by omega) (fun d hd => ?_)
          refine am_go 400 [] (am_wpc_cm _ _ _) wf_301 ?_
          refine And.intro (rfl) ?_
          refine And.intro (rfl) ?_
          have SP : d_c1 w (m 74 t) 64 (m 41 57) (m 41 58) = .inr (0, v6) := by
            rw [d_c1_64]
            first | unfold d_my | skip
            repeat' split
            all_goals first | rfl | (simp only [Sum.inr.injEq, Sum.inl.injEq, Prod.mk.injEq, true_and, and_true]; omega) | (exfalso; omega)
          exact hQ _ _ SP _ (((fr_Z.rfl m).S (by omega)).S (by omega)) (by simp only [mS_iff, eq_self, Int.reduceEq, true_and, and_true, false_and, and_false, and_self, ↓reduceIte] <;> first | omega | done) (by simp only [mS_iff, eq_self, Int.reduceEq, true_and, and_true, false_and, and_false, and_self, ↓reduceIte] <;> first | omega | done) (by simp only [mS_iff, eq_self, Int.reduceEq, true_and, and_true, false_and, and_false, and_self, ↓reduceIte] <;> first | omega | done)
        · refine And.intro (rfl) ?_
          refine am_in (k := 0) rfl (by omega) (fun d hd => ?_)
          refine am_go 400 [] (am_wpc_cm _ _ _) wf_302 ?_
          refine And.intro (rfl) ?_
          refine And.intro (fun h => absurd h (by omega)) (fun _ => ?_)
          refine And.intro (rfl) ?_
          refine And.intro (rfl) ?_
          refine And.intro (⟨rfl, ht⟩) ?_
          refine And.intro (rfl) ?_
          have SP : d_c1 w (m 74 t) 64 (m 41 57) (m 41 58) = .inl (1, m 74 t) := by
            rw [d_c1_64]
            first | unfold d_my | skip
            repeat' split
            all_goals first | rfl | (simp only [Sum.inr.injEq, Sum.inl.injEq, Prod.mk.injEq, true_and, and_true]; omega) | (exfalso; omega)
          exact hQe _ _ SP _ (((fr_Z.rfl m).S (by omega)).S (by omega)) (by simp only [mS_iff, eq_self, Int.reduceEq, true_and, and_true, false_and, and_false, and_self, ↓reduceIte] <;> first | omega | done) (by omega) (by simp only [mS_iff, eq_self, Int.reduceEq, true_and, and_true, false_and, and_false, and_self, ↓reduceIte] <;> first | omega | done)
