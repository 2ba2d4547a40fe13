/-! needs: 66 -/
/-! CONTRACTS: breaches; by tools/gen67.py -/
set_option maxRecDepth 100000
/-- the kind of the field; the breaches of a layer -/
def s_fk (w : Int → Int) : Int := if w 0 = 0 then s_kd (w 3) else if s_kd (w 4) = s_kd (w 3) then s_kd (w 3) else 0
def s_b1 (w : Int → Int) (l : Int) : Int := if w (6 + 10 * l) = 0 ∧ 0 ≤ w (6 + 10 * l + 1) ∧ w (6 + 10 * l + 1) ≠ 7 ∧ 0 < s_fk w ∧ s_kd (w (6 + 10 * l + 3)) = s_fk w then 1 else 0
def s_b2 (w : Int → Int) (l : Int) : Int := if w (6 + 10 * l) = 0 ∧ (w (6 + 10 * l + 4) = 1 ∨ w (6 + 10 * l + 4) = 2) ∧ 0 < s_fk w ∧ s_kd (w (6 + 10 * l + 8)) = s_fk w then 1 else 0
def s_b3 (w : Int → Int) (l : Int) : Int := if w (6 + 10 * l) = 0 ∧ w (6 + 10 * l + 4) = 3 ∧ 0 < s_kd (w (6 + 10 * l + 3)) ∧ s_kd (w (6 + 10 * l + 8)) = s_kd (w (6 + 10 * l + 3)) then 1 else 0
theorem s_b1_b (w : Int → Int) (l : Int) : 0 ≤ s_b1 w l ∧ s_b1 w l ≤ 1 := by unfold s_b1; omega
theorem s_b2_b (w : Int → Int) (l : Int) : 0 ≤ s_b2 w l ∧ s_b2 w l ≤ 1 := by unfold s_b2; omega
theorem s_b3_b (w : Int → Int) (l : Int) : 0 ≤ s_b3 w l ∧ s_b3 w l ≤ 1 := by unfold s_b3; omega
def s_bl (w : Int → Int) (l : Int) : Int := if l < w 5 then s_b1 w l + s_b2 w l + s_b3 w l else 0
theorem s_bl_b (w : Int → Int) (l : Int) : 0 ≤ s_bl w l ∧ s_bl w l ≤ 3 := by
  have := s_b1_b w l
  have := s_b2_b w l
  have := s_b3_b w l
  unfold s_bl
  omega
theorem s_bl_eq {w : Int → Int} {l : Int} (h : l < w 5) : s_bl w l = s_b1 w l + s_b2 w l + s_b3 w l := by unfold s_bl; rw [if_pos h]
/-- how many breaches ahead of layer l; in all -/
def s_bn (w : Int → Int) (l : Int) : Int := s_sum (s_bl w) l.toNat
def s_bt (w : Int → Int) : Int := s_bn w (w 5)
theorem s_bn_s {w : Int → Int} {l : Int} (h : 0 ≤ l) : s_bn w (l + 1) = s_bn w l + s_bl w l := s_sum_s h
theorem s_bn_0 (w : Int → Int) : s_bn w 0 = 0 := rfl
theorem s_bn_b (w : Int → Int) {l : Int} (h0 : 0 ≤ l) (h : l ≤ 6) : 0 ≤ s_bn w l ∧ s_bn w l ≤ 3 * l := by
  have := s_sum_b (s_bl_b w) l.toNat
  unfold s_bn
  omega
theorem s_sum_m {f : Int → Int} (h : ∀ k, 0 ≤ f k) {a b : Nat} (l : a ≤ b) : s_sum f a ≤ s_sum f b := by
  obtain ⟨c, rfl⟩ := Nat.exists_eq_add_of_le l
  induction c with
  | zero => exact Int.le_refl _
  | succ c ih => have := ih (by omega); have := h (a + c : Nat); rw [show a + (c + 1) = (a + c) + 1 from rfl, s_sum]; omega
theorem s_bn_m (w : Int → Int) {k l : Int} (h0 : 0 ≤ k) (h : k ≤ l) : s_bn w k ≤ s_bn w l := s_sum_m (fun k => (s_bl_b w k).1) (by omega)
/-- breach i is c (of the layers below k) -/
def s_bi (w : Int → Int) (k i c : Int) : Prop := ∃ l, (0 ≤ l ∧ l < k) ∧ ((s_b1 w l = 1 ∧ i = s_bn w l ∧ c = 10 * l + 1) ∨ (s_b2 w l = 1 ∧ i = s_bn w l + s_b1 w l ∧ c = 10 * l + 2) ∨ (s_b3 w l = 1 ∧ i = s_bn w l + s_b1 w l + s_b2 w l ∧ c = 10 * l + 3))
theorem s_bi_b {w : Int → Int} {k i c : Int} (hk : k ≤ w 5) (h : s_bi w k i c) : 0 ≤ i ∧ i < s_bn w k ∧ 1 ≤ c := by
  obtain ⟨l, h1, h2⟩ := h
  have a1 := s_bn_s (w := w) h1.1
  have a2 := s_bl_eq (w := w) (l := l) (by omega)
  have a3 := s_bn_m w (k := l + 1) (l := k) (by omega) (by omega)
  have a4 := s_bn_m w (k := 0) (l := l) (by omega) (by omega)
  have a5 := s_bn_0 w
  have := s_b1_b w l
  have := s_b2_b w l
  have := s_b3_b w l
  omega
theorem s_bi_s {w : Int → Int} {k i c : Int} (h : s_bi w (k + 1) i c) : s_bi w k i c ∨ ((s_b1 w k = 1 ∧ i = s_bn w k ∧ c = 10 * k + 1) ∨ (s_b2 w k = 1 ∧ i = s_bn w k + s_b1 w k ∧ c = 10 * k + 2) ∨ (s_b3 w k = 1 ∧ i = s_bn w k + s_b1 w k + s_b2 w k ∧ c = 10 * k + 3)) := by
  obtain ⟨l, h1, h2⟩ := h
  by_cases e : l = k
  · subst e; exact Or.inr h2
  · exact Or.inl ⟨l, by omega, h2⟩
theorem s_kd_b (t : Int) : 0 ≤ s_kd t ∧ s_kd t ≤ 2 := by unfold s_kd; omega
theorem s_fk_b (w : Int → Int) : 0 ≤ s_fk w ∧ s_fk w ≤ 2 := by
  have := s_kd_b (w 3)
  unfold s_fk
  omega
theorem ct_165 {d : Nat} {m : aM} {Q : aO → aM → Prop} {f lo hi : Int} {w : Int → Int} (hd : 2 ≤ d) (hF : hFld m lo hi f w) (hw : (w 0 = 0 ∧ w 4 = -1) ∨ (1 ≤ w 0 ∧ 0 ≤ w 4)) (hQ : ∀ x, x = s_fk w → Q (.inl (some (aI x))) m) : am_wpc am_G am_T d 165 [aR f] m Q := by
  obtain ⟨a1, a2, a3, a4, a5, a6, a7, a8⟩ := hF
  refine am_in rfl hd (fun d hd => ?_)
  refine am_go 400 [] (am_wpc_cm _ _ _) wf_165 ?_
  refine And.intro (show (m f (-1)) = 5 by first | assumption | omega | (simp only [mS_iff, eq_self, Int.reduceEq, true_and, and_true, false_and, and_false, and_self, ↓reduceIte]; omega) | (simp only [mS_iff, eq_self, Int.reduceEq, true_and, and_true, false_and, and_false, and_self, ↓reduceIte] at *; omega)) ?_
  refine And.intro (fun h1 => ?_) (fun h1 => ?_)
  · refine And.intro (show (m f (-1)) = 5 by first | assumption | omega | (simp only [mS_iff, eq_self, Int.reduceEq, true_and, and_true, false_and, and_false, and_self, ↓reduceIte]; omega) | (simp only [mS_iff, eq_self, Int.reduceEq, true_and, and_true, false_and, and_false, and_self, ↓reduceIte] at *; omega)) ?_
    refine ct_36 (by omega) (fun v2 h3 => ?_)
    exact hQ _ (by simp only [a6, a7] at *; unfold s_fk; omega)
  · refine And.intro (show (m f (-1)) = 5 by first | assumption | omega | (simp only [mS_iff, eq_self, Int.reduceEq, true_and, and_true, false_and, and_false, and_self, ↓reduceIte]; omega) | (simp only [mS_iff, eq_self, Int.reduceEq, true_and, and_true, false_and, and_false, and_self, ↓reduceIte] at *; omega)) ?_
    refine ct_36 (by omega) (fun v4 h5 => ?_)
    refine And.intro (show (m f (-1)) = 5 by first | assumption | omega | (simp only [mS_iff, eq_self, Int.reduceEq, true_and, and_true, false_and, and_false, and_self, ↓reduceIte]; omega) | (simp only [mS_iff, eq_self, Int.reduceEq, true_and, and_true, false_and, and_false, and_self, ↓reduceIte] at *; omega)) ?_
    refine ct_36 (by omega) (fun v6 h7 => ?_)
    refine And.intro (fun h8 => ?_) (fun h8 => ?_)
    · exact hQ _ (by simp only [a6, a7] at *; unfold s_fk; omega)
    · refine And.intro (show (m f (-1)) = 5 by first | assumption | omega | (simp only [mS_iff, eq_self, Int.reduceEq, true_and, and_true, false_and, and_false, and_self, ↓reduceIte]; omega) | (simp only [mS_iff, eq_self, Int.reduceEq, true_and, and_true, false_and, and_false, and_self, ↓reduceIte] at *; omega)) ?_
      refine ct_36 (by omega) (fun v9 h10 => ?_)
      exact hQ _ (by simp only [a6, a7] at *; unfold s_fk; omega)
theorem ct_37 {d : Nat} {m : aM} {Q : aO → aM → Prop} {a b c : Int} (hd : 1 ≤ d) (hn : 0 ≤ m 1 5 ∧ m 1 5 < 18) (hQ1 : (a ≠ 0 ∧ a = b) → ∀ m', (∀ r j, r ≠ 5 → (r ≠ 1 ∨ j ≠ 5) → m' r j = m r j) → m' 1 5 = m 1 5 + 1 → m' 5 (m 1 5) = c → (∀ i, i ≠ m 1 5 → m' 5 i = m 5 i) → Q (.inl none) m') (hQ0 : ¬ (a ≠ 0 ∧ a = b) → Q (.inl none) m) : am_wpc am_G am_T d 37 [aR 1, aI a, aI b, aI c] m Q := by
  refine am_in rfl hd (fun d hd => ?_)
  refine am_go 400 [] (am_wpc_cm _ _ _) wf_37 ?_
  refine And.intro (fun h1 => ?_) (fun h1 => ?_)
  · exact hQ0 (by omega)
  · refine And.intro (fun h2 => ?_) (fun h2 => ?_)
    · exact hQ0 (by omega)
    · refine And.intro (rfl) ?_
      refine And.intro (rfl) ?_
      refine And.intro (⟨rfl, by first | omega | (simp only [mS_iff, eq_self, Int.reduceEq, true_and, and_true, false_and, and_false, and_self, ↓reduceIte]; omega) | (simp only [mS_iff, eq_self, Int.reduceEq, true_and, and_true, false_and, and_false, and_self, ↓reduceIte] at *; omega)⟩) ?_
      refine And.intro (rfl) ?_
      refine And.intro (show -2147483648 ≤ (m 1 5) + 1 ∧ (m 1 5) + 1 ≤ 2147483647 by first | omega | (simp only [mS_iff, eq_self, Int.reduceEq, true_and, and_true, false_and, and_false, and_self, ↓reduceIte]; omega) | (simp only [mS_iff, eq_self, Int.reduceEq, true_and, and_true, false_and, and_false, and_self, ↓reduceIte] at *; omega)) ?_
      refine And.intro (rfl) ?_
      exact hQ1 (by omega) _ (fun r j h1 h2 => by simp only [mS_iff, eq_self, Int.reduceEq, true_and, and_true, false_and, and_false, and_self, ↓reduceIte]; rw [if_neg (by omega), if_neg (by omega)]) (by simp [mS]) (by simp [mS]) (fun i hi => by simp [mS, hi])
/-- from m to m' only breachAt (5) and its count are written -/
def fr_J (m m' : aM) : Prop := ∀ r j, r ≠ 5 → (r ≠ 1 ∨ j ≠ 5) → m' r j = m r j
theorem fr_J.keep {m m' : aM} (h : fr_J m m') {lo hi : Int} (hl : 29 ≤ lo) : hKeep m m' lo hi := fun r h1 _ => ⟨h r _ (by omega) (by omega), fun _ => funext fun j => h r j (by omega) (by omega)⟩
theorem fr_J.trans {a b c : aM} (h : fr_J a b) (g : fr_J b c) : fr_J a c := fun r j h1 h2 => (g r j h1 h2).trans (h r j h1 h2)
theorem s_b1_eq (w : Int → Int) (l : Int) : s_b1 w l = if w (6 + 10 * l) = 0 ∧ 0 ≤ w (6 + 10 * l + 1) ∧ w (6 + 10 * l + 1) ≠ 7 ∧ 0 < s_fk w ∧ s_kd (w (6 + 10 * l + 3)) = s_fk w then 1 else 0 := rfl
theorem s_b2_eq (w : Int → Int) (l : Int) : s_b2 w l = if w (6 + 10 * l) = 0 ∧ (w (6 + 10 * l + 4) = 1 ∨ w (6 + 10 * l + 4) = 2) ∧ 0 < s_fk w ∧ s_kd (w (6 + 10 * l + 8)) = s_fk w then 1 else 0 := rfl
theorem s_b3_eq (w : Int → Int) (l : Int) : s_b3 w l = if w (6 + 10 * l) = 0 ∧ w (6 + 10 * l + 4) = 3 ∧ 0 < s_kd (w (6 + 10 * l + 3)) ∧ s_kd (w (6 + 10 * l + 8)) = s_kd (w (6 + 10 * l + 3)) then 1 else 0 := rfl
def s_bv (w : Int → Int) (k q : Int) : Int := if q = 1 then s_b1 w k else if q = 2 then s_b2 w k else if q = 3 then s_b3 w k else 0
def s_bp (w : Int → Int) (k q : Int) : Int := if q = 1 then s_bn w k else if q = 2 then s_bn w k + s_b1 w k else if q = 3 then s_bn w k + s_b1 w k + s_b2 w k else s_bn w k + s_b1 w k + s_b2 w k + s_b3 w k
/-- judging, at layer k ahead of sort q -/
def s_J (w : Int → Int) (k q : Int) (m m3 : aM) : Prop := fr_J m m3 ∧ m3 1 5 = s_bp w k q ∧ (∀ i c, s_bi w k i c → m3 5 i = c) ∧ (∀ p, 1 ≤ p → p < q → s_bv w k p = 1 → m3 5 (s_bp w k p) = 10 * k + p)
theorem s_bv_b (w : Int → Int) (k q : Int) : 0 ≤ s_bv w k q ∧ s_bv w k q ≤ 1 := by
  have := s_b1_b w k
  have := s_b2_b w k
  have := s_b3_b w k
  unfold s_bv
  omega
theorem s_bp_s (w : Int → Int) (k : Int) {q : Int} (h : 1 ≤ q ∧ q ≤ 3) : s_bp w k (q + 1) = s_bp w k q + s_bv w k q := by
  unfold s_bp s_bv
  omega
theorem s_bp_b (w : Int → Int) {k q : Int} (h : 1 ≤ q ∧ q ≤ 4) (hk : 0 ≤ k ∧ k < 6) : s_bn w k ≤ s_bp w k q ∧ s_bp w k q ≤ 3 * k + q - 1 ∧ 0 ≤ s_bn w k := by
  have := s_b1_b w k
  have := s_b2_b w k
  have := s_b3_b w k
  have := s_bn_b w (l := k) (by omega) (by omega)
  unfold s_bp
  omega
theorem s_J.skip {w : Int → Int} {k q : Int} {m m3 : aM} (h : s_J w k q m m3) (hq : 1 ≤ q ∧ q ≤ 3) (hv : s_bv w k q = 0) : s_J w k (q + 1) m m3 := by
  obtain ⟨h1, h2, h3, h4⟩ := h
  refine ⟨h1, by rw [s_bp_s w k hq, hv]; omega, h3, fun p p1 p2 p3 => ?_⟩
  by_cases e : p = q
  · subst e; omega
  · exact h4 p p1 (by omega) p3
theorem s_J.put {w : Int → Int} {k q : Int} {m m3 m4 : aM} (h : s_J w k q m m3) (hk : 0 ≤ k ∧ k < w 5 ∧ w 5 ≤ 6) (hq : 1 ≤ q ∧ q ≤ 3) (hv : s_bv w k q = 1) (f : fr_J m3 m4) (e1 : m4 1 5 = m3 1 5 + 1) (e2 : m4 5 (m3 1 5) = 10 * k + q) (e3 : ∀ i, i ≠ m3 1 5 → m4 5 i = m3 5 i) : s_J w k (q + 1) m m4 := by
  obtain ⟨h1, h2, h3, h4⟩ := h
  have b := s_bp_b w (k := k) (q := q) (by omega) (by omega)
  refine ⟨h1.trans f, by rw [s_bp_s w k hq, hv, e1, h2], fun i c hc => ?_, fun p p1 p2 p3 => ?_⟩
  · have := s_bi_b (by omega) hc
    rw [e3 i (by omega)]
    exact h3 i c hc
  · by_cases e : p = q
    · subst e; rw [← h2, e2]
    · have u1 := s_bp_s w k (q := p) (by omega)
      have u2 : s_bp w k (p + 1) ≤ s_bp w k q := by
        by_cases e' : p + 1 = q
        · rw [e']; exact Int.le_refl _
        · have u3 := s_bp_s w k (q := p + 1) (by omega)
          have u4 := s_bv_b w k (p + 1)
          rw [show q = p + 1 + 1 by omega]
          omega
      rw [e3 _ (by omega)]
      exact h4 p p1 (by omega) p3
theorem s_J.fin {w : Int → Int} {k : Int} {m m3 : aM} (h : s_J w k 4 m m3) (hk : 0 ≤ k ∧ k < w 5) : fr_J m m3 ∧ m3 1 5 = s_bn w (k + 1) ∧ (∀ i c, s_bi w (k + 1) i c → m3 5 i = c) := by
  obtain ⟨h1, h2, h3, h4⟩ := h
  refine ⟨h1, ?_, fun i c hc => ?_⟩
  · rw [h2, s_bn_s hk.1, s_bl_eq hk.2]
    unfold s_bp
    omega
  · rcases s_bi_s hc with hc | ⟨a, b, c⟩ | ⟨a, b, c⟩ | ⟨a, b, c⟩
    · exact h3 i c hc
    · have := h4 1 (by omega) (by omega) a
      rw [b, c]; exact this
    · have := h4 2 (by omega) (by omega) a
      rw [b, c]; exact this
    · have := h4 3 (by omega) (by omega) a
      rw [b, c]; exact this
theorem s_J.zero {w : Int → Int} {m m3 : aM} {k : Int} (h : fr_J m m3) (e : m3 1 5 = s_bn w k) (g : ∀ i c, s_bi w k i c → m3 5 i = c) : s_J w k 1 m m3 := ⟨h, e, g, fun p a b => by omega⟩
theorem ct_35 {d : Nat} {m : aM} {Q : aO → aM → Prop} {r lo hi : Int} {w : Int → Int} (hd : 3 ≤ d) (hA : hArms m lo hi r w) (hQ : ∀ m', fr_J m m' → m' 1 5 = s_bt w → (∀ i c, s_bi w (w 5) i c → m' 5 i = c) → Q (.inl none) m') : am_wpc am_G am_T d 35 [aR 1, aR r] m Q := by
  obtain ⟨a1, a2, a3, a4, a5, a6, a7, a8, a9⟩ := hA.basic
  have hw : (w 0 = 0 ∧ w 4 = -1) ∨ (1 ≤ w 0 ∧ 0 ≤ w 4) := by obtain ⟨o1, o2, o3, o4, o5, o6, o7, o8, o9⟩ := hA.row; omega
  have hF := hA.fld
  have k0 : hKeep m (mS m 1 5 0) lo hi := fun q h1 h2 => ⟨mS_a _ _ _ _ (by omega), fun _ => funext fun j => mS_a _ _ _ _ (by omega)⟩
  have k1 : mS m 1 5 0 r = m r := funext fun j => mS_a _ _ _ _ (by omega)
  obtain ⟨f1, f2, -⟩ := id hF
  refine am_in rfl hd (fun d hd => ?_)
  have K15 : ∀ (N : Nat), ∀ (k : Int) (t : Int) (x4 : aV), ∀ (m2 : aM), (6 - k).toNat = N → (0 ≤ k ∧ k ≤ w 5 ∧ t = s_fk w) → (s_J w k 1 m m2) → am_WP am_G (am_wpc am_G am_T d) [] cd_35 Q 15 [aR 1, aR r, aI t, aI k, x4] [] m2 := by
    intro N
    induction N using Nat.strongRecOn with
    | _ N ih15 =>
      intro k t x4 m2 hN i0 ii
      have fk := ii.1
      have hA2 := hA.keep (fk.keep a1) (by rw [fk 0 0 (by omega) (by omega)]; omega)
      obtain ⟨c1, c2, c3, c4, c5, c6, c7, c8, c9⟩ := hA2.basic
      have e9 := s_fk_b w
      have hl : m2 (m2 r 1) k = m (m r 1) k := by rw [fk r 1 (by omega) (by omega), fk (m r 1) k (by omega) (by omega)]
      have K164 : ∀ (m3 : aM), (k < w 5) → (s_J w k 4 m m3) → am_WP am_G (am_wpc am_G am_T d) [] cd_35 Q 164 [aR 1, aR r, aI t, aI k, aR (m (m r 1) k)] [] m3 := by
        intro m3 kk jj
        refine am_go 400 [15, 164, 123, 83, 32] (am_wpc_cm _ _ _) wf_35 ?_
        refine And.intro (show -2147483648 ≤ k + 1 ∧ k + 1 ≤ 2147483647 by first | omega | (simp only [mS_iff, eq_self, Int.reduceEq, true_and, and_true, false_and, and_false, and_self, ↓reduceIte]; omega) | (simp only [mS_iff, eq_self, Int.reduceEq, true_and, and_true, false_and, and_false, and_self, ↓reduceIte] at *; omega)) ?_
        refine ih15 _ ?_ _ _ _ _ (Eq.refl _) ?_ ?_
        · omega
        · first | omega | (simp only [mS_iff, eq_self, Int.reduceEq, true_and, and_true, false_and, and_false, and_self, ↓reduceIte]; omega) | (simp only [mS_iff, eq_self, Int.reduceEq, true_and, and_true, false_and, and_false, and_self, ↓reduceIte] at *; omega)
        · exact s_J.zero (jj.fin (by omega)).1 (jj.fin (by omega)).2.1 (jj.fin (by omega)).2.2
      have K123 : ∀ (m3 : aM), (k < w 5) → (w (6 + 10 * k) = 0) → (s_J w k 3 m m3) → am_WP am_G (am_wpc am_G am_T d) [] cd_35 Q 123 [aR 1, aR r, aI t, aI k, aR (m (m r 1) k)] [] m3 := by
        intro m3 kk ov jj
        have hL := (hA.lay (k := k) (by omega) (by omega)).keep (jj.1.keep a1)
        obtain ⟨l1, l2, -, l4, l5, l6, l7, l8, l9, -⟩ := hL
        have u := s_bp_b w (k := k) (q := 3) (by omega) (by omega)
        have u2 := jj.2.1
        have u3 := s_kd_b (w (6 + 10 * k + 3))
        refine am_go 400 [15, 164, 123, 83, 32] (am_wpc_cm _ _ _) wf_35 ?_
        refine And.intro (show (m3 (m (m r 1) k) (-1)) = 7 by first | assumption | omega | (simp only [mS_iff, eq_self, Int.reduceEq, true_and, and_true, false_and, and_false, and_self, ↓reduceIte]; omega) | (simp only [mS_iff, eq_self, Int.reduceEq, true_and, and_true, false_and, and_false, and_self, ↓reduceIte] at *; omega)) ?_
        refine And.intro (fun h1 => ?_) (fun h1 => ?_)
        · refine K164 _ ?_ ?_
          · first | omega | (simp only [mS_iff, eq_self, Int.reduceEq, true_and, and_true, false_and, and_false, and_self, ↓reduceIte]; omega) | (simp only [mS_iff, eq_self, Int.reduceEq, true_and, and_true, false_and, and_false, and_self, ↓reduceIte] at *; omega)
          · first | exact jj | exact jj.skip (by omega) (by show s_b3 w k = 0; rw [s_b3_eq]; omega) | exact ((jj.skip (by omega) (by show s_b1 w k = 0; rw [s_b1_eq]; omega)).skip (by omega) (by show s_b2 w k = 0; rw [s_b2_eq]; omega)).skip (by omega) (by show s_b3 w k = 0; rw [s_b3_eq]; omega)
        · rcases l6 with ⟨q1, ⟨q2, -, -, -, -, -⟩⟩ | ⟨q1, q2, q3, ⟨q4, q44, -, -, -, -, -, -, -, -, -, -, -⟩, -, -, -, q8, -⟩
          · omega
          · rcases l5 with ⟨p1, ⟨p2, -, -⟩⟩ | ⟨p1, p2, p3, ⟨p4, -, -, -, -, -⟩, p5, p6, p7, -⟩
            · omega
            refine And.intro (show (m3 (m (m r 1) k) (-1)) = 7 by first | assumption | omega | (simp only [mS_iff, eq_self, Int.reduceEq, true_and, and_true, false_and, and_false, and_self, ↓reduceIte]; omega) | (simp only [mS_iff, eq_self, Int.reduceEq, true_and, and_true, false_and, and_false, and_self, ↓reduceIte] at *; omega)) ?_
            refine And.intro (show (m3 (m3 (m (m r 1) k) 2) (-1)) = 10 by first | assumption | omega | (simp only [mS_iff, eq_self, Int.reduceEq, true_and, and_true, false_and, and_false, and_self, ↓reduceIte]; omega) | (simp only [mS_iff, eq_self, Int.reduceEq, true_and, and_true, false_and, and_false, and_self, ↓reduceIte] at *; omega)) ?_
            refine ct_36 (by omega) (fun v2 h3 => ?_)
            refine And.intro (show (m3 (m (m r 1) k) (-1)) = 7 by first | assumption | omega | (simp only [mS_iff, eq_self, Int.reduceEq, true_and, and_true, false_and, and_false, and_self, ↓reduceIte]; omega) | (simp only [mS_iff, eq_self, Int.reduceEq, true_and, and_true, false_and, and_false, and_self, ↓reduceIte] at *; omega)) ?_
            refine And.intro (show (m3 (m3 (m (m r 1) k) 1) (-1)) = 8 by first | assumption | omega | (simp only [mS_iff, eq_self, Int.reduceEq, true_and, and_true, false_and, and_false, and_self, ↓reduceIte]; omega) | (simp only [mS_iff, eq_self, Int.reduceEq, true_and, and_true, false_and, and_false, and_self, ↓reduceIte] at *; omega)) ?_
            refine ct_36 (by omega) (fun v4 h5 => ?_)
            refine And.intro (show -2147483648 ≤ 10 * k ∧ 10 * k ≤ 2147483647 by first | omega | (simp only [mS_iff, eq_self, Int.reduceEq, true_and, and_true, false_and, and_false, and_self, ↓reduceIte]; omega) | (simp only [mS_iff, eq_self, Int.reduceEq, true_and, and_true, false_and, and_false, and_self, ↓reduceIte] at *; omega)) ?_
            refine And.intro (show -2147483648 ≤ (10 * k) + 3 ∧ (10 * k) + 3 ≤ 2147483647 by first | omega | (simp only [mS_iff, eq_self, Int.reduceEq, true_and, and_true, false_and, and_false, and_self, ↓reduceIte]; omega) | (simp only [mS_iff, eq_self, Int.reduceEq, true_and, and_true, false_and, and_false, and_self, ↓reduceIte] at *; omega)) ?_
            refine And.intro (rfl) ?_
            refine ct_37 (by omega) (by omega) (fun h7 m6 h8 h9 h10 h11 => ?_) (fun h7 => ?_)
            · simp only [p7, q8] at h3 h5
              have z : s_bv w k 3 = 1 := by show s_b3 w k = 1; rw [s_b3_eq]; omega
              replace jj := jj.put (by omega) (by omega) z h8 h9 h10 h11
              refine K164 _ ?_ ?_
              · first | omega | (simp only [mS_iff, eq_self, Int.reduceEq, true_and, and_true, false_and, and_false, and_self, ↓reduceIte]; omega) | (simp only [mS_iff, eq_self, Int.reduceEq, true_and, and_true, false_and, and_false, and_self, ↓reduceIte] at *; omega)
              · first | exact jj | exact jj.skip (by omega) (by show s_b3 w k = 0; rw [s_b3_eq]; omega) | exact ((jj.skip (by omega) (by show s_b1 w k = 0; rw [s_b1_eq]; omega)).skip (by omega) (by show s_b2 w k = 0; rw [s_b2_eq]; omega)).skip (by omega) (by show s_b3 w k = 0; rw [s_b3_eq]; omega)
            · simp only [p7, q8] at h3 h5
              have z : s_bv w k 3 = 0 := by show s_b3 w k = 0; rw [s_b3_eq]; omega
              replace jj := jj.skip (by omega) z
              refine K164 _ ?_ ?_
              · first | omega | (simp only [mS_iff, eq_self, Int.reduceEq, true_and, and_true, false_and, and_false, and_self, ↓reduceIte]; omega) | (simp only [mS_iff, eq_self, Int.reduceEq, true_and, and_true, false_and, and_false, and_self, ↓reduceIte] at *; omega)
              · first | exact jj | exact jj.skip (by omega) (by show s_b3 w k = 0; rw [s_b3_eq]; omega) | exact ((jj.skip (by omega) (by show s_b1 w k = 0; rw [s_b1_eq]; omega)).skip (by omega) (by show s_b2 w k = 0; rw [s_b2_eq]; omega)).skip (by omega) (by show s_b3 w k = 0; rw [s_b3_eq]; omega)
      have K83 : ∀ (m3 : aM), (k < w 5) → (w (6 + 10 * k) = 0) → (s_J w k 2 m m3) → am_WP am_G (am_wpc am_G am_T d) [] cd_35 Q 83 [aR 1, aR r, aI t, aI k, aR (m (m r 1) k)] [] m3 := by
        intro m3 kk ov jj
        have hL := (hA.lay (k := k) (by omega) (by omega)).keep (jj.1.keep a1)
        obtain ⟨l1, l2, -, l4, l5, l6, l7, l8, l9, -⟩ := hL
        have u := s_bp_b w (k := k) (q := 2) (by omega) (by omega)
        have u2 := jj.2.1
        have u3 := s_kd_b (w (6 + 10 * k + 3))
        refine am_go 400 [15, 164, 123, 83, 32] (am_wpc_cm _ _ _) wf_35 ?_
        refine And.intro (show (m3 (m (m r 1) k) (-1)) = 7 by first | assumption | omega | (simp only [mS_iff, eq_self, Int.reduceEq, true_and, and_true, false_and, and_false, and_self, ↓reduceIte]; omega) | (simp only [mS_iff, eq_self, Int.reduceEq, true_and, and_true, false_and, and_false, and_self, ↓reduceIte] at *; omega)) ?_
        refine And.intro (fun h12 => ?_) (fun h12 => ?_)
        · rcases l6 with ⟨q1, ⟨q2, -, -, -, -, -⟩⟩ | ⟨q1, q2, q3, ⟨q4, q44, -, -, -, -, -, -, -, -, -, -, -⟩, -, -, -, q8, -⟩
          · omega
          · refine And.intro (show (m3 (m (m r 1) k) (-1)) = 7 by first | assumption | omega | (simp only [mS_iff, eq_self, Int.reduceEq, true_and, and_true, false_and, and_false, and_self, ↓reduceIte]; omega) | (simp only [mS_iff, eq_self, Int.reduceEq, true_and, and_true, false_and, and_false, and_self, ↓reduceIte] at *; omega)) ?_
            refine And.intro (show (m3 (m3 (m (m r 1) k) 2) (-1)) = 10 by first | assumption | omega | (simp only [mS_iff, eq_self, Int.reduceEq, true_and, and_true, false_and, and_false, and_self, ↓reduceIte]; omega) | (simp only [mS_iff, eq_self, Int.reduceEq, true_and, and_true, false_and, and_false, and_self, ↓reduceIte] at *; omega)) ?_
            refine ct_36 (by omega) (fun v13 h14 => ?_)
            refine And.intro (show -2147483648 ≤ 10 * k ∧ 10 * k ≤ 2147483647 by first | omega | (simp only [mS_iff, eq_self, Int.reduceEq, true_and, and_true, false_and, and_false, and_self, ↓reduceIte]; omega) | (simp only [mS_iff, eq_self, Int.reduceEq, true_and, and_true, false_and, and_false, and_self, ↓reduceIte] at *; omega)) ?_
            refine And.intro (show -2147483648 ≤ (10 * k) + 2 ∧ (10 * k) + 2 ≤ 2147483647 by first | omega | (simp only [mS_iff, eq_self, Int.reduceEq, true_and, and_true, false_and, and_false, and_self, ↓reduceIte]; omega) | (simp only [mS_iff, eq_self, Int.reduceEq, true_and, and_true, false_and, and_false, and_self, ↓reduceIte] at *; omega)) ?_
            refine And.intro (rfl) ?_
            refine ct_37 (by omega) (by omega) (fun h16 m15 h17 h18 h19 h20 => ?_) (fun h16 => ?_)
            · simp only [q8] at h14
              have z : s_bv w k 2 = 1 := by show s_b2 w k = 1; rw [s_b2_eq]; omega
              replace jj := jj.put (by omega) (by omega) z h17 h18 h19 h20
              refine K123 _ ?_ ?_ ?_
              · first | omega | (simp only [mS_iff, eq_self, Int.reduceEq, true_and, and_true, false_and, and_false, and_self, ↓reduceIte]; omega) | (simp only [mS_iff, eq_self, Int.reduceEq, true_and, and_true, false_and, and_false, and_self, ↓reduceIte] at *; omega)
              · first | omega | (simp only [mS_iff, eq_self, Int.reduceEq, true_and, and_true, false_and, and_false, and_self, ↓reduceIte]; omega) | (simp only [mS_iff, eq_self, Int.reduceEq, true_and, and_true, false_and, and_false, and_self, ↓reduceIte] at *; omega)
              · first | exact jj | exact jj.skip (by omega) (by show s_b2 w k = 0; rw [s_b2_eq]; omega)
            · simp only [q8] at h14
              have z : s_bv w k 2 = 0 := by show s_b2 w k = 0; rw [s_b2_eq]; omega
              replace jj := jj.skip (by omega) z
              refine K123 _ ?_ ?_ ?_
              · first | omega | (simp only [mS_iff, eq_self, Int.reduceEq, true_and, and_true, false_and, and_false, and_self, ↓reduceIte]; omega) | (simp only [mS_iff, eq_self, Int.reduceEq, true_and, and_true, false_and, and_false, and_self, ↓reduceIte] at *; omega)
              · first | omega | (simp only [mS_iff, eq_self, Int.reduceEq, true_and, and_true, false_and, and_false, and_self, ↓reduceIte]; omega) | (simp only [mS_iff, eq_self, Int.reduceEq, true_and, and_true, false_and, and_false, and_self, ↓reduceIte] at *; omega)
              · first | exact jj | exact jj.skip (by omega) (by show s_b2 w k = 0; rw [s_b2_eq]; omega)
        · refine And.intro (show (m3 (m (m r 1) k) (-1)) = 7 by first | assumption | omega | (simp only [mS_iff, eq_self, Int.reduceEq, true_and, and_true, false_and, and_false, and_self, ↓reduceIte]; omega) | (simp only [mS_iff, eq_self, Int.reduceEq, true_and, and_true, false_and, and_false, and_self, ↓reduceIte] at *; omega)) ?_
          refine And.intro (fun h21 => ?_) (fun h21 => ?_)
          · refine K123 _ ?_ ?_ ?_
            · first | omega | (simp only [mS_iff, eq_self, Int.reduceEq, true_and, and_true, false_and, and_false, and_self, ↓reduceIte]; omega) | (simp only [mS_iff, eq_self, Int.reduceEq, true_and, and_true, false_and, and_false, and_self, ↓reduceIte] at *; omega)
            · first | omega | (simp only [mS_iff, eq_self, Int.reduceEq, true_and, and_true, false_and, and_false, and_self, ↓reduceIte]; omega) | (simp only [mS_iff, eq_self, Int.reduceEq, true_and, and_true, false_and, and_false, and_self, ↓reduceIte] at *; omega)
            · first | exact jj | exact jj.skip (by omega) (by show s_b2 w k = 0; rw [s_b2_eq]; omega)
          · rcases l6 with ⟨q1, ⟨q2, -, -, -, -, -⟩⟩ | ⟨q1, q2, q3, ⟨q4, q44, -, -, -, -, -, -, -, -, -, -, -⟩, -, -, -, q8, -⟩
            · omega
            · refine And.intro (show (m3 (m (m r 1) k) (-1)) = 7 by first | assumption | omega | (simp only [mS_iff, eq_self, Int.reduceEq, true_and, and_true, false_and, and_false, and_self, ↓reduceIte]; omega) | (simp only [mS_iff, eq_self, Int.reduceEq, true_and, and_true, false_and, and_false, and_self, ↓reduceIte] at *; omega)) ?_
              refine And.intro (show (m3 (m3 (m (m r 1) k) 2) (-1)) = 10 by first | assumption | omega | (simp only [mS_iff, eq_self, Int.reduceEq, true_and, and_true, false_and, and_false, and_self, ↓reduceIte]; omega) | (simp only [mS_iff, eq_self, Int.reduceEq, true_and, and_true, false_and, and_false, and_self, ↓reduceIte] at *; omega)) ?_
              refine ct_36 (by omega) (fun v22 h23 => ?_)
              refine And.intro (show -2147483648 ≤ 10 * k ∧ 10 * k ≤ 2147483647 by first | omega | (simp only [mS_iff, eq_self, Int.reduceEq, true_and, and_true, false_and, and_false, and_self, ↓reduceIte]; omega) | (simp only [mS_iff, eq_self, Int.reduceEq, true_and, and_true, false_and, and_false, and_self, ↓reduceIte] at *; omega)) ?_
              refine And.intro (show -2147483648 ≤ (10 * k) + 2 ∧ (10 * k) + 2 ≤ 2147483647 by first | omega | (simp only [mS_iff, eq_self, Int.reduceEq, true_and, and_true, false_and, and_false, and_self, ↓reduceIte]; omega) | (simp only [mS_iff, eq_self, Int.reduceEq, true_and, and_true, false_and, and_false, and_self, ↓reduceIte] at *; omega)) ?_
              refine And.intro (rfl) ?_
              refine ct_37 (by omega) (by omega) (fun h25 m24 h26 h27 h28 h29 => ?_) (fun h25 => ?_)
              · simp only [q8] at h23
                have z : s_bv w k 2 = 1 := by show s_b2 w k = 1; rw [s_b2_eq]; omega
                replace jj := jj.put (by omega) (by omega) z h26 h27 h28 h29
                refine K123 _ ?_ ?_ ?_
                · first | omega | (simp only [mS_iff, eq_self, Int.reduceEq, true_and, and_true, false_and, and_false, and_self, ↓reduceIte]; omega) | (simp only [mS_iff, eq_self, Int.reduceEq, true_and, and_true, false_and, and_false, and_self, ↓reduceIte] at *; omega)
                · first | omega | (simp only [mS_iff, eq_self, Int.reduceEq, true_and, and_true, false_and, and_false, and_self, ↓reduceIte]; omega) | (simp only [mS_iff, eq_self, Int.reduceEq, true_and, and_true, false_and, and_false, and_self, ↓reduceIte] at *; omega)
                · first | exact jj | exact jj.skip (by omega) (by show s_b2 w k = 0; rw [s_b2_eq]; omega)
              · simp only [q8] at h23
                have z : s_bv w k 2 = 0 := by show s_b2 w k = 0; rw [s_b2_eq]; omega
                replace jj := jj.skip (by omega) z
                refine K123 _ ?_ ?_ ?_
                · first | omega | (simp only [mS_iff, eq_self, Int.reduceEq, true_and, and_true, false_and, and_false, and_self, ↓reduceIte]; omega) | (simp only [mS_iff, eq_self, Int.reduceEq, true_and, and_true, false_and, and_false, and_self, ↓reduceIte] at *; omega)
                · first | omega | (simp only [mS_iff, eq_self, Int.reduceEq, true_and, and_true, false_and, and_false, and_self, ↓reduceIte]; omega) | (simp only [mS_iff, eq_self, Int.reduceEq, true_and, and_true, false_and, and_false, and_self, ↓reduceIte] at *; omega)
                · first | exact jj | exact jj.skip (by omega) (by show s_b2 w k = 0; rw [s_b2_eq]; omega)
      have K32 : ∀ (m3 : aM), (k < w 5) → (s_J w k 1 m m3) → am_WP am_G (am_wpc am_G am_T d) [] cd_35 Q 32 [aR 1, aR r, aI t, aI k, aR (m (m r 1) k)] [] m3 := by
        intro m3 kk jj
        have hL := (hA.lay (k := k) (by omega) (by omega)).keep (jj.1.keep a1)
        obtain ⟨l1, l2, -, l4, l5, l6, l7, l8, l9, -⟩ := hL
        have u := s_bp_b w (k := k) (q := 1) (by omega) (by omega)
        have u2 := jj.2.1
        have u3 := s_kd_b (w (6 + 10 * k + 3))
        refine am_go 400 [15, 164, 123, 83, 32] (am_wpc_cm _ _ _) wf_35 ?_
        refine And.intro (show (m3 (m (m r 1) k) (-1)) = 7 by first | assumption | omega | (simp only [mS_iff, eq_self, Int.reduceEq, true_and, and_true, false_and, and_false, and_self, ↓reduceIte]; omega) | (simp only [mS_iff, eq_self, Int.reduceEq, true_and, and_true, false_and, and_false, and_self, ↓reduceIte] at *; omega)) ?_
        refine And.intro (fun h30 => ?_) (fun h30 => ?_)
        · refine K164 _ ?_ ?_
          · first | omega | (simp only [mS_iff, eq_self, Int.reduceEq, true_and, and_true, false_and, and_false, and_self, ↓reduceIte]; omega) | (simp only [mS_iff, eq_self, Int.reduceEq, true_and, and_true, false_and, and_false, and_self, ↓reduceIte] at *; omega)
          · first | exact jj | exact jj.skip (by omega) (by show s_b3 w k = 0; rw [s_b3_eq]; omega) | exact ((jj.skip (by omega) (by show s_b1 w k = 0; rw [s_b1_eq]; omega)).skip (by omega) (by show s_b2 w k = 0; rw [s_b2_eq]; omega)).skip (by omega) (by show s_b3 w k = 0; rw [s_b3_eq]; omega)
        · refine And.intro (show (m3 (m (m r 1) k) (-1)) = 7 by first | assumption | omega | (simp only [mS_iff, eq_self, Int.reduceEq, true_and, and_true, false_and, and_false, and_self, ↓reduceIte]; omega) | (simp only [mS_iff, eq_self, Int.reduceEq, true_and, and_true, false_and, and_false, and_self, ↓reduceIte] at *; omega)) ?_
          rcases l5 with ⟨p1, ⟨p2, -, -⟩⟩ | ⟨p1, p2, p3, ⟨p4, -, -, -, -, -⟩, p5, p6, p7, -⟩
          · refine And.intro (show (m3 (m (m r 1) k) 1) ≠ -9 by first | omega | (simp only [mS_iff, eq_self, Int.reduceEq, true_and, and_true, false_and, and_false, and_self, ↓reduceIte]; omega) | (simp only [mS_iff, eq_self, Int.reduceEq, true_and, and_true, false_and, and_false, and_self, ↓reduceIte] at *; omega)) ?_
            refine And.intro (fun _ => ?_) (fun h => absurd h (by omega))
            refine K83 _ ?_ ?_ ?_
            · first | omega | (simp only [mS_iff, eq_self, Int.reduceEq, true_and, and_true, false_and, and_false, and_self, ↓reduceIte]; omega) | (simp only [mS_iff, eq_self, Int.reduceEq, true_and, and_true, false_and, and_false, and_self, ↓reduceIte] at *; omega)
            · first | omega | (simp only [mS_iff, eq_self, Int.reduceEq, true_and, and_true, false_and, and_false, and_self, ↓reduceIte]; omega) | (simp only [mS_iff, eq_self, Int.reduceEq, true_and, and_true, false_and, and_false, and_self, ↓reduceIte] at *; omega)
            · first | exact jj | exact jj.skip (by omega) (by show s_b1 w k = 0; rw [s_b1_eq]; omega)
          · refine And.intro (show (m3 (m (m r 1) k) 1) ≠ -9 by first | omega | (simp only [mS_iff, eq_self, Int.reduceEq, true_and, and_true, false_and, and_false, and_self, ↓reduceIte]; omega) | (simp only [mS_iff, eq_self, Int.reduceEq, true_and, and_true, false_and, and_false, and_self, ↓reduceIte] at *; omega)) ?_
            refine And.intro (fun h => absurd h (by omega)) (fun _ => ?_)
            refine And.intro (show (m3 (m (m r 1) k) (-1)) = 7 by first | assumption | omega | (simp only [mS_iff, eq_self, Int.reduceEq, true_and, and_true, false_and, and_false, and_self, ↓reduceIte]; omega) | (simp only [mS_iff, eq_self, Int.reduceEq, true_and, and_true, false_and, and_false, and_self, ↓reduceIte] at *; omega)) ?_
            refine And.intro (show (m3 (m3 (m (m r 1) k) 1) (-1)) = 8 by first | assumption | omega | (simp only [mS_iff, eq_self, Int.reduceEq, true_and, and_true, false_and, and_false, and_self, ↓reduceIte]; omega) | (simp only [mS_iff, eq_self, Int.reduceEq, true_and, and_true, false_and, and_false, and_self, ↓reduceIte] at *; omega)) ?_
            refine And.intro (fun h31 => ?_) (fun h31 => ?_)
            · refine K83 _ ?_ ?_ ?_
              · first | omega | (simp only [mS_iff, eq_self, Int.reduceEq, true_and, and_true, false_and, and_false, and_self, ↓reduceIte]; omega) | (simp only [mS_iff, eq_self, Int.reduceEq, true_and, and_true, false_and, and_false, and_self, ↓reduceIte] at *; omega)
              · first | omega | (simp only [mS_iff, eq_self, Int.reduceEq, true_and, and_true, false_and, and_false, and_self, ↓reduceIte]; omega) | (simp only [mS_iff, eq_self, Int.reduceEq, true_and, and_true, false_and, and_false, and_self, ↓reduceIte] at *; omega)
              · first | exact jj | exact jj.skip (by omega) (by show s_b1 w k = 0; rw [s_b1_eq]; omega)
            · refine And.intro (show (m3 (m (m r 1) k) (-1)) = 7 by first | assumption | omega | (simp only [mS_iff, eq_self, Int.reduceEq, true_and, and_true, false_and, and_false, and_self, ↓reduceIte]; omega) | (simp only [mS_iff, eq_self, Int.reduceEq, true_and, and_true, false_and, and_false, and_self, ↓reduceIte] at *; omega)) ?_
              refine And.intro (show (m3 (m3 (m (m r 1) k) 1) (-1)) = 8 by first | assumption | omega | (simp only [mS_iff, eq_self, Int.reduceEq, true_and, and_true, false_and, and_false, and_self, ↓reduceIte]; omega) | (simp only [mS_iff, eq_self, Int.reduceEq, true_and, and_true, false_and, and_false, and_self, ↓reduceIte] at *; omega)) ?_
              refine ct_36 (by omega) (fun v32 h33 => ?_)
              refine And.intro (show -2147483648 ≤ 10 * k ∧ 10 * k ≤ 2147483647 by first | omega | (simp only [mS_iff, eq_self, Int.reduceEq, true_and, and_true, false_and, and_false, and_self, ↓reduceIte]; omega) | (simp only [mS_iff, eq_self, Int.reduceEq, true_and, and_true, false_and, and_false, and_self, ↓reduceIte] at *; omega)) ?_
              refine And.intro (show -2147483648 ≤ (10 * k) + 1 ∧ (10 * k) + 1 ≤ 2147483647 by first | omega | (simp only [mS_iff, eq_self, Int.reduceEq, true_and, and_true, false_and, and_false, and_self, ↓reduceIte]; omega) | (simp only [mS_iff, eq_self, Int.reduceEq, true_and, and_true, false_and, and_false, and_self, ↓reduceIte] at *; omega)) ?_
              refine And.intro (rfl) ?_
              refine ct_37 (by omega) (by omega) (fun h35 m34 h36 h37 h38 h39 => ?_) (fun h35 => ?_)
              · simp only [p7] at h33
                have z : s_bv w k 1 = 1 := by show s_b1 w k = 1; rw [s_b1_eq]; omega
                replace jj := jj.put (by omega) (by omega) z h36 h37 h38 h39
                refine K83 _ ?_ ?_ ?_
                · first | omega | (simp only [mS_iff, eq_self, Int.reduceEq, true_and, and_true, false_and, and_false, and_self, ↓reduceIte]; omega) | (simp only [mS_iff, eq_self, Int.reduceEq, true_and, and_true, false_and, and_false, and_self, ↓reduceIte] at *; omega)
                · first | omega | (simp only [mS_iff, eq_self, Int.reduceEq, true_and, and_true, false_and, and_false, and_self, ↓reduceIte]; omega) | (simp only [mS_iff, eq_self, Int.reduceEq, true_and, and_true, false_and, and_false, and_self, ↓reduceIte] at *; omega)
                · first | exact jj | exact jj.skip (by omega) (by show s_b1 w k = 0; rw [s_b1_eq]; omega)
              · simp only [p7] at h33
                have z : s_bv w k 1 = 0 := by show s_b1 w k = 0; rw [s_b1_eq]; omega
                replace jj := jj.skip (by omega) z
                refine K83 _ ?_ ?_ ?_
                · first | omega | (simp only [mS_iff, eq_self, Int.reduceEq, true_and, and_true, false_and, and_false, and_self, ↓reduceIte]; omega) | (simp only [mS_iff, eq_self, Int.reduceEq, true_and, and_true, false_and, and_false, and_self, ↓reduceIte] at *; omega)
                · first | omega | (simp only [mS_iff, eq_self, Int.reduceEq, true_and, and_true, false_and, and_false, and_self, ↓reduceIte]; omega) | (simp only [mS_iff, eq_self, Int.reduceEq, true_and, and_true, false_and, and_false, and_self, ↓reduceIte] at *; omega)
                · first | exact jj | exact jj.skip (by omega) (by show s_b1 w k = 0; rw [s_b1_eq]; omega)
      refine am_go 400 [15, 164, 123, 83, 32] (am_wpc_cm _ _ _) wf_35 ?_
      refine And.intro (show (m2 r (-1)) = 4 by first | assumption | omega | (simp only [mS_iff, eq_self, Int.reduceEq, true_and, and_true, false_and, and_false, and_self, ↓reduceIte]; omega) | (simp only [mS_iff, eq_self, Int.reduceEq, true_and, and_true, false_and, and_false, and_self, ↓reduceIte] at *; omega)) ?_
      refine And.intro (by first | omega | (simp only [mS_iff, eq_self, Int.reduceEq, true_and, and_true, false_and, and_false, and_self, ↓reduceIte]; omega) | (simp only [mS_iff, eq_self, Int.reduceEq, true_and, and_true, false_and, and_false, and_self, ↓reduceIte] at *; omega)) ?_
      refine And.intro (fun h40 => ?_) (fun h40 => ?_)
      · exact hQ _ fk (by rw [ii.2.1]; unfold s_bt; rw [show w 5 = k by omega]; rfl) (by rw [show w 5 = k by omega]; exact ii.2.2.1)
      · refine And.intro (show (m2 r (-1)) = 4 by first | assumption | omega | (simp only [mS_iff, eq_self, Int.reduceEq, true_and, and_true, false_and, and_false, and_self, ↓reduceIte]; omega) | (simp only [mS_iff, eq_self, Int.reduceEq, true_and, and_true, false_and, and_false, and_self, ↓reduceIte] at *; omega)) ?_
        refine And.intro (⟨by first | assumption | omega | (simp only [mS_iff, eq_self, Int.reduceEq, true_and, and_true, false_and, and_false, and_self, ↓reduceIte]; omega), by first | omega | (simp only [mS_iff, eq_self, Int.reduceEq, true_and, and_true, false_and, and_false, and_self, ↓reduceIte]; omega) | (simp only [mS_iff, eq_self, Int.reduceEq, true_and, and_true, false_and, and_false, and_self, ↓reduceIte] at *; omega)⟩) ?_
        rw [hl]
        refine K32 _ ?_ ?_
        · first | omega | (simp only [mS_iff, eq_self, Int.reduceEq, true_and, and_true, false_and, and_false, and_self, ↓reduceIte]; omega) | (simp only [mS_iff, eq_self, Int.reduceEq, true_and, and_true, false_and, and_false, and_self, ↓reduceIte] at *; omega)
        · exact ii
  refine am_go 400 [15, 164, 123, 83, 32] (am_wpc_cm _ _ _) wf_35 ?_
  refine And.intro (rfl) ?_
  refine And.intro (show ((mS m 1 5 0) r (-1)) = 4 by first | assumption | omega | (simp only [mS_iff, eq_self, Int.reduceEq, true_and, and_true, false_and, and_false, and_self, ↓reduceIte]; omega) | (simp only [mS_iff, eq_self, Int.reduceEq, true_and, and_true, false_and, and_false, and_self, ↓reduceIte] at *; omega)) ?_
  refine And.intro (show mS m 1 5 0 (mS m 1 5 0 r 0) (-1) = 5 by rw [k1, mS_a _ _ _ _ (by omega)]; exact f2) ?_
  refine ct_165 (by omega) (by rw [k1]; exact hF.keep k0) hw (fun v41 h42 => ?_)
  refine K15 _ _ _ _ _ (Eq.refl _) ?_ ?_
  · first | omega | (simp only [mS_iff, eq_self, Int.reduceEq, true_and, and_true, false_and, and_false, and_self, ↓reduceIte]; omega) | (simp only [mS_iff, eq_self, Int.reduceEq, true_and, and_true, false_and, and_false, and_self, ↓reduceIte] at *; omega)
  · refine s_J.zero (fun r j h1 h2 => ?_) (by rw [s_bn_0]; rfl) (fun i c ⟨l, hl, _⟩ => by omega)
    simp only [mS_iff, eq_self, Int.reduceEq, true_and, and_true, false_and, and_false, and_self, ↓reduceIte]
    rw [if_neg (by omega)]
theorem ct_189 {d : Nat} {m : aM} {Q : aO → aM → Prop} {a : Int} {w : Int → Int} (hd : 2 ≤ d) (hA : mRow m a w) (hQ : ∀ x, x = s_fk w → Q (.inl (some (aI x))) m) : am_wpc am_G am_T d 189 [aR 41, aI a] m Q := by
  refine am_in rfl hd (fun d hd => ?_)
  refine am_go 400 [] (am_wpc_cm _ _ _) wf_189 ?_
  refine And.intro (rfl) ?_
  refine ct_186 (by omega) hA (by omega) (fun v1 h2 => ?_)
  replace h2 : v1 = w 3 := h2
  refine ct_190 (by omega) (fun v3 h4 => ?_)
  refine And.intro (rfl) ?_
  refine ct_186 (by omega) hA (by omega) (fun v5 h6 => ?_)
  replace h6 : v5 = w 0 := h6
  refine And.intro (fun h7 => ?_) (fun h7 => ?_)
  · exact hQ _ (by simp only [h2, h4, h6] at *; unfold s_fk; omega)
  · refine And.intro (rfl) ?_
    refine ct_186 (by omega) hA (by omega) (fun v8 h9 => ?_)
    replace h9 : v8 = w 4 := h9
    refine ct_190 (by omega) (fun v10 h11 => ?_)
    refine And.intro (fun h12 => ?_) (fun h12 => ?_)
    · exact hQ _ (by simp only [h2, h4, h6, h9, h11] at *; unfold s_fk; omega)
    · exact hQ _ (by simp only [h2, h4, h6, h9, h11] at *; unfold s_fk; omega)
theorem ct_187_1 {d : Nat} {m : aM} {Q : aO → aM → Prop} {a l : Int} {w : Int → Int} (hd : 3 ≤ d) (hA : mRow m a w) (hl : 0 ≤ l ∧ l < 6) (ho : w (6 + 10 * l) = 0 ∨ w (6 + 10 * l) = 1) (hQ1 : s_b1 w l = 1 → Q (.inl (some (aI 1))) m) (hQ0 : s_b1 w l = 0 → Q (.inl (some (aI 0))) m) : am_wpc am_G am_T d 187 [aR 41, aI a, aI l, aI 1] m Q := by
  have e := s_b1_eq w l
  have u := s_fk_b w
  have u2 := s_kd_b (w (6 + 10 * l + 3))
  refine am_in rfl hd (fun d hd => ?_)
  refine am_go 400 [] (am_wpc_cm _ _ _) wf_187 ?_
  refine And.intro (rfl) ?_
  refine ct_188z (by omega) hA (by omega) (fun v1 h2 => ?_)
  refine And.intro (fun h3 => ?_) (fun h3 => ?_)
  · refine And.intro (rfl) ?_
    refine ct_189 (by omega) hA (fun v4 h5 => ?_)
    refine And.intro (rfl) ?_
    refine ct_188 (by omega) hA (by omega) (by omega) (fun v6 h7 => ?_)
    replace h7 : v6 = w (6 + 10 * l + 4) := h7
    refine And.intro (rfl) ?_
    refine ct_188 (by omega) hA (by omega) (by omega) (fun v8 h9 => ?_)
    replace h9 : v8 = w (6 + 10 * l + 1) := h9
    refine And.intro (fun h => absurd h (by decide)) (fun _ => ?_)
    refine And.intro (fun h10 => ?_) (fun h10 => ?_)
    · refine And.intro (by first | omega | (simp only [mS_iff, eq_self, Int.reduceEq, true_and, and_true, false_and, and_false, and_self, ↓reduceIte]; omega) | (simp only [mS_iff, eq_self, Int.reduceEq, true_and, and_true, false_and, and_false, and_self, ↓reduceIte] at *; omega)) ?_
      exact hQ0 (by first | (rw [e]; omega) | (simp only [h2, h5, h7, h9] at *; rw [e]; omega))
    · refine And.intro (fun h11 => ?_) (fun h11 => ?_)
      · refine And.intro (by first | omega | (simp only [mS_iff, eq_self, Int.reduceEq, true_and, and_true, false_and, and_false, and_self, ↓reduceIte]; omega) | (simp only [mS_iff, eq_self, Int.reduceEq, true_and, and_true, false_and, and_false, and_self, ↓reduceIte] at *; omega)) ?_
        exact hQ0 (by first | (rw [e]; omega) | (simp only [h2, h5, h7, h9] at *; rw [e]; omega))
      · refine And.intro (fun h12 => ?_) (fun h12 => ?_)
        · refine And.intro (by first | omega | (simp only [mS_iff, eq_self, Int.reduceEq, true_and, and_true, false_and, and_false, and_self, ↓reduceIte]; omega) | (simp only [mS_iff, eq_self, Int.reduceEq, true_and, and_true, false_and, and_false, and_self, ↓reduceIte] at *; omega)) ?_
          exact hQ0 (by first | (rw [e]; omega) | (simp only [h2, h5, h7, h9] at *; rw [e]; omega))
        · refine And.intro (rfl) ?_
          refine ct_188 (by omega) hA (by omega) (by omega) (fun v13 h14 => ?_)
          replace h14 : v13 = w (6 + 10 * l + 3) := h14
          refine ct_190 (by omega) (fun v15 h16 => ?_)
          refine And.intro (fun h17 => ?_) (fun h17 => ?_)
          · refine And.intro (by first | omega | (simp only [mS_iff, eq_self, Int.reduceEq, true_and, and_true, false_and, and_false, and_self, ↓reduceIte]; omega) | (simp only [mS_iff, eq_self, Int.reduceEq, true_and, and_true, false_and, and_false, and_self, ↓reduceIte] at *; omega)) ?_
            exact hQ0 (by first | (rw [e]; omega) | (simp only [h2, h5, h7, h9, h14, h16] at *; rw [e]; omega))
          · refine And.intro (by first | omega | (simp only [mS_iff, eq_self, Int.reduceEq, true_and, and_true, false_and, and_false, and_self, ↓reduceIte]; omega) | (simp only [mS_iff, eq_self, Int.reduceEq, true_and, and_true, false_and, and_false, and_self, ↓reduceIte] at *; omega)) ?_
            exact hQ1 (by first | (rw [e]; omega) | (simp only [h2, h5, h7, h9, h14, h16] at *; rw [e]; omega))
  · refine And.intro (by first | omega | (simp only [mS_iff, eq_self, Int.reduceEq, true_and, and_true, false_and, and_false, and_self, ↓reduceIte]; omega) | (simp only [mS_iff, eq_self, Int.reduceEq, true_and, and_true, false_and, and_false, and_self, ↓reduceIte] at *; omega)) ?_
    exact hQ0 (by first | (rw [e]; omega) | (simp only [h2] at *; rw [e]; omega))
theorem ct_187_2 {d : Nat} {m : aM} {Q : aO → aM → Prop} {a l : Int} {w : Int → Int} (hd : 3 ≤ d) (hA : mRow m a w) (hl : 0 ≤ l ∧ l < 6) (ho : w (6 + 10 * l) = 0 ∨ w (6 + 10 * l) = 1) (hQ1 : s_b2 w l = 1 → Q (.inl (some (aI 1))) m) (hQ0 : s_b2 w l = 0 → Q (.inl (some (aI 0))) m) : am_wpc am_G am_T d 187 [aR 41, aI a, aI l, aI 2] m Q := by
  have e := s_b2_eq w l
  have u := s_fk_b w
  have u2 := s_kd_b (w (6 + 10 * l + 3))
  refine am_in rfl hd (fun d hd => ?_)
  refine am_go 400 [] (am_wpc_cm _ _ _) wf_187 ?_
  refine And.intro (rfl) ?_
  refine ct_188z (by omega) hA (by omega) (fun v1 h2 => ?_)
  refine And.intro (fun h3 => ?_) (fun h3 => ?_)
  · refine And.intro (rfl) ?_
    refine ct_189 (by omega) hA (fun v4 h5 => ?_)
    refine And.intro (rfl) ?_
    refine ct_188 (by omega) hA (by omega) (by omega) (fun v6 h7 => ?_)
    replace h7 : v6 = w (6 + 10 * l + 4) := h7
    refine And.intro (rfl) ?_
    refine ct_188 (by omega) hA (by omega) (by omega) (fun v8 h9 => ?_)
    replace h9 : v8 = w (6 + 10 * l + 1) := h9
    refine And.intro (fun _ => ?_) (fun h => absurd h (by decide))
    refine And.intro (fun h => absurd h (by decide)) (fun _ => ?_)
    refine And.intro (fun h10 => ?_) (fun h10 => ?_)
    · refine And.intro (fun h11 => ?_) (fun h11 => ?_)
      · refine And.intro (by first | omega | (simp only [mS_iff, eq_self, Int.reduceEq, true_and, and_true, false_and, and_false, and_self, ↓reduceIte]; omega) | (simp only [mS_iff, eq_self, Int.reduceEq, true_and, and_true, false_and, and_false, and_self, ↓reduceIte] at *; omega)) ?_
        exact hQ0 (by first | (rw [e]; omega) | (simp only [h2, h5, h7, h9] at *; rw [e]; omega))
      · refine And.intro (rfl) ?_
        refine ct_188 (by omega) hA (by omega) (by omega) (fun v12 h13 => ?_)
        replace h13 : v12 = w (6 + 10 * l + 8) := h13
        refine ct_190 (by omega) (fun v14 h15 => ?_)
        refine And.intro (fun h16 => ?_) (fun h16 => ?_)
        · refine And.intro (by first | omega | (simp only [mS_iff, eq_self, Int.reduceEq, true_and, and_true, false_and, and_false, and_self, ↓reduceIte]; omega) | (simp only [mS_iff, eq_self, Int.reduceEq, true_and, and_true, false_and, and_false, and_self, ↓reduceIte] at *; omega)) ?_
          exact hQ0 (by first | (rw [e]; omega) | (simp only [h2, h5, h7, h9, h13, h15] at *; rw [e]; omega))
        · refine And.intro (by first | omega | (simp only [mS_iff, eq_self, Int.reduceEq, true_and, and_true, false_and, and_false, and_self, ↓reduceIte]; omega) | (simp only [mS_iff, eq_self, Int.reduceEq, true_and, and_true, false_and, and_false, and_self, ↓reduceIte] at *; omega)) ?_
          exact hQ1 (by first | (rw [e]; omega) | (simp only [h2, h5, h7, h9, h13, h15] at *; rw [e]; omega))
    · refine And.intro (fun h17 => ?_) (fun h17 => ?_)
      · refine And.intro (by first | omega | (simp only [mS_iff, eq_self, Int.reduceEq, true_and, and_true, false_and, and_false, and_self, ↓reduceIte]; omega) | (simp only [mS_iff, eq_self, Int.reduceEq, true_and, and_true, false_and, and_false, and_self, ↓reduceIte] at *; omega)) ?_
        exact hQ0 (by first | (rw [e]; omega) | (simp only [h2, h5, h7, h9] at *; rw [e]; omega))
      · refine And.intro (fun h18 => ?_) (fun h18 => ?_)
        · refine And.intro (by first | omega | (simp only [mS_iff, eq_self, Int.reduceEq, true_and, and_true, false_and, and_false, and_self, ↓reduceIte]; omega) | (simp only [mS_iff, eq_self, Int.reduceEq, true_and, and_true, false_and, and_false, and_self, ↓reduceIte] at *; omega)) ?_
          exact hQ0 (by first | (rw [e]; omega) | (simp only [h2, h5, h7, h9] at *; rw [e]; omega))
        · refine And.intro (rfl) ?_
          refine ct_188 (by omega) hA (by omega) (by omega) (fun v19 h20 => ?_)
          replace h20 : v19 = w (6 + 10 * l + 8) := h20
          refine ct_190 (by omega) (fun v21 h22 => ?_)
          refine And.intro (fun h23 => ?_) (fun h23 => ?_)
          · refine And.intro (by first | omega | (simp only [mS_iff, eq_self, Int.reduceEq, true_and, and_true, false_and, and_false, and_self, ↓reduceIte]; omega) | (simp only [mS_iff, eq_self, Int.reduceEq, true_and, and_true, false_and, and_false, and_self, ↓reduceIte] at *; omega)) ?_
            exact hQ0 (by first | (rw [e]; omega) | (simp only [h2, h5, h7, h9, h20, h22] at *; rw [e]; omega))
          · refine And.intro (by first | omega | (simp only [mS_iff, eq_self, Int.reduceEq, true_and, and_true, false_and, and_false, and_self, ↓reduceIte]; omega) | (simp only [mS_iff, eq_self, Int.reduceEq, true_and, and_true, false_and, and_false, and_self, ↓reduceIte] at *; omega)) ?_
            exact hQ1 (by first | (rw [e]; omega) | (simp only [h2, h5, h7, h9, h20, h22] at *; rw [e]; omega))
  · refine And.intro (by first | omega | (simp only [mS_iff, eq_self, Int.reduceEq, true_and, and_true, false_and, and_false, and_self, ↓reduceIte]; omega) | (simp only [mS_iff, eq_self, Int.reduceEq, true_and, and_true, false_and, and_false, and_self, ↓reduceIte] at *; omega)) ?_
    exact hQ0 (by first | (rw [e]; omega) | (simp only [h2] at *; rw [e]; omega))
theorem ct_187_3 {d : Nat} {m : aM} {Q : aO → aM → Prop} {a l : Int} {w : Int → Int} (hd : 3 ≤ d) (hA : mRow m a w) (hl : 0 ≤ l ∧ l < 6) (ho : w (6 + 10 * l) = 0 ∨ w (6 + 10 * l) = 1) (hQ1 : s_b3 w l = 1 → Q (.inl (some (aI 1))) m) (hQ0 : s_b3 w l = 0 → Q (.inl (some (aI 0))) m) : am_wpc am_G am_T d 187 [aR 41, aI a, aI l, aI 3] m Q := by
  have e := s_b3_eq w l
  have u := s_fk_b w
  have u2 := s_kd_b (w (6 + 10 * l + 3))
  refine am_in rfl hd (fun d hd => ?_)
  refine am_go 400 [] (am_wpc_cm _ _ _) wf_187 ?_
  refine And.intro (rfl) ?_
  refine ct_188z (by omega) hA (by omega) (fun v1 h2 => ?_)
  refine And.intro (fun h3 => ?_) (fun h3 => ?_)
  · refine And.intro (rfl) ?_
    refine ct_189 (by omega) hA (fun v4 h5 => ?_)
    refine And.intro (rfl) ?_
    refine ct_188 (by omega) hA (by omega) (by omega) (fun v6 h7 => ?_)
    replace h7 : v6 = w (6 + 10 * l + 4) := h7
    refine And.intro (rfl) ?_
    refine ct_188 (by omega) hA (by omega) (by omega) (fun v8 h9 => ?_)
    replace h9 : v8 = w (6 + 10 * l + 1) := h9
    refine And.intro (fun _ => ?_) (fun h => absurd h (by decide))
    refine And.intro (fun _ => ?_) (fun h => absurd h (by decide))
    refine And.intro (fun h10 => ?_) (fun h10 => ?_)
    · refine And.intro (fun _ => ?_) (fun h => absurd h (by decide))
      refine And.intro (by first | omega | (simp only [mS_iff, eq_self, Int.reduceEq, true_and, and_true, false_and, and_false, and_self, ↓reduceIte]; omega) | (simp only [mS_iff, eq_self, Int.reduceEq, true_and, and_true, false_and, and_false, and_self, ↓reduceIte] at *; omega)) ?_
      exact hQ0 (by first | (rw [e]; omega) | (simp only [h2, h5, h7, h9] at *; rw [e]; omega))
    · refine And.intro (rfl) ?_
      refine ct_188 (by omega) hA (by omega) (by omega) (fun v11 h12 => ?_)
      replace h12 : v11 = w (6 + 10 * l + 3) := h12
      refine ct_190 (by omega) (fun v13 h14 => ?_)
      refine And.intro (fun h15 => ?_) (fun h15 => ?_)
      · refine And.intro (by first | omega | (simp only [mS_iff, eq_self, Int.reduceEq, true_and, and_true, false_and, and_false, and_self, ↓reduceIte]; omega) | (simp only [mS_iff, eq_self, Int.reduceEq, true_and, and_true, false_and, and_false, and_self, ↓reduceIte] at *; omega)) ?_
        exact hQ0 (by first | (rw [e]; omega) | (simp only [h2, h5, h7, h9, h12, h14] at *; rw [e]; omega))
      · refine And.intro (rfl) ?_
        refine ct_188 (by omega) hA (by omega) (by omega) (fun v16 h17 => ?_)
        replace h17 : v16 = w (6 + 10 * l + 8) := h17
        refine ct_190 (by omega) (fun v18 h19 => ?_)
        refine And.intro (fun h20 => ?_) (fun h20 => ?_)
        · refine And.intro (by first | omega | (simp only [mS_iff, eq_self, Int.reduceEq, true_and, and_true, false_and, and_false, and_self, ↓reduceIte]; omega) | (simp only [mS_iff, eq_self, Int.reduceEq, true_and, and_true, false_and, and_false, and_self, ↓reduceIte] at *; omega)) ?_
          exact hQ0 (by first | (rw [e]; omega) | (simp only [h2, h5, h7, h9, h12, h14, h17, h19] at *; rw [e]; omega))
        · refine And.intro (by first | omega | (simp only [mS_iff, eq_self, Int.reduceEq, true_and, and_true, false_and, and_false, and_self, ↓reduceIte]; omega) | (simp only [mS_iff, eq_self, Int.reduceEq, true_and, and_true, false_and, and_false, and_self, ↓reduceIte] at *; omega)) ?_
          exact hQ1 (by first | (rw [e]; omega) | (simp only [h2, h5, h7, h9, h12, h14, h17, h19] at *; rw [e]; omega))
  · refine And.intro (by first | omega | (simp only [mS_iff, eq_self, Int.reduceEq, true_and, and_true, false_and, and_false, and_self, ↓reduceIte]; omega) | (simp only [mS_iff, eq_self, Int.reduceEq, true_and, and_true, false_and, and_false, and_self, ↓reduceIte] at *; omega)) ?_
    exact hQ0 (by first | (rw [e]; omega) | (simp only [h2] at *; rw [e]; omega))
theorem ct_185 {d : Nat} {m : aM} {Q : aO → aM → Prop} {a i : Int} {w : Int → Int} (hd : 4 ≤ d) (hA : mRow m a w) (hi : 0 ≤ i ∧ i < 2147483647) (hw : 0 ≤ w 5 ∧ w 5 ≤ 6) (ho : ∀ l, 0 ≤ l → l < w 5 → w (6 + 10 * l) = 0 ∨ w (6 + 10 * l) = 1) (hQ1 : ∀ c, s_bi w (w 5) i c → Q (.inl (some (aI c))) m) (hQ0 : s_bt w ≤ i → Q (.inl (some (aI (-1)))) m) : am_wpc am_G am_T d 185 [aR 41, aI a, aI i] m Q := by
  refine am_in rfl hd (fun d hd => ?_)
  have K5 : ∀ (N : Nat), ∀ (l : Int) (n : Int) (x5 : aV), (6 - l).toNat = N → (0 ≤ l ∧ l ≤ w 5 ∧ 0 ≤ n ∧ i = s_bn w l + n) → am_WP am_G (am_wpc am_G am_T d) [] cd_185 Q 5 [aR 41, aI a, aI i, aI n, aI l, x5] [] m := by
    intro N
    induction N using Nat.strongRecOn with
    | _ N ih5 =>
      intro l n x5 hN i0
      have e5 := s_bn_s (w := w) (l := l) (by omega)
      have e4 := s_bn_b w (l := l) (by omega) (by omega)
      have e6 := s_b1_b w l
      have e7 := s_b2_b w l
      have e8 := s_b3_b w l
      refine am_go 400 [5] (am_wpc_cm _ _ _) wf_185 ?_
      refine And.intro (rfl) ?_
      refine ct_186 (by omega) hA (by omega) (fun v1 h2 => ?_)
      replace h2 : v1 = w 5 := h2
      refine And.intro (fun h3 => ?_) (fun h3 => ?_)
      · exact hQ0 (by unfold s_bt; rw [show w 5 = l by omega]; omega)
      · have e9 := s_bl_eq (w := w) (l := l) (by omega)
        have e10 := ho l (by omega) (by omega)
        refine And.intro (fun h => absurd h (by decide)) (fun _ => ?_)
        refine And.intro (rfl) ?_
        refine ct_187_1 (by omega) hA (by omega) (by omega) (fun h4 => ?_) (fun h4 => ?_)
        · refine And.intro (fun h => absurd h (by decide)) (fun _ => ?_)
          refine And.intro (fun h5 => ?_) (fun h5 => ?_)
          · refine And.intro (show -2147483648 ≤ n + (-1) ∧ n + (-1) ≤ 2147483647 by first | omega | (simp only [mS_iff, eq_self, Int.reduceEq, true_and, and_true, false_and, and_false, and_self, ↓reduceIte]; omega) | (simp only [mS_iff, eq_self, Int.reduceEq, true_and, and_true, false_and, and_false, and_self, ↓reduceIte] at *; omega)) ?_
            refine And.intro (show -2147483648 ≤ 1 + 1 ∧ 1 + 1 ≤ 2147483647 by first | omega | (simp only [mS_iff, eq_self, Int.reduceEq, true_and, and_true, false_and, and_false, and_self, ↓reduceIte]; omega) | (simp only [mS_iff, eq_self, Int.reduceEq, true_and, and_true, false_and, and_false, and_self, ↓reduceIte] at *; omega)) ?_
            refine And.intro (fun h => absurd h (by decide)) (fun _ => ?_)
            refine And.intro (rfl) ?_
            refine ct_187_2 (by omega) hA (by omega) (by omega) (fun h6 => ?_) (fun h6 => ?_)
            · refine And.intro (fun h => absurd h (by decide)) (fun _ => ?_)
              refine And.intro (fun h7 => ?_) (fun h7 => ?_)
              · refine And.intro (show -2147483648 ≤ (n + (-1)) + (-1) ∧ (n + (-1)) + (-1) ≤ 2147483647 by first | omega | (simp only [mS_iff, eq_self, Int.reduceEq, true_and, and_true, false_and, and_false, and_self, ↓reduceIte]; omega) | (simp only [mS_iff, eq_self, Int.reduceEq, true_and, and_true, false_and, and_false, and_self, ↓reduceIte] at *; omega)) ?_
                refine And.intro (show -2147483648 ≤ 2 + 1 ∧ 2 + 1 ≤ 2147483647 by first | omega | (simp only [mS_iff, eq_self, Int.reduceEq, true_and, and_true, false_and, and_false, and_self, ↓reduceIte]; omega) | (simp only [mS_iff, eq_self, Int.reduceEq, true_and, and_true, false_and, and_false, and_self, ↓reduceIte] at *; omega)) ?_
                refine And.intro (fun h => absurd h (by decide)) (fun _ => ?_)
                refine And.intro (rfl) ?_
                refine ct_187_3 (by omega) hA (by omega) (by omega) (fun h8 => ?_) (fun h8 => ?_)
                · refine And.intro (fun h => absurd h (by decide)) (fun _ => ?_)
                  refine And.intro (fun h9 => ?_) (fun h9 => ?_)
                  · refine And.intro (show -2147483648 ≤ ((n + (-1)) + (-1)) + (-1) ∧ ((n + (-1)) + (-1)) + (-1) ≤ 2147483647 by first | omega | (simp only [mS_iff, eq_self, Int.reduceEq, true_and, and_true, false_and, and_false, and_self, ↓reduceIte]; omega) | (simp only [mS_iff, eq_self, Int.reduceEq, true_and, and_true, false_and, and_false, and_self, ↓reduceIte] at *; omega)) ?_
                    refine And.intro (show -2147483648 ≤ 3 + 1 ∧ 3 + 1 ≤ 2147483647 by first | omega | (simp only [mS_iff, eq_self, Int.reduceEq, true_and, and_true, false_and, and_false, and_self, ↓reduceIte]; omega) | (simp only [mS_iff, eq_self, Int.reduceEq, true_and, and_true, false_and, and_false, and_self, ↓reduceIte] at *; omega)) ?_
                    refine And.intro (fun _ => ?_) (fun h => absurd h (by decide))
                    refine And.intro (show -2147483648 ≤ l + 1 ∧ l + 1 ≤ 2147483647 by first | omega | (simp only [mS_iff, eq_self, Int.reduceEq, true_and, and_true, false_and, and_false, and_self, ↓reduceIte]; omega) | (simp only [mS_iff, eq_self, Int.reduceEq, true_and, and_true, false_and, and_false, and_self, ↓reduceIte] at *; omega)) ?_
                    refine ih5 _ ?_ _ _ _ (Eq.refl _) ?_
                    · omega
                    · omega
                  · refine And.intro (show -2147483648 ≤ 10 * l ∧ 10 * l ≤ 2147483647 by first | omega | (simp only [mS_iff, eq_self, Int.reduceEq, true_and, and_true, false_and, and_false, and_self, ↓reduceIte]; omega) | (simp only [mS_iff, eq_self, Int.reduceEq, true_and, and_true, false_and, and_false, and_self, ↓reduceIte] at *; omega)) ?_
                    refine And.intro (show -2147483648 ≤ (10 * l) + 3 ∧ (10 * l) + 3 ≤ 2147483647 by first | omega | (simp only [mS_iff, eq_self, Int.reduceEq, true_and, and_true, false_and, and_false, and_self, ↓reduceIte]; omega) | (simp only [mS_iff, eq_self, Int.reduceEq, true_and, and_true, false_and, and_false, and_self, ↓reduceIte] at *; omega)) ?_
                    exact hQ1 _ ⟨l, by omega, by omega⟩
                · refine And.intro (fun _ => ?_) (fun h => absurd h (by decide))
                  refine And.intro (show -2147483648 ≤ 3 + 1 ∧ 3 + 1 ≤ 2147483647 by first | omega | (simp only [mS_iff, eq_self, Int.reduceEq, true_and, and_true, false_and, and_false, and_self, ↓reduceIte]; omega) | (simp only [mS_iff, eq_self, Int.reduceEq, true_and, and_true, false_and, and_false, and_self, ↓reduceIte] at *; omega)) ?_
                  refine And.intro (fun _ => ?_) (fun h => absurd h (by decide))
                  refine And.intro (show -2147483648 ≤ l + 1 ∧ l + 1 ≤ 2147483647 by first | omega | (simp only [mS_iff, eq_self, Int.reduceEq, true_and, and_true, false_and, and_false, and_self, ↓reduceIte]; omega) | (simp only [mS_iff, eq_self, Int.reduceEq, true_and, and_true, false_and, and_false, and_self, ↓reduceIte] at *; omega)) ?_
                  refine ih5 _ ?_ _ _ _ (Eq.refl _) ?_
                  · omega
                  · omega
              · refine And.intro (show -2147483648 ≤ 10 * l ∧ 10 * l ≤ 2147483647 by first | omega | (simp only [mS_iff, eq_self, Int.reduceEq, true_and, and_true, false_and, and_false, and_self, ↓reduceIte]; omega) | (simp only [mS_iff, eq_self, Int.reduceEq, true_and, and_true, false_and, and_false, and_self, ↓reduceIte] at *; omega)) ?_
                refine And.intro (show -2147483648 ≤ (10 * l) + 2 ∧ (10 * l) + 2 ≤ 2147483647 by first | omega | (simp only [mS_iff, eq_self, Int.reduceEq, true_and, and_true, false_and, and_false, and_self, ↓reduceIte]; omega) | (simp only [mS_iff, eq_self, Int.reduceEq, true_and, and_true, false_and, and_false, and_self, ↓reduceIte] at *; omega)) ?_
                exact hQ1 _ ⟨l, by omega, by omega⟩
            · refine And.intro (fun _ => ?_) (fun h => absurd h (by decide))
              refine And.intro (show -2147483648 ≤ 2 + 1 ∧ 2 + 1 ≤ 2147483647 by first | omega | (simp only [mS_iff, eq_self, Int.reduceEq, true_and, and_true, false_and, and_false, and_self, ↓reduceIte]; omega) | (simp only [mS_iff, eq_self, Int.reduceEq, true_and, and_true, false_and, and_false, and_self, ↓reduceIte] at *; omega)) ?_
              refine And.intro (fun h => absurd h (by decide)) (fun _ => ?_)
              refine And.intro (rfl) ?_
              refine ct_187_3 (by omega) hA (by omega) (by omega) (fun h10 => ?_) (fun h10 => ?_)
              · refine And.intro (fun h => absurd h (by decide)) (fun _ => ?_)
                refine And.intro (fun h11 => ?_) (fun h11 => ?_)
                · refine And.intro (show -2147483648 ≤ (n + (-1)) + (-1) ∧ (n + (-1)) + (-1) ≤ 2147483647 by first | omega | (simp only [mS_iff, eq_self, Int.reduceEq, true_and, and_true, false_and, and_false, and_self, ↓reduceIte]; omega) | (simp only [mS_iff, eq_self, Int.reduceEq, true_and, and_true, false_and, and_false, and_self, ↓reduceIte] at *; omega)) ?_
                  refine And.intro (show -2147483648 ≤ 3 + 1 ∧ 3 + 1 ≤ 2147483647 by first | omega | (simp only [mS_iff, eq_self, Int.reduceEq, true_and, and_true, false_and, and_false, and_self, ↓reduceIte]; omega) | (simp only [mS_iff, eq_self, Int.reduceEq, true_and, and_true, false_and, and_false, and_self, ↓reduceIte] at *; omega)) ?_
                  refine And.intro (fun _ => ?_) (fun h => absurd h (by decide))
                  refine And.intro (show -2147483648 ≤ l + 1 ∧ l + 1 ≤ 2147483647 by first | omega | (simp only [mS_iff, eq_self, Int.reduceEq, true_and, and_true, false_and, and_false, and_self, ↓reduceIte]; omega) | (simp only [mS_iff, eq_self, Int.reduceEq, true_and, and_true, false_and, and_false, and_self, ↓reduceIte] at *; omega)) ?_
                  refine ih5 _ ?_ _ _ _ (Eq.refl _) ?_
                  · omega
                  · omega
                · refine And.intro (show -2147483648 ≤ 10 * l ∧ 10 * l ≤ 2147483647 by first | omega | (simp only [mS_iff, eq_self, Int.reduceEq, true_and, and_true, false_and, and_false, and_self, ↓reduceIte]; omega) | (simp only [mS_iff, eq_self, Int.reduceEq, true_and, and_true, false_and, and_false, and_self, ↓reduceIte] at *; omega)) ?_
                  refine And.intro (show -2147483648 ≤ (10 * l) + 3 ∧ (10 * l) + 3 ≤ 2147483647 by first | omega | (simp only [mS_iff, eq_self, Int.reduceEq, true_and, and_true, false_and, and_false, and_self, ↓reduceIte]; omega) | (simp only [mS_iff, eq_self, Int.reduceEq, true_and, and_true, false_and, and_false, and_self, ↓reduceIte] at *; omega)) ?_
                  exact hQ1 _ ⟨l, by omega, by omega⟩
              · refine And.intro (fun _ => ?_) (fun h => absurd h (by decide))
                refine And.intro (show -2147483648 ≤ 3 + 1 ∧ 3 + 1 ≤ 2147483647 by first | omega | (simp only [mS_iff, eq_self, Int.reduceEq, true_and, and_true, false_and, and_false, and_self, ↓reduceIte]; omega) | (simp only [mS_iff, eq_self, Int.reduceEq, true_and, and_true, false_and, and_false, and_self, ↓reduceIte] at *; omega)) ?_
                refine And.intro (fun _ => ?_) (fun h => absurd h (by decide))
                refine And.intro (show -2147483648 ≤ l + 1 ∧ l + 1 ≤ 2147483647 by first | omega | (simp only [mS_iff, eq_self, Int.reduceEq, true_and, and_true, false_and, and_false, and_self, ↓reduceIte]; omega) | (simp only [mS_iff, eq_self, Int.reduceEq, true_and, and_true, false_and, and_false, and_self, ↓reduceIte] at *; omega)) ?_
                refine ih5 _ ?_ _ _ _ (Eq.refl _) ?_
                · omega
                · omega
          · refine And.intro (show -2147483648 ≤ 10 * l ∧ 10 * l ≤ 2147483647 by first | omega | (simp only [mS_iff, eq_self, Int.reduceEq, true_and, and_true, false_and, and_false, and_self, ↓reduceIte]; omega) | (simp only [mS_iff, eq_self, Int.reduceEq, true_and, and_true, false_and, and_false, and_self, ↓reduceIte] at *; omega)) ?_
            refine And.intro (show -2147483648 ≤ (10 * l) + 1 ∧ (10 * l) + 1 ≤ 2147483647 by first | omega | (simp only [mS_iff, eq_self, Int.reduceEq, true_and, and_true, false_and, and_false, and_self, ↓reduceIte]; omega) | (simp only [mS_iff, eq_self, Int.reduceEq, true_and, and_true, false_and, and_false, and_self, ↓reduceIte] at *; omega)) ?_
            exact hQ1 _ ⟨l, by omega, by omega⟩
        · refine And.intro (fun _ => ?_) (fun h => absurd h (by decide))
          refine And.intro (show -2147483648 ≤ 1 + 1 ∧ 1 + 1 ≤ 2147483647 by first | omega | (simp only [mS_iff, eq_self, Int.reduceEq, true_and, and_true, false_and, and_false, and_self, ↓reduceIte]; omega) | (simp only [mS_iff, eq_self, Int.reduceEq, true_and, and_true, false_and, and_false, and_self, ↓reduceIte] at *; omega)) ?_
          refine And.intro (fun h => absurd h (by decide)) (fun _ => ?_)
          refine And.intro (rfl) ?_
          refine ct_187_2 (by omega) hA (by omega) (by omega) (fun h12 => ?_) (fun h12 => ?_)
          · refine And.intro (fun h => absurd h (by decide)) (fun _ => ?_)
            refine And.intro (fun h13 => ?_) (fun h13 => ?_)
            · refine And.intro (show -2147483648 ≤ n + (-1) ∧ n + (-1) ≤ 2147483647 by first | omega | (simp only [mS_iff, eq_self, Int.reduceEq, true_and, and_true, false_and, and_false, and_self, ↓reduceIte]; omega) | (simp only [mS_iff, eq_self, Int.reduceEq, true_and, and_true, false_and, and_false, and_self, ↓reduceIte] at *; omega)) ?_
              refine And.intro (show -2147483648 ≤ 2 + 1 ∧ 2 + 1 ≤ 2147483647 by first | omega | (simp only [mS_iff, eq_self, Int.reduceEq, true_and, and_true, false_and, and_false, and_self, ↓reduceIte]; omega) | (simp only [mS_iff, eq_self, Int.reduceEq, true_and, and_true, false_and, and_false, and_self, ↓reduceIte] at *; omega)) ?_
              refine And.intro (fun h => absurd h (by decide)) (fun _ => ?_)
              refine And.intro (rfl) ?_
              refine ct_187_3 (by omega) hA (by omega) (by omega) (fun h14 => ?_) (fun h14 => ?_)
              · refine And.intro (fun h => absurd h (by decide)) (fun _ => ?_)
                refine And.intro (fun h15 => ?_) (fun h15 => ?_)
                · refine And.intro (show -2147483648 ≤ (n + (-1)) + (-1) ∧ (n + (-1)) + (-1) ≤ 2147483647 by first | omega | (simp only [mS_iff, eq_self, Int.reduceEq, true_and, and_true, false_and, and_false, and_self, ↓reduceIte]; omega) | (simp only [mS_iff, eq_self, Int.reduceEq, true_and, and_true, false_and, and_false, and_self, ↓reduceIte] at *; omega)) ?_
                  refine And.intro (show -2147483648 ≤ 3 + 1 ∧ 3 + 1 ≤ 2147483647 by first | omega | (simp only [mS_iff, eq_self, Int.reduceEq, true_and, and_true, false_and, and_false, and_self, ↓reduceIte]; omega) | (simp only [mS_iff, eq_self, Int.reduceEq, true_and, and_true, false_and, and_false, and_self, ↓reduceIte] at *; omega)) ?_
                  refine And.intro (fun _ => ?_) (fun h => absurd h (by decide))
                  refine And.intro (show -2147483648 ≤ l + 1 ∧ l + 1 ≤ 2147483647 by first | omega | (simp only [mS_iff, eq_self, Int.reduceEq, true_and, and_true, false_and, and_false, and_self, ↓reduceIte]; omega) | (simp only [mS_iff, eq_self, Int.reduceEq, true_and, and_true, false_and, and_false, and_self, ↓reduceIte] at *; omega)) ?_
                  refine ih5 _ ?_ _ _ _ (Eq.refl _) ?_
                  · omega
                  · omega
                · refine And.intro (show -2147483648 ≤ 10 * l ∧ 10 * l ≤ 2147483647 by first | omega | (simp only [mS_iff, eq_self, Int.reduceEq, true_and, and_true, false_and, and_false, and_self, ↓reduceIte]; omega) | (simp only [mS_iff, eq_self, Int.reduceEq, true_and, and_true, false_and, and_false, and_self, ↓reduceIte] at *; omega)) ?_
                  refine And.intro (show -2147483648 ≤ (10 * l) + 3 ∧ (10 * l) + 3 ≤ 2147483647 by first | omega | (simp only [mS_iff, eq_self, Int.reduceEq, true_and, and_true, false_and, and_false, and_self, ↓reduceIte]; omega) | (simp only [mS_iff, eq_self, Int.reduceEq, true_and, and_true, false_and, and_false, and_self, ↓reduceIte] at *; omega)) ?_
                  exact hQ1 _ ⟨l, by omega, by omega⟩
              · refine And.intro (fun _ => ?_) (fun h => absurd h (by decide))
                refine And.intro (show -2147483648 ≤ 3 + 1 ∧ 3 + 1 ≤ 2147483647 by first | omega | (simp only [mS_iff, eq_self, Int.reduceEq, true_and, and_true, false_and, and_false, and_self, ↓reduceIte]; omega) | (simp only [mS_iff, eq_self, Int.reduceEq, true_and, and_true, false_and, and_false, and_self, ↓reduceIte] at *; omega)) ?_
                refine And.intro (fun _ => ?_) (fun h => absurd h (by decide))
                refine And.intro (show -2147483648 ≤ l + 1 ∧ l + 1 ≤ 2147483647 by first | omega | (simp only [mS_iff, eq_self, Int.reduceEq, true_and, and_true, false_and, and_false, and_self, ↓reduceIte]; omega) | (simp only [mS_iff, eq_self, Int.reduceEq, true_and, and_true, false_and, and_false, and_self, ↓reduceIte] at *; omega)) ?_
                refine ih5 _ ?_ _ _ _ (Eq.refl _) ?_
                · omega
                · omega
            · refine And.intro (show -2147483648 ≤ 10 * l ∧ 10 * l ≤ 2147483647 by first | omega | (simp only [mS_iff, eq_self, Int.reduceEq, true_and, and_true, false_and, and_false, and_self, ↓reduceIte]; omega) | (simp only [mS_iff, eq_self, Int.reduceEq, true_and, and_true, false_and, and_false, and_self, ↓reduceIte] at *; omega)) ?_
              refine And.intro (show -2147483648 ≤ (10 * l) + 2 ∧ (10 * l) + 2 ≤ 2147483647 by first | omega | (simp only [mS_iff, eq_self, Int.reduceEq, true_and, and_true, false_and, and_false, and_self, ↓reduceIte]; omega) | (simp only [mS_iff, eq_self, Int.reduceEq, true_and, and_true, false_and, and_false, and_self, ↓reduceIte] at *; omega)) ?_
              exact hQ1 _ ⟨l, by omega, by omega⟩
          · refine And.intro (fun _ => ?_) (fun h => absurd h (by decide))
            refine And.intro (show -2147483648 ≤ 2 + 1 ∧ 2 + 1 ≤ 2147483647 by first | omega | (simp only [mS_iff, eq_self, Int.reduceEq, true_and, and_true, false_and, and_false, and_self, ↓reduceIte]; omega) | (simp only [mS_iff, eq_self, Int.reduceEq, true_and, and_true, false_and, and_false, and_self, ↓reduceIte] at *; omega)) ?_
            refine And.intro (fun h => absurd h (by decide)) (fun _ => ?_)
            refine And.intro (rfl) ?_
            refine ct_187_3 (by omega) hA (by omega) (by omega) (fun h16 => ?_) (fun h16 => ?_)
            · refine And.intro (fun h => absurd h (by decide)) (fun _ => ?_)
              refine And.intro (fun h17 => ?_) (fun h17 => ?_)
              · refine And.intro (show -2147483648 ≤ n + (-1) ∧ n + (-1) ≤ 2147483647 by first | omega | (simp only [mS_iff, eq_self, Int.reduceEq, true_and, and_true, false_and, and_false, and_self, ↓reduceIte]; omega) | (simp only [mS_iff, eq_self, Int.reduceEq, true_and, and_true, false_and, and_false, and_self, ↓reduceIte] at *; omega)) ?_
                refine And.intro (show -2147483648 ≤ 3 + 1 ∧ 3 + 1 ≤ 2147483647 by first | omega | (simp only [mS_iff, eq_self, Int.reduceEq, true_and, and_true, false_and, and_false, and_self, ↓reduceIte]; omega) | (simp only [mS_iff, eq_self, Int.reduceEq, true_and, and_true, false_and, and_false, and_self, ↓reduceIte] at *; omega)) ?_
                refine And.intro (fun _ => ?_) (fun h => absurd h (by decide))
                refine And.intro (show -2147483648 ≤ l + 1 ∧ l + 1 ≤ 2147483647 by first | omega | (simp only [mS_iff, eq_self, Int.reduceEq, true_and, and_true, false_and, and_false, and_self, ↓reduceIte]; omega) | (simp only [mS_iff, eq_self, Int.reduceEq, true_and, and_true, false_and, and_false, and_self, ↓reduceIte] at *; omega)) ?_
                refine ih5 _ ?_ _ _ _ (Eq.refl _) ?_
                · omega
                · omega
              · refine And.intro (show -2147483648 ≤ 10 * l ∧ 10 * l ≤ 2147483647 by first | omega | (simp only [mS_iff, eq_self, Int.reduceEq, true_and, and_true, false_and, and_false, and_self, ↓reduceIte]; omega) | (simp only [mS_iff, eq_self, Int.reduceEq, true_and, and_true, false_and, and_false, and_self, ↓reduceIte] at *; omega)) ?_
                refine And.intro (show -2147483648 ≤ (10 * l) + 3 ∧ (10 * l) + 3 ≤ 2147483647 by first | omega | (simp only [mS_iff, eq_self, Int.reduceEq, true_and, and_true, false_and, and_false, and_self, ↓reduceIte]; omega) | (simp only [mS_iff, eq_self, Int.reduceEq, true_and, and_true, false_and, and_false, and_self, ↓reduceIte] at *; omega)) ?_
                exact hQ1 _ ⟨l, by omega, by omega⟩
            · refine And.intro (fun _ => ?_) (fun h => absurd h (by decide))
              refine And.intro (show -2147483648 ≤ 3 + 1 ∧ 3 + 1 ≤ 2147483647 by first | omega | (simp only [mS_iff, eq_self, Int.reduceEq, true_and, and_true, false_and, and_false, and_self, ↓reduceIte]; omega) | (simp only [mS_iff, eq_self, Int.reduceEq, true_and, and_true, false_and, and_false, and_self, ↓reduceIte] at *; omega)) ?_
              refine And.intro (fun _ => ?_) (fun h => absurd h (by decide))
              refine And.intro (show -2147483648 ≤ l + 1 ∧ l + 1 ≤ 2147483647 by first | omega | (simp only [mS_iff, eq_self, Int.reduceEq, true_and, and_true, false_and, and_false, and_self, ↓reduceIte]; omega) | (simp only [mS_iff, eq_self, Int.reduceEq, true_and, and_true, false_and, and_false, and_self, ↓reduceIte] at *; omega)) ?_
              refine ih5 _ ?_ _ _ _ (Eq.refl _) ?_
              · omega
              · omega
  refine am_go 400 [5] (am_wpc_cm _ _ _) wf_185 ?_
  refine K5 _ _ _ _ (Eq.refl _) ?_
  · have := s_bn_0 w
    omega
theorem ct_234 {d : Nat} {m : aM} {Q : aO → aM → Prop} {a : Int} {w : Int → Int} (hd : 5 ≤ d) (hA : mRow m a w) (hw : 0 ≤ w 5 ∧ w 5 ≤ 6) (ho : ∀ l, 0 ≤ l → l < w 5 → w (6 + 10 * l) = 0 ∨ w (6 + 10 * l) = 1) (hQ : ∀ x, x = s_bt w → Q (.inl (some (aI x))) m) : am_wpc am_G am_T d 234 [aR 41, aI a] m Q := by
  have e := s_bn_b w (l := w 5) (by omega) (by omega)
  have e0 : s_bt w = s_bn w (w 5) := rfl
  refine am_in rfl hd (fun d hd => ?_)
  have K2 : ∀ (N : Nat), ∀ (n : Int), (20 - n).toNat = N → (0 ≤ n ∧ n ≤ s_bt w) → am_WP am_G (am_wpc am_G am_T d) [] cd_234 Q 2 [aR 41, aI a, aI n] [] m := by
    intro N
    induction N using Nat.strongRecOn with
    | _ N ih2 =>
      intro n hN i0
      refine am_go 400 [2] (am_wpc_cm _ _ _) wf_234 ?_
      refine And.intro (rfl) ?_
      refine ct_185 (by omega) hA (by omega) hw ho (fun c2 h1 => ?_) (fun h1 => ?_)
      · have bh1 := s_bi_b (Int.le_refl _) h1
        refine And.intro (fun h3 => ?_) (fun h3 => ?_)
        · exact hQ _ (by omega)
        · refine And.intro (show -2147483648 ≤ n + 1 ∧ n + 1 ≤ 2147483647 by first | omega | (simp only [mS_iff, eq_self, Int.reduceEq, true_and, and_true, false_and, and_false, and_self, ↓reduceIte]; omega) | (simp only [mS_iff, eq_self, Int.reduceEq, true_and, and_true, false_and, and_false, and_self, ↓reduceIte] at *; omega)) ?_
          refine ih2 _ ?_ _ (Eq.refl _) ?_
          · omega
          · first | omega | (simp only [mS_iff, eq_self, Int.reduceEq, true_and, and_true, false_and, and_false, and_self, ↓reduceIte]; omega) | (simp only [mS_iff, eq_self, Int.reduceEq, true_and, and_true, false_and, and_false, and_self, ↓reduceIte] at *; omega)
      · refine And.intro (fun _ => ?_) (fun h => absurd h (by decide))
        exact hQ _ (by omega)
  refine am_go 400 [2] (am_wpc_cm _ _ _) wf_234 ?_
  refine K2 _ _ (Eq.refl _) ?_
  · first | omega | (simp only [mS_iff, eq_self, Int.reduceEq, true_and, and_true, false_and, and_false, and_self, ↓reduceIte]; omega) | (simp only [mS_iff, eq_self, Int.reduceEq, true_and, and_true, false_and, and_false, and_self, ↓reduceIte] at *; omega)
