/-! needs: 78b -/
/-! DRAWING, plain: scanning members' dots, sizes, dots -/
def s_c (w : Int → Int) (b s k x y : Int) : Prop := s_cov (w (b + 6)) s (s_ab (x - s_px w b k)) (s_ab (y - s_py w b k))
def s_od (w : Int → Int) (b x y : Int) : Prop := 0 ≤ w (b + 1) ∧ s_in x y ∧ s_os (w (b + 1)) (w (b + 2)) x y
def s_okd (w : Int → Int) (b x y : Int) : Prop := s_in x y ∧ (w (b + 4) = 2 → ¬ s_od w b x y) ∧ (w (b + 4) = 3 → s_od w b x y)
def s_fit (w : Int → Int) (b s : Int) : Prop := ∀ k, 0 ≤ k → k < w (b + 5) → ∀ x y, s_c w b s k x y → s_okd w b x y ∧ ∀ j, 0 ≤ j → j < k → ¬ s_c w b s j x y
theorem s_cov_le {t s u v : Int} (hu : 0 ≤ u) (hv : 0 ≤ v) (hs : 0 ≤ s) (h : s_cov t s u v) : u ≤ s ∧ v ≤ s := by
  unfold s_cov at h
  have k : ∀ a, 0 ≤ a → s < a → s * s < a * a := fun a h0 h1 => by
    have e := Int.mul_le_mul (show s + 1 ≤ a by omega) (show s + 1 ≤ a by omega) (by omega) h0
    rw [Int.add_mul, Int.mul_add, Int.mul_add] at e
    omega
  have q1 := s_sqb (a := u) (c := u) (by omega)
  have q2 := s_sqb (a := v) (c := v) (by omega)
  by_cases e : t % 3 = 0
  · rw [if_pos e] at h
    constructor
    · by_cases c : u ≤ s
      · exact c
      · have := k u hu (by omega); omega
    · by_cases c : v ≤ s
      · exact c
      · have := k v hv (by omega); omega
  · rw [if_neg e] at h
    by_cases e1 : t % 3 = 1
    · rw [if_pos e1] at h; omega
    · rw [if_neg e1] at h; exact h
theorem s_ab_0 (a : Int) : 0 ≤ s_ab a := by unfold s_ab; omega
theorem s_c_box {w : Int → Int} {b s k x y : Int} (hs : 0 ≤ s) (h : s_c w b s k x y) : (s_px w b k - s ≤ x ∧ x ≤ s_px w b k + s) ∧ (s_py w b k - s ≤ y ∧ y ≤ s_py w b k + s) := by
  have q := s_cov_le (s_ab_0 _) (s_ab_0 _) hs h
  unfold s_ab at q
  omega
/-- the state of a scan: members below k are done, of member k what A tells; marks tk with tr -/
def s_sc (C : Int → Int → Int → Prop) (ok : Int → Int → Prop) (k : Int) (A : Int → Int → Prop) (tk : Int → Int) (tr : Int) : Prop :=
  (∀ j, 0 ≤ j → (j < k ∨ j = k) → ∀ x y, C j x y → (j < k ∨ A x y) → ok x y ∧ ∀ i, 0 ≤ i → i < j → ¬ C i x y) ∧
  (∀ x y, s_in x y → (tk (48 * y + x) = tr ↔ ((∃ j, 0 ≤ j ∧ j < k ∧ C j x y) ∨ (C k x y ∧ A x y)))) ∧ (∀ i, 0 ≤ i → i < 2880 → tk i ≤ tr)
theorem s_sc.eqv {C : Int → Int → Int → Prop} {ok : Int → Int → Prop} {k tr : Int} {A A' : Int → Int → Prop} {tk : Int → Int} (h : s_sc C ok k A tk tr) (e : ∀ x y, C k x y → (A x y ↔ A' x y)) : s_sc C ok k A' tk tr := by
  obtain ⟨h1, h2, h3⟩ := h
  refine ⟨fun j j0 j1 x y c a => h1 j j0 j1 x y c ?_, fun x y i => ?_, h3⟩
  · rcases a with a | a
    · exact Or.inl a
    · rcases j1 with j1 | j1
      · exact Or.inl j1
      · subst j1; exact Or.inr ((e x y c).mpr a)
  · rw [h2 x y i]
    constructor
    · rintro (q | ⟨q1, q2⟩)
      · exact Or.inl q
      · exact Or.inr ⟨q1, (e x y q1).mp q2⟩
    · rintro (q | ⟨q1, q2⟩)
      · exact Or.inl q
      · exact Or.inr ⟨q1, (e x y q1).mpr q2⟩
theorem s_sc.skip {C : Int → Int → Int → Prop} {ok : Int → Int → Prop} {k tr x0 y0 : Int} {A A' : Int → Int → Prop} {tk : Int → Int} (h : s_sc C ok k A tk tr) (n : ¬ C k x0 y0) (e : ∀ x y, A' x y ↔ (A x y ∨ (x = x0 ∧ y = y0))) : s_sc C ok k A' tk tr := h.eqv (fun x y c => by
  rw [e]
  constructor
  · exact Or.inl
  · rintro (q | ⟨q1, q2⟩)
    · exact q
    · subst q1; subst q2; exact absurd c n)
theorem s_sc.put {C : Int → Int → Int → Prop} {ok : Int → Int → Prop} {k tr x0 y0 : Int} {A A' : Int → Int → Prop} {tk tk' : Int → Int} (hk : 0 ≤ k) (h : s_sc C ok k A tk tr) (c : C k x0 y0) (o : ok x0 y0) (i0 : s_in x0 y0) (n : tk (48 * y0 + x0) ≠ tr) (e : ∀ x y, A' x y ↔ (A x y ∨ (x = x0 ∧ y = y0))) (t1 : tk' (48 * y0 + x0) = tr) (t2 : ∀ i, i ≠ 48 * y0 + x0 → tk' i = tk i) : s_sc C ok k A' tk' tr := by
  obtain ⟨h1, h2, h3⟩ := h
  have hn : ¬ ((∃ j, 0 ≤ j ∧ j < k ∧ C j x0 y0) ∨ (C k x0 y0 ∧ A x0 y0)) := fun q => n ((h2 x0 y0 i0).mpr q)
  refine ⟨fun j j0 j1 x y c' a => ?_, fun x y i => ?_, fun i a b => ?_⟩
  · rcases a with a | a
    · exact h1 j j0 j1 x y c' (Or.inl a)
    · rcases (e x y).mp a with a | ⟨rfl, rfl⟩
      · exact h1 j j0 j1 x y c' (Or.inr a)
      · refine ⟨o, fun i a b q => hn (Or.inl ⟨i, a, by omega, q⟩)⟩
  · by_cases q : x = x0 ∧ y = y0
    · obtain ⟨rfl, rfl⟩ := q
      exact ⟨fun _ => Or.inr ⟨c, (e x y).mpr (Or.inr ⟨rfl, rfl⟩)⟩, fun _ => t1⟩
    · have ne : 48 * y + x ≠ 48 * y0 + x0 := by
        have a1 := i.1
        have a2 := i0.1
        omega
      rw [t2 _ ne, h2 x y i]
      constructor
      · rintro (g | ⟨g1, g2⟩)
        · exact Or.inl g
        · exact Or.inr ⟨g1, (e x y).mpr (Or.inl g2)⟩
      · rintro (g | ⟨g1, g2⟩)
        · exact Or.inl g
        · rcases (e x y).mp g2 with g2 | g2
          · exact Or.inr ⟨g1, g2⟩
          · exact absurd g2 q
  · by_cases q : i = 48 * y0 + x0
    · rw [q, t1]; exact Int.le_refl _
    · rw [t2 i q]; exact h3 i a b
theorem s_sc.next {C : Int → Int → Int → Prop} {ok : Int → Int → Prop} {k tr : Int} {A : Int → Int → Prop} {tk : Int → Int} (hk : 0 ≤ k) (h : s_sc C ok k A tk tr) (e : ∀ x y, C k x y → A x y) : s_sc C ok (k + 1) (fun _ _ => False) tk tr := by
  obtain ⟨h1, h2, h3⟩ := h
  refine ⟨fun j j0 j1 x y c a => ?_, fun x y i => ?_, h3⟩
  · have hj : j < k + 1 := by
      rcases a with a | a
      · exact a
      · exact a.elim
    by_cases q : j < k
    · exact h1 j j0 (Or.inl q) x y c (Or.inl q)
    · obtain rfl : j = k := by omega
      exact h1 j j0 (Or.inr rfl) x y c (Or.inr (e x y c))
  · rw [h2 x y i]
    constructor
    · rintro (⟨j, a, b, c⟩ | ⟨g1, g2⟩)
      · exact Or.inl ⟨j, a, by omega, c⟩
      · exact Or.inl ⟨k, hk, by omega, g1⟩
    · rintro (⟨j, a, b, c⟩ | ⟨g1, g2⟩)
      · by_cases q : j = k
        · subst q; exact Or.inr ⟨c, e x y c⟩
        · exact Or.inl ⟨j, a, by omega, c⟩
      · exact g2.elim
theorem s_sc.ini {C : Int → Int → Int → Prop} {ok : Int → Int → Prop} {tr : Int} {tk : Int → Int} (h : ∀ i, 0 ≤ i → i < 2880 → tk i < tr) : s_sc C ok 0 (fun _ _ => False) tk tr := by
  refine ⟨fun j j0 j1 x y c a => ?_, fun x y i => ?_, fun i a b => by have := h i a b; omega⟩
  · rcases a with a | a
    · omega
    · exact a.elim
  · have := h (48 * y + x) (by have := i.1; omega) (by have := i.1; omega)
    constructor
    · intro q; omega
    · rintro (⟨j, a, b, c⟩ | ⟨g1, g2⟩)
      · omega
      · exact g2.elim
theorem s_sc.fit {w : Int → Int} {b s tr : Int} {tk : Int → Int} {A : Int → Int → Prop} (h : s_sc (s_c w b s) (s_okd w b) (w (b + 5)) A tk tr) : s_fit w b s := fun k k0 k1 x y c => h.1 k k0 (Or.inl k1) x y c (Or.inl k1)
theorem s_bad1 {w : Int → Int} {b s k x y : Int} (k0 : 0 ≤ k) (k1 : k < w (b + 5)) (c : s_c w b s k x y) (n : ¬ s_okd w b x y) : ¬ s_fit w b s := fun h => n (h k k0 k1 x y c).1
theorem s_sc.bad {w : Int → Int} {b s k tr x y : Int} {tk : Int → Int} {A : Int → Int → Prop} (h : s_sc (s_c w b s) (s_okd w b) k A tk tr) (k0 : 0 ≤ k) (k1 : k < w (b + 5)) (c : s_c w b s k x y) (i : s_in x y) (e : tk (48 * y + x) = tr) (n : ¬ A x y) : ¬ s_fit w b s := fun g => by
  rcases (h.2.1 x y i).mp e with ⟨j, j0, j1, cj⟩ | ⟨_, q⟩
  · exact (g k k0 k1 x y c).2 j j0 j1 cj
  · exact n q
/-- the greatest below n that P tells; -1 -/
noncomputable def s_top (P : Int → Prop) : Nat → Int
  | 0 => -1
  | n + 1 => @ite _ (P n) (Classical.propDecidable _) (n : Int) (s_top P n)
theorem s_top_y {P : Int → Prop} {s : Int} (h0 : 0 ≤ s) (h : P s) : s_top P (s + 1).toNat = s := by
  obtain ⟨n, rfl⟩ := Int.eq_ofNat_of_zero_le h0
  show s_top P (n + 1) = n
  rw [s_top, if_pos h]
theorem s_top_n {P : Int → Prop} {s : Int} (h0 : 0 ≤ s) (h : ¬ P s) : s_top P (s + 1).toNat = s_top P s.toNat := by
  obtain ⟨n, rfl⟩ := Int.eq_ofNat_of_zero_le h0
  show s_top P (n + 1) = s_top P n
  rw [s_top, if_neg h]
theorem s_top_b (P : Int → Prop) : ∀ n : Nat, (s_top P n = -1 ∨ (0 ≤ s_top P n ∧ s_top P n < n ∧ P (s_top P n))) := by
  intro n
  induction n with
  | zero => exact Or.inl rfl
  | succ n ih =>
    rw [s_top]
    by_cases h : P n
    · rw [if_pos h]; exact Or.inr ⟨by omega, by omega, h⟩
    · rw [if_neg h]
      rcases ih with ih | ih
      · exact Or.inl ih
      · exact Or.inr ⟨ih.1, by omega, ih.2.2⟩
/-- the size of the group at b -/
noncomputable def s_sz (w : Int → Int) (b : Int) : Int := s_top (s_fit w b) 21
/-- is the dot of one of the members below n -/
def s_mem (w : Int → Int) (b s n x y : Int) : Prop := ∃ k, 0 ≤ k ∧ k < n ∧ s_c w b s k x y
noncomputable def s_gd (w : Int → Int) (b n : Int) (c x y : Int) : Int := @ite _ (0 < w (b + 4) ∧ 0 ≤ s_sz w b ∧ s_mem w b (s_sz w b) n x y) (Classical.propDecidable _) (w (b + 8)) c
noncomputable def s_ob (w : Int → Int) (b c x y : Int) : Int := @ite _ (s_od w b x y) (Classical.propDecidable _) (w (b + 3)) c
/-- a layer over a tincture -/
noncomputable def s_dl (w : Int → Int) (b c x y : Int) : Int := s_gd w b (w (b + 5)) (s_ob w b c x y) x y
noncomputable def s_d0 (w : Int → Int) (x y : Int) : Int := @ite _ (s_in x y) (Classical.propDecidable _) (@ite _ (s_fs (w 0) (w 1) (w 2) x y) (Classical.propDecidable _) (w 3) (w 4)) (-1)
noncomputable def s_dn (w : Int → Int) : Nat → Int → Int → Int
  | 0, x, y => s_d0 w x y
  | n + 1, x, y => s_dl w (6 + 10 * (n : Int)) (s_dn w n x y) x y
/-- the dot -/
noncomputable def s_dot (w : Int → Int) (i : Int) : Int := s_dn w (w 5).toNat (i % 48) (i / 48)
noncomputable def s_szl (w : Int → Int) (l : Int) : Int := if w (6 + 10 * l + 4) = 0 then -1 else s_sz w (6 + 10 * l)
theorem s_dn_s (w : Int → Int) {l : Int} (h : 0 ≤ l) (x y : Int) : s_dn w (l + 1).toNat x y = s_dl w (6 + 10 * l) (s_dn w l.toNat x y) x y := by
  obtain ⟨n, rfl⟩ := Int.eq_ofNat_of_zero_le h
  rfl
theorem s_mem_s {w : Int → Int} {b s n x y : Int} (hn : 0 ≤ n) : s_mem w b s (n + 1) x y ↔ s_mem w b s n x y ∨ s_c w b s n x y := by
  constructor
  · rintro ⟨k, a, b, c⟩
    by_cases e : k = n
    · subst e; exact Or.inr c
    · exact Or.inl ⟨k, a, by omega, c⟩
  · rintro (⟨k, a, b, c⟩ | c)
    · exact ⟨k, a, by omega, c⟩
    · exact ⟨n, hn, by omega, c⟩
