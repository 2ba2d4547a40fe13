/-! needs: 69 -/
/-! QUARTERS, plain: rows that are one; lists of arms without likes, twelve at the most -/
def s_one (S : aM) (a b : Int) : Prop := ∀ k, 0 ≤ k → k < 66 → S (100 + a) k = S (100 + b) k
theorem s_one.refl (S : aM) (a : Int) : s_one S a a := fun _ _ _ => rfl
theorem s_one.symm {S : aM} {a b : Int} (h : s_one S a b) : s_one S b a := fun k x y => (h k x y).symm
theorem s_one.trans {S : aM} {a b c : Int} (h : s_one S a b) (g : s_one S b c) : s_one S a c := fun k x y => (h k x y).trans (g k x y)
/-- a need not be added -/
def q_in (S : aM) (l : List Int) (a : Int) : Prop := (∃ b ∈ l, s_one S b a) ∨ 12 ≤ l.length
noncomputable def q_add (S : aM) (l : List Int) (a : Int) : List Int := @ite _ (q_in S l a) (Classical.propDecidable _) l (l ++ [a])
theorem q_add_y {S : aM} {l : List Int} {a : Int} (h : q_in S l a) : q_add S l a = l := by unfold q_add; rw [if_pos h]
theorem q_add_n {S : aM} {l : List Int} {a : Int} (h : ¬ q_in S l a) : q_add S l a = l ++ [a] := by unfold q_add; rw [if_neg h]
noncomputable def q_all (S : aM) (l xs : List Int) : List Int := xs.foldl (q_add S) l
theorem q_all_nil (S : aM) (l : List Int) : q_all S l [] = l := rfl
theorem q_all_cons (S : aM) (l : List Int) (a : Int) (xs : List Int) : q_all S l (a :: xs) = q_all S (q_add S l a) xs := rfl
theorem q_all_app (S : aM) (l xs ys : List Int) : q_all S l (xs ++ ys) = q_all S (q_all S l xs) ys := List.foldl_append
theorem q_in_add {S : aM} {l : List Int} {a b : Int} (h : q_in S l a) : q_in S (q_add S l b) a := by
  by_cases e : q_in S l b
  · rw [q_add_y e]; exact h
  · rw [q_add_n e]
    rcases h with ⟨c, h1, h2⟩ | h
    · exact Or.inl ⟨c, List.mem_append_left _ h1, h2⟩
    · exact Or.inr (by rw [List.length_append]; omega)
theorem q_in_all {S : aM} {a : Int} (xs : List Int) : ∀ {l : List Int}, q_in S l a → q_in S (q_all S l xs) a := by
  induction xs with
  | nil => intro l h; exact h
  | cons b xs ih => intro l h; exact ih (q_in_add h)
theorem q_in_self (S : aM) (l : List Int) (a : Int) : q_in S (q_add S l a) a := by
  by_cases e : q_in S l a
  · rw [q_add_y e]; exact e
  · rw [q_add_n e]; exact Or.inl ⟨a, by simp, s_one.refl S a⟩
theorem q_in_mem {S : aM} {a : Int} : ∀ (xs : List Int) (l : List Int), a ∈ xs → q_in S (q_all S l xs) a := by
  intro xs
  induction xs with
  | nil => intro l h; cases h
  | cons b xs ih =>
    intro l h
    rcases List.mem_cons.mp h with rfl | h
    · exact q_in_all xs (q_in_self S l a)
    · exact ih _ h
theorem q_all_abs {S : aM} : ∀ (xs : List Int) (l : List Int), (∀ a ∈ xs, q_in S l a) → q_all S l xs = l := by
  intro xs
  induction xs with
  | nil => intro l _; rfl
  | cons b xs ih =>
    intro l h
    rw [q_all_cons, q_add_y (h b List.mem_cons_self)]
    exact ih l (fun a ha => h a (List.mem_cons_of_mem _ ha))
/-- no two are one -/
def q_dis (S : aM) : List Int → Prop
  | [] => True
  | a :: l => (∀ b ∈ l, ¬ s_one S a b) ∧ q_dis S l
theorem q_dis_app {S : aM} {a : Int} : ∀ {l : List Int}, q_dis S l → (∀ b ∈ l, ¬ s_one S b a) → q_dis S (l ++ [a]) := by
  intro l
  induction l with
  | nil => intro _ _; exact ⟨fun b h => absurd h List.not_mem_nil, trivial⟩
  | cons c l ih =>
    intro h g
    refine ⟨fun b hb => ?_, ih h.2 (fun b hb => g b (List.mem_cons_of_mem _ hb))⟩
    rcases List.mem_append.mp hb with hb | hb
    · exact h.1 b hb
    · rw [List.mem_singleton] at hb
      subst hb
      exact g c List.mem_cons_self
theorem q_dis_add {S : aM} {l : List Int} {a : Int} (h : q_dis S l) : q_dis S (q_add S l a) := by
  by_cases e : q_in S l a
  · rw [q_add_y e]; exact h
  · rw [q_add_n e]
    exact q_dis_app h (fun b hb q => e (Or.inl ⟨b, hb, q⟩))
theorem q_dis_all {S : aM} : ∀ (xs l : List Int), q_dis S l → q_dis S (q_all S l xs) := by
  intro xs
  induction xs with
  | nil => intro l h; exact h
  | cons a xs ih => intro l h; exact ih _ (q_dis_add h)
/-- as many boxes as unlike things -/
theorem q_pig {S : aM} : ∀ (q r : List Int), q_dis S q → (∀ b ∈ q, ∃ c ∈ r, s_one S c b) → q.length ≤ r.length := by
  intro q
  induction q with
  | nil => intro r _ _; exact Nat.zero_le _
  | cons b q ih =>
    intro r h g
    obtain ⟨c, c1, c2⟩ := g b List.mem_cons_self
    have k := ih (r.erase c) h.2 (fun b' hb' => by
      obtain ⟨c', d1, d2⟩ := g b' (List.mem_cons_of_mem _ hb')
      refine ⟨c', (List.mem_erase_of_ne (fun e => ?_)).mpr d1, d2⟩
      subst e
      exact h.1 b' hb' (c2.symm.trans d2))
    rw [List.length_erase_of_mem c1] at k
    have := List.length_pos_of_mem c1
    rw [List.length_cons]
    omega
theorem q_len_add {S : aM} {l : List Int} {a : Int} (h : l.length ≤ 12) : (q_add S l a).length ≤ 12 := by
  by_cases e : q_in S l a
  · rw [q_add_y e]; exact h
  · rw [q_add_n e, List.length_append]
    have : ¬ 12 ≤ l.length := fun q => e (Or.inr q)
    simp
    omega
theorem q_len_all {S : aM} : ∀ (xs l : List Int), l.length ≤ 12 → (q_all S l xs).length ≤ 12 := by
  intro xs
  induction xs with
  | nil => intro l h; exact h
  | cons a xs ih => intro l h; exact ih _ (q_len_add h)
theorem q_mem_all {S : aM} {b : Int} : ∀ (xs l : List Int), b ∈ q_all S l xs → b ∈ l ∨ b ∈ xs := by
  intro xs
  induction xs with
  | nil => intro l h; exact Or.inl h
  | cons a xs ih =>
    intro l h
    rcases ih _ h with h | h
    · by_cases e : q_in S l a
      · rw [q_add_y e] at h; exact Or.inl h
      · rw [q_add_n e] at h
        rcases List.mem_append.mp h with h | h
        · exact Or.inl h
        · rw [List.mem_singleton] at h; subst h; exact Or.inr List.mem_cons_self
    · exact Or.inr (List.mem_cons_of_mem _ h)
theorem q_rev {P : List Int → Prop} (h0 : P []) (h1 : ∀ l a, P l → P (l ++ [a])) (l : List Int) : P l := by
  have key : ∀ n (l : List Int), l.length = n → P l := by
    intro n
    induction n with
    | zero => intro l h; rw [List.length_eq_zero_iff.mp h]; exact h0
    | succ n ih =>
      intro l h
      have hne : l ≠ [] := by intro e; rw [e] at h; cases h
      have := List.dropLast_concat_getLast hne
      rw [← this]
      exact h1 _ _ (ih _ (by rw [List.length_dropLast, h]; rfl))
  exact key _ l rfl
/-- adding what is already sorted out is adding all -/
theorem q_all_q (S : aM) (l xs : List Int) : q_all S l (q_all S [] xs) = q_all S l xs := by
  refine q_rev (P := fun xs => q_all S l (q_all S [] xs) = q_all S l xs) rfl (fun xs a ih => ?_) xs
  rw [q_all_app S [] xs [a], q_all_app S l xs [a]]
  show q_all S l (q_add S (q_all S [] xs) a) = q_add S (q_all S l xs) a
  by_cases e : q_in S (q_all S [] xs) a
  · rw [q_add_y e, ih]
    refine (q_add_y ?_).symm
    rw [← ih]
    have abs : ∀ b ∈ q_all S [] xs, q_in S (q_all S l (q_all S [] xs)) b := fun b hb => q_in_mem _ _ hb
    by_cases f : 12 ≤ (q_all S l (q_all S [] xs)).length
    · exact Or.inr f
    · have rep : ∀ b ∈ q_all S [] xs, ∃ c ∈ q_all S l (q_all S [] xs), s_one S c b := fun b hb => (abs b hb).resolve_right f
      rcases e with ⟨b, b1, b2⟩ | e
      · obtain ⟨c, c1, c2⟩ := rep b b1
        exact Or.inl ⟨c, c1, c2.trans b2⟩
      · exact absurd (Nat.le_trans e (q_pig _ _ (q_dis_all _ _ trivial) rep)) f
  · rw [q_add_n e, q_all_app]
    show q_add S (q_all S l (q_all S [] xs)) a = _
    rw [ih]
theorem q_all_idem (S : aM) (l xs : List Int) : q_all S (q_all S l xs) xs = q_all S l xs := q_all_abs _ _ (fun _ h => q_in_mem _ _ h)
/-- all arms that come to a person, one after another -/
noncomputable def q_ex (S : aM) (day : Int) : Nat → Int → List Int
  | 0, _ => []
  | n + 1, p => if p = -1 then [] else (if S 15 p = -1 then [] else [S 15 p]) ++ q_ex S day n (S 11 p) ++ (@ite _ (S 12 p ≠ -1 ∧ s_her S day (S 12 p)) (Classical.propDecidable _) (q_ex S day n (S 12 p)) [])
theorem q_ex_st {S : aM} (h : sPs S) (day : Int) : ∀ (n k : Nat) (p : Int), -1 ≤ p → p < S 0 4 → p < n → p < k → q_ex S day n p = q_ex S day k p := by
  intro n
  induction n with
  | zero =>
    intro k p a b c d
    cases k with
    | zero => rfl
    | succ k => rw [q_ex, q_ex, if_pos (by omega)]
  | succ n ih =>
    intro k p a b c d
    cases k with
    | zero => rw [q_ex, q_ex, if_pos (by omega)]
    | succ k =>
      rw [q_ex, q_ex]
      by_cases e : p = -1
      · rw [if_pos e, if_pos e]
      · have := h.2 p (by omega) b
        rw [if_neg e, if_neg e, ih k (S 11 p) (by omega) (by omega) (by omega) (by omega), ih k (S 12 p) (by omega) (by omega) (by omega) (by omega)]
noncomputable def q_E (S : aM) (day p : Int) : List Int := q_ex S day 41 p
theorem q_E_n (S : aM) (day : Int) : q_E S day (-1) = [] := by unfold q_E; rw [q_ex, if_pos rfl]
theorem q_E_s {S : aM} (h : sPs S) (day : Int) {p : Int} (h0 : 0 ≤ p) (h1 : p < S 0 4) : q_E S day p = (if S 15 p = -1 then [] else [S 15 p]) ++ q_E S day (S 11 p) ++ (@ite _ (S 12 p ≠ -1 ∧ s_her S day (S 12 p)) (Classical.propDecidable _) (q_E S day (S 12 p)) []) := by
  have := h.2 p h0 h1
  have := h.1
  unfold q_E
  rw [q_ex, if_neg (by omega), q_ex_st h day 40 41 (S 11 p) (by omega) (by omega) (by omega) (by omega), q_ex_st h day 40 41 (S 12 p) (by omega) (by omega) (by omega) (by omega)]
/-- THE QUARTERS -/
noncomputable def q_Q (S : aM) (day p : Int) : List Int := q_all S [] (q_E S day p)
theorem q_E_ok {S : aM} (h : sPs S) (day : Int) : ∀ (n : Nat) (p : Int), -1 ≤ p → p < S 0 4 → p < n → ∀ a ∈ q_E S day p, 0 ≤ a ∧ a < S 0 3 := by
  intro n
  induction n with
  | zero =>
    intro p h1 h2 h3 a ha
    rw [show p = -1 by omega, q_E_n] at ha
    cases ha
  | succ n ih =>
    intro p h1 h2 h3 a ha
    by_cases e : p = -1
    · rw [e, q_E_n] at ha; cases ha
    · have z := h.2 p (by omega) h2
      rw [q_E_s h day (by omega) h2] at ha
      rcases List.mem_append.mp ha with ha | ha
      · rcases List.mem_append.mp ha with ha | ha
        · by_cases e2 : S 15 p = -1
          · rw [if_pos e2] at ha; cases ha
          · rw [if_neg e2, List.mem_singleton] at ha
            omega
        · exact ih _ (by omega) (by omega) (by omega) a ha
      · by_cases e2 : S 12 p ≠ -1 ∧ s_her S day (S 12 p)
        · rw [if_pos e2] at ha
          exact ih _ (by omega) (by omega) (by omega) a ha
        · rw [if_neg e2] at ha; cases ha
theorem q_Q_ok {S : aM} (h : sPs S) {day p : Int} (h1 : -1 ≤ p) (h2 : p < S 0 4) : (q_Q S day p).length ≤ 12 ∧ ∀ a ∈ q_Q S day p, 0 ≤ a ∧ a < S 0 3 := by
  refine ⟨q_len_all _ _ (Nat.zero_le _), fun a ha => ?_⟩
  rcases q_mem_all _ _ ha with ha | ha
  · cases ha
  · exact q_E_ok h day (p + 1).toNat p h1 h2 (by omega) a ha
theorem q_Q_s {S : aM} (h : sPs S) (day : Int) {p : Int} (h0 : 0 ≤ p) (h1 : p < S 0 4) : q_Q S day p = q_all S (q_all S (q_all S [] (if S 15 p = -1 then [] else [S 15 p])) (q_Q S day (S 11 p))) (@ite _ (S 12 p ≠ -1 ∧ s_her S day (S 12 p)) (Classical.propDecidable _) (q_Q S day (S 12 p)) []) := by
  unfold q_Q
  rw [q_E_s h day h0 h1, q_all_app, q_all_app, q_all_q]
  by_cases e : S 12 p ≠ -1 ∧ s_her S day (S 12 p)
  · rw [if_pos e, if_pos e, q_all_q]
  · rw [if_neg e, if_neg e]
theorem q_Q_n (S : aM) (day : Int) : q_Q S day (-1) = [] := by unfold q_Q; rw [q_E_n]; rfl
/-- no points: one -/
theorem s_lp_0 {w v : Int → Int} {b : Int} (hw : okLay w b) (hv : okLay v b) (h : s_lp w v b = 0) : ∀ k, 0 ≤ k → k < 10 → w (b + k) = v (b + k) := by
  have d0 := s_df_b (w b) (v b)
  have d1 := s_df_b (w (b + 1)) (v (b + 1))
  have d2 := s_df_b (w (b + 2)) (v (b + 2))
  have d3 := s_df_b (w (b + 3)) (v (b + 3))
  have d4 := s_df_b (w (b + 4)) (v (b + 4))
  have d5 := s_df_b (w (b + 5)) (v (b + 5))
  have d6 := s_df_b (w (b + 6)) (v (b + 6))
  have d7 := s_df_b (w (b + 7)) (v (b + 7))
  have d8 := s_df_b (w (b + 8)) (v (b + 8))
  have d9 := s_df_b (w (b + 9)) (v (b + 9))
  have z : ∀ x y, s_df x y = 0 → x = y := fun x y e => by unfold s_df at e; omega
  obtain ⟨-, w2, w3, -⟩ := hw
  obtain ⟨-, v2, v3, -⟩ := hv
  unfold s_lp at h
  have e0 := z (w b) (v b) (by omega)
  have e1 := z (w (b + 1)) (v (b + 1)) (by omega)
  have eo : w (b + 2) = v (b + 2) ∧ w (b + 3) = v (b + 3) := by
    unfold okOrd noOrd at w2 v2
    by_cases q : 0 ≤ w (b + 1)
    · exact ⟨z _ _ (by omega), z _ _ (by omega)⟩
    · omega
  have eg : w (b + 4) = v (b + 4) ∧ w (b + 5) = v (b + 5) ∧ w (b + 6) = v (b + 6) ∧ w (b + 7) = v (b + 7) ∧ w (b + 8) = v (b + 8) ∧ w (b + 9) = v (b + 9) := by
    by_cases q : 0 < w (b + 4)
    · exact ⟨z _ _ (by omega), z _ _ (by omega), z _ _ (by omega), z _ _ (by omega), z _ _ (by omega), z _ _ (by omega)⟩
    · have q2 : ¬ 0 < v (b + 4) := by omega
      unfold okGrp noGrp at w3 v3
      omega
  intro k k0 k1
  have : k = 0 ∨ k = 1 ∨ k = 2 ∨ k = 3 ∨ k = 4 ∨ k = 5 ∨ k = 6 ∨ k = 7 ∨ k = 8 ∨ k = 9 := by omega
  rcases this with rfl | rfl | rfl | rfl | rfl | rfl | rfl | rfl | rfl | rfl
  · rw [Int.add_zero]; exact e0
  · exact e1
  · exact eo.1
  · exact eo.2
  · exact eg.1
  · exact eg.2.1
  · exact eg.2.2.1
  · exact eg.2.2.2.1
  · exact eg.2.2.2.2.1
  · exact eg.2.2.2.2.2
theorem s_sum_0 {f : Int → Int} (hf : ∀ k, 0 ≤ f k) {n : Nat} (h : s_sum f n ≤ 0) {k : Int} (h0 : 0 ≤ k) (h1 : k < n) : f k = 0 := by
  have a := s_sum_i (f := f) h0
  have b := s_sum_m hf (a := (k + 1).toNat) (b := n) (by omega)
  have c := s_sum_m hf (a := 0) (b := k.toNat) (by omega)
  have d := hf k
  have e : s_sum f 0 = 0 := rfl
  omega
theorem s_pt_0 {w v : Int → Int} (hw : okRow w) (hv : okRow v) : s_pt w v = 0 ↔ ∀ k, 0 ≤ k → k < 66 → w k = v k := by
  have z : ∀ x y, s_df x y = 0 → x = y := fun x y e => by unfold s_df at e; omega
  constructor
  · intro h
    have f0 := s_fp_b w v
    have f1 := (s_sum_b (s_lt_b w v) 6).1
    unfold s_pt at h
    have hl : ∀ l, 0 ≤ l → l < 6 → s_lt w v l = 0 := fun l a b => s_sum_0 (fun k => (s_lt_b w v k).1) (n := 6) (by omega) a (by omega)
    have d0 := s_df_b (w 0) (v 0)
    have d1 := s_df_b (w 1) (v 1)
    have d2 := s_df_b (w 2) (v 2)
    have d3 := s_df_b (w 3) (v 3)
    have d4 := s_df_b (w 4) (v 4)
    have h2 : s_fp w v = 0 := by omega
    unfold s_fp at h2
    have cw := hw.cnt
    have cv := hv.cnt
    have e5 : w 5 = v 5 := by
      by_cases q : w 5 < v 5
      · have := hl (w 5) (by omega) (by omega)
        rw [s_lt_eq] at this
        omega
      · by_cases q2 : v 5 < w 5
        · have := hl (v 5) (by omega) (by omega)
          rw [s_lt_eq] at this
          omega
        · omega
    intro k k0 k1
    by_cases q : k < 6
    · have : k = 0 ∨ k = 1 ∨ k = 2 ∨ k = 3 ∨ k = 4 ∨ k = 5 := by omega
      rcases this with rfl | rfl | rfl | rfl | rfl | rfl
      · exact z _ _ (by omega)
      · exact z _ _ (by omega)
      · exact z _ _ (by omega)
      · exact z _ _ (by omega)
      · exact z _ _ (by omega)
      · exact e5
    · have hk : k = 6 + 10 * ((k - 6) / 10) + (k - 6) % 10 := by omega
      have b1 : 0 ≤ (k - 6) / 10 ∧ (k - 6) / 10 < 6 := by omega
      have b2 : 0 ≤ (k - 6) % 10 ∧ (k - 6) % 10 < 10 := by omega
      generalize (k - 6) / 10 = l at *
      generalize (k - 6) % 10 = j at *
      subst hk
      by_cases ql : l < w 5
      · have := hl l b1.1 b1.2
        rw [s_lt_eq, if_pos (by omega)] at this
        exact s_lp_0 (hw.2.2.2.2.2.2.2.1 l b1.1 ql) (hv.2.2.2.2.2.2.2.1 l b1.1 (by omega)) this j b2.1 b2.2
      · have n1 := hw.2.2.2.2.2.2.2.2 l (by omega) b1.2
        have n2 := hv.2.2.2.2.2.2.2.2 l (by omega) b1.2
        unfold noLay noOrd noGrp at n1 n2
        have : j = 0 ∨ j = 1 ∨ j = 2 ∨ j = 3 ∨ j = 4 ∨ j = 5 ∨ j = 6 ∨ j = 7 ∨ j = 8 ∨ j = 9 := by omega
        rcases this with rfl | rfl | rfl | rfl | rfl | rfl | rfl | rfl | rfl | rfl
        · rw [Int.add_zero]; omega
        all_goals omega
  · intro h
    have zz : ∀ x, s_df x x = 0 := fun x => by unfold s_df; simp
    have e : ∀ k, 0 ≤ k → k < 66 → v k = w k := fun k a b => (h k a b).symm
    unfold s_pt s_fp
    rw [e 0 (by omega) (by omega), e 1 (by omega) (by omega), e 2 (by omega) (by omega), e 3 (by omega) (by omega), e 4 (by omega) (by omega)]
    rw [zz, zz, zz, zz, zz]
    have cw := hw.cnt
    have : s_sum (s_lt w v) 6 = s_sum (s_lt w v) 0 := s_sum_z (by omega) (fun l a b => by
      rw [s_lt_eq, e 5 (by omega) (by omega)]
      by_cases q : l < w 5
      · rw [if_pos ⟨q, q⟩]
        unfold s_lp
        have a0 : (0 : Int) ≤ l := by omega
        have a1 : l < 6 := by omega
        rw [e (6 + 10 * l) (by omega) (by omega), e (6 + 10 * l + 1) (by omega) (by omega), e (6 + 10 * l + 2) (by omega) (by omega), e (6 + 10 * l + 3) (by omega) (by omega), e (6 + 10 * l + 4) (by omega) (by omega), e (6 + 10 * l + 5) (by omega) (by omega), e (6 + 10 * l + 6) (by omega) (by omega), e (6 + 10 * l + 7) (by omega) (by omega), e (6 + 10 * l + 8) (by omega) (by omega), e (6 + 10 * l + 9) (by omega) (by omega)]
        simp only [zz]
        omega
      · omega)
    rw [this]
    rfl
