/-! needs: 91 -/
/-! TOKENS as the reference tells them, plain -/
def x_v27 (t : Int → Int) (j : Int) : Nat → Int
  | 0 => 0
  | n + 1 => 27 * x_v27 t j n + (t (j + n) - 96)
def x_ls (t : Int → Int) (j : Int) : Nat → List Int
  | 0 => []
  | n + 1 => x_ls t j n ++ [t (j + n)]
theorem s_vl_app (l : List Int) (b : Int) : s_vl (l ++ [b]) = 27 * s_vl l + (b - 96) := by unfold s_vl; rw [List.foldl_append]; rfl
theorem x_v27_ls (t : Int → Int) (j : Int) : ∀ n, x_v27 t j n = s_vl (x_ls t j n) := by
  intro n
  induction n with
  | zero => rfl
  | succ n ih => rw [x_v27, x_ls, s_vl_app, ih]
theorem x_ls_len (t : Int → Int) (j : Int) : ∀ n, (x_ls t j n).length = n := by
  intro n
  induction n with
  | zero => rfl
  | succ n ih => rw [x_ls, List.length_append, ih]; rfl
theorem x_ls_at (t : Int → Int) (j : Int) : ∀ n i, i < n → (x_ls t j n).getD i 0 = t (j + i) := by
  intro n
  induction n with
  | zero => intro i h; omega
  | succ n ih =>
    intro i h
    have hl := x_ls_len t j n
    rw [x_ls, q_app_at (by rw [List.length_append, hl]; exact h), hl]
    by_cases e : i < n
    · rw [if_pos e]; exact ih i e
    · rw [if_neg e, show i = n by omega]
theorem x_ls_mem (t : Int → Int) (j : Int) {P : Int → Prop} : ∀ n : Nat, (∀ k, j ≤ k → k < j + n → P (t k)) → ∀ b ∈ x_ls t j n, P b := by
  intro n
  induction n with
  | zero => intro _ b hb; cases hb
  | succ n ih =>
    intro h b hb
    rw [x_ls] at hb
    rcases List.mem_append.mp hb with hb | hb
    · exact ih (fun k a c => h k a (by omega)) b hb
    · rw [List.mem_singleton] at hb
      rw [hb]
      exact h _ (by omega) (by omega)
theorem s_vl_nn : ∀ l : List Int, (∀ b ∈ l, 97 ≤ b ∧ b ≤ 122) → 0 ≤ s_vl l := by
  intro l
  refine q_rev (P := fun l => (∀ b ∈ l, 97 ≤ b ∧ b ≤ 122) → 0 ≤ s_vl l) (fun _ => Int.le_refl _) (fun l a ih h => ?_) l
  have x := ih (fun b hb => h b (List.mem_append_left _ hb))
  have y := h a (by simp)
  rw [s_vl_app]
  omega
theorem s_vl_inj : ∀ l1 l2 : List Int, (∀ b ∈ l1, 97 ≤ b ∧ b ≤ 122) → (∀ b ∈ l2, 97 ≤ b ∧ b ≤ 122) → s_vl l1 = s_vl l2 → l1 = l2 := by
  intro l1
  refine q_rev (P := fun l1 => ∀ l2 : List Int, (∀ b ∈ l1, 97 ≤ b ∧ b ≤ 122) → (∀ b ∈ l2, 97 ≤ b ∧ b ≤ 122) → s_vl l1 = s_vl l2 → l1 = l2) ?_ ?_ l1
  · intro l2 _
    refine q_rev (P := fun l2 => (∀ b ∈ l2, 97 ≤ b ∧ b ≤ 122) → s_vl [] = s_vl l2 → [] = l2) (fun _ _ => rfl) (fun l a _ h e => ?_) l2
    have x := s_vl_nn l (fun b hb => h b (List.mem_append_left _ hb))
    have y := h a (by simp)
    rw [s_vl_app] at e
    have z : s_vl [] = 0 := rfl
    omega
  · intro l1 a ih l2 h1
    refine q_rev (P := fun l2 => (∀ b ∈ l2, 97 ≤ b ∧ b ≤ 122) → s_vl (l1 ++ [a]) = s_vl l2 → l1 ++ [a] = l2) ?_ ?_ l2
    · intro _ e
      have x := s_vl_nn l1 (fun b hb => h1 b (List.mem_append_left _ hb))
      have y := h1 a (by simp)
      rw [s_vl_app] at e
      have z : s_vl [] = 0 := rfl
      omega
    · intro l c _ h2 e
      have y := h1 a (by simp)
      have y2 := h2 c (by simp)
      rw [s_vl_app, s_vl_app] at e
      have ea : a = c := by omega
      have el : s_vl l1 = s_vl l := by omega
      rw [ih l (fun b hb => h1 b (List.mem_append_left _ hb)) (fun b hb => h2 b (List.mem_append_left _ hb)) el, ea]
theorem x_mt_iff {t : Int → Int} {j len w : Int} (hl : 0 ≤ len) (hw : 0 ≤ w ∧ w < 67) (hp : ∀ k, j ≤ k → k < j + len → x_lt (t k)) : x_mt t j len w ↔ x_v27 t j len.toNat = s_cd w := by
  have wl := s_wb_b hw
  have ll := x_ls_len t j len.toNat
  have lm : ∀ b ∈ x_ls t j len.toNat, 97 ≤ b ∧ b ≤ 122 := x_ls_mem t j (P := x_lt) len.toNat (fun k a c => hp k a (by omega))
  constructor
  · intro ⟨h1, h2⟩
    rw [x_v27_ls]
    unfold s_cd
    congr 1
    refine List.ext_getElem (by omega) (fun i a b => ?_)
    have q := h2 i (by omega) (by omega)
    have r := x_ls_at t j len.toNat i (by omega)
    rw [List.getD_eq_getElem?_getD, List.getElem?_eq_getElem a] at r
    rw [show ((i : Nat) : Int).toNat = i by omega, List.getD_eq_getElem?_getD, List.getElem?_eq_getElem b] at q
    exact r.trans q.symm
  · intro h
    rw [x_v27_ls] at h
    have e := s_vl_inj _ _ lm wl.2.2 h
    refine ⟨by rw [← e, ll]; omega, fun i a b => ?_⟩
    rw [← e, x_ls_at t j len.toNat i.toNat (by omega)]
    congr 1
    omega
/-- the token that begins at j, as the reference tells it -/
def x_mk (t : Int → Int) (n j k v e : Int) : Prop :=
  (j = n ∧ k = 0 ∧ v = 0 ∧ e = n) ∨
  (j < n ∧ x_lt (t j) ∧ x_run x_lt t n j e ∧ k = (if 9 < e - j then 4 else 1) ∧ v = x_v27 t j (if e - j < 9 then e - j else 9).toNat) ∨
  (j < n ∧ x_dg (t j) ∧ x_run x_dg t n j e ∧ k = (if 4 < e - j then 4 else 2) ∧ v = x_dec t j (if e - j < 4 then e - j else 4).toNat) ∨
  (j < n ∧ ¬ x_lt (t j) ∧ ¬ x_dg (t j) ∧ e = j + 1 ∧ v = t j ∧ ((x_sg (t j) ∧ k = 3) ∨ (¬ x_sg (t j) ∧ k = 4)))
/-- the same token on both sides -/
def x_R (k v kM vM : Int) : Prop := (k = 72 ↔ kM = 4) ∧ (k = 71 ↔ kM = 0) ∧ (k = 70 ↔ kM = 2) ∧ (k = 70 → vM = v) ∧ (∀ w, 0 ≤ w → w < 67 → (k = w ↔ (kM = 1 ∧ vM = s_cd w))) ∧ (∀ c, x_sg c → (k = 100 + c ↔ (kM = 3 ∧ vM = c))) ∧ (kM = 1 → k = 73 ∨ (0 ≤ k ∧ k < 67)) ∧ (kM = 3 → 140 ≤ k)
theorem s_cd_inj {w u : Int} (hw : 0 ≤ w ∧ w < 67) (hu : 0 ≤ u ∧ u < 67) (h : s_wb w = s_wb u) : w = u := by
  have key : ∀ a : Nat, a < 67 → ∀ b : Nat, b < 67 → st_by.getD a [] = st_by.getD b [] → a = b := by decide +kernel
  have := key w.toNat (by omega) u.toNat (by omega) h
  omega
theorem x_tk_mk {t : Int → Int} {n j k v e kM vM e' : Int} (h : x_tk t n j k v e) (g : x_mk t n j kM vM e') : e = e' ∧ x_R k v kM vM := by
  have lt_dg : ∀ c, x_lt c → ¬ x_dg c := fun c a b => by unfold x_lt at a; unfold x_dg at b; omega
  rcases h with ⟨a1, a2, a3, a4⟩ | ⟨a1, a2, a3, a4, a5⟩ | ⟨a1, a2, a3, a4, a5⟩ | ⟨a1, a2, a3, a4, a5, a6⟩
  · rcases g with ⟨b1, b2, b3, b4⟩ | ⟨b1, -⟩ | ⟨b1, -⟩ | ⟨b1, -⟩
    · subst a2; subst b2
      refine ⟨by omega, by omega, by omega, by omega, by omega, fun w x y => by omega, fun c hc => ?_, by omega, by omega⟩
      unfold x_sg at hc; omega
    all_goals omega
  · rcases g with ⟨b1, -⟩ | ⟨b1, b2, b3, b4, b5⟩ | ⟨b1, b2, -⟩ | ⟨b1, b2, -⟩
    · omega
    · have ee := x_run_u a3 b3
      subst ee
      refine ⟨rfl, ?_⟩
      have r1 := a3.1
      rcases a5 with ⟨c1, c2⟩ | ⟨c1, c2⟩
      · rw [if_pos c1] at b4
        subst c2; subst b4
        refine ⟨by omega, by omega, by omega, by omega, fun w x y => by omega, fun c hc => ?_, by omega, by omega⟩
        unfold x_sg at hc; omega
      · rw [if_neg (by omega)] at b4
        subst b4
        have vv : vM = x_v27 t j (e - j).toNat := by
          rw [b5]
          by_cases z : e - j < 9
          · rw [if_pos z]
          · rw [if_neg z, show e - j = 9 by omega]
        have kk : k = 73 ∨ (0 ≤ k ∧ k < 67) := by rcases c2 with ⟨q1, q2, -⟩ | ⟨q, -⟩ <;> omega
        refine ⟨by omega, by omega, by omega, by omega, fun w x y => ?_, fun c hc => ?_, fun _ => kk, by omega⟩
        · have iff := x_mt_iff (t := t) (j := j) (len := e - j) (w := w) (by omega) ⟨x, y⟩ (fun i p q => a3.2.2.1 i p (by omega))
          rw [← vv] at iff
          rcases c2 with ⟨q1, q2, q3⟩ | ⟨q, q2⟩
          · constructor
            · intro z; subst z; exact ⟨rfl, iff.mp q3⟩
            · intro ⟨_, z⟩
              have z3 := x_mt_iff (t := t) (j := j) (len := e - j) (w := k) (by omega) ⟨q1, q2⟩ (fun i p q => a3.2.2.1 i p (by omega))
              have z4 : s_cd k = s_cd w := by rw [← z3.mp q3, ← vv, z]
              have z5 := s_vl_inj _ _ (s_wb_b ⟨q1, q2⟩).2.2 (s_wb_b ⟨x, y⟩).2.2 z4
              exact s_cd_inj ⟨q1, q2⟩ ⟨x, y⟩ z5
          · constructor
            · intro z; omega
            · intro ⟨_, z⟩; exact absurd (iff.mpr z) (q2 w x y)
        · unfold x_sg at hc; omega
    · exact absurd b2 (lt_dg _ a2)
    · exact absurd a2 b2
  · rcases g with ⟨b1, -⟩ | ⟨b1, b2, -⟩ | ⟨b1, b2, b3, b4, b5⟩ | ⟨b1, b2, b3, -⟩
    · omega
    · exact absurd a2 (lt_dg _ b2)
    · have ee := x_run_u a3 b3
      subst ee
      refine ⟨rfl, ?_⟩
      rw [← a4] at b5
      have kk : (k = 72 ∧ kM = 4) ∨ (k = 70 ∧ kM = 2) := by
        rcases a5 with ⟨c1, c2⟩ | ⟨c1, c2⟩
        · rw [if_pos c1] at b4; omega
        · rw [if_neg (by omega)] at b4; omega
      refine ⟨by omega, by omega, by omega, by omega, fun w x y => by omega, fun c hc => ?_, by omega, by omega⟩
      unfold x_sg at hc; omega
    · exact absurd a2 b3
  · rcases g with ⟨b1, -⟩ | ⟨b1, b2, -⟩ | ⟨b1, b2, -⟩ | ⟨b1, b2, b3, b4, b5, b6⟩
    · omega
    · exact absurd b2 a2
    · exact absurd b2 a3
    · have kk : (x_sg (t j) ∧ k = 100 + t j ∧ kM = 3) ∨ (¬ x_sg (t j) ∧ k = 72 ∧ kM = 4) := by
        rcases a6 with ⟨c1, c2⟩ | ⟨c1, c2⟩
        · rcases b6 with ⟨d1, d2⟩ | ⟨d1, d2⟩
          · exact Or.inl ⟨c1, c2, d2⟩
          · exact absurd c1 d1
        · rcases b6 with ⟨d1, d2⟩ | ⟨d1, d2⟩
          · exact absurd d1 c1
          · exact Or.inr ⟨c1, c2, d2⟩
      refine ⟨by omega, ?_⟩
      rcases kk with ⟨q1, q2, q3⟩ | ⟨q1, q2, q3⟩
      · unfold x_sg at q1
        refine ⟨by omega, by omega, by omega, by omega, fun w x y => by omega, fun c hc => by omega, by omega, by omega⟩
      · refine ⟨by omega, by omega, by omega, by omega, fun w x y => by omega, fun c hc => ?_, by omega, by omega⟩
        unfold x_sg at hc; omega
/-! only the bytes of the text count -/
theorem x_sk_c {t t' : Int → Int} {n i j : Int} (hi : 0 ≤ i) (e : ∀ k, 0 ≤ k → k < n → t k = t' k) (h : x_sk t n i j) : x_sk t' n i j := ⟨h.1, h.2.1, fun k a b => by rw [← e k (by omega) (by have := h.2.1; omega)]; exact h.2.2.1 k a b, fun a => by rw [← e j (by have := h.1; omega) a]; exact h.2.2.2 a⟩
theorem x_run_c {P : Int → Prop} {t t' : Int → Int} {n i j : Int} (hi : 0 ≤ i) (e : ∀ k, 0 ≤ k → k < n → t k = t' k) (h : x_run P t n i j) : x_run P t' n i j := ⟨h.1, h.2.1, fun k a b => by rw [← e k (by omega) (by have := h.2.1; omega)]; exact h.2.2.1 k a b, fun a => by rw [← e j (by have := h.1; omega) a]; exact h.2.2.2 a⟩
theorem x_mt_c {t t' : Int → Int} {n j len w : Int} (hj : 0 ≤ j) (hl : j + len ≤ n) (e : ∀ k, 0 ≤ k → k < n → t k = t' k) : x_mt t j len w → x_mt t' j len w := fun h => ⟨h.1, fun i a b => by rw [← e _ (by omega) (by omega)]; exact h.2 i a b⟩
theorem x_dec_c {t t' : Int → Int} {n j : Int} (hj : 0 ≤ j) (e : ∀ k, 0 ≤ k → k < n → t k = t' k) : ∀ i : Nat, j + i ≤ n → x_dec t j i = x_dec t' j i := by
  intro i
  induction i with
  | zero => intro _; rfl
  | succ i ih => intro h; rw [x_dec, x_dec, ih (by omega), e _ (by omega) (by omega)]
theorem x_tk_c {t t' : Int → Int} {n j k v q : Int} (hj : 0 ≤ j) (e : ∀ k, 0 ≤ k → k < n → t k = t' k) (h : x_tk t n j k v q) : x_tk t' n j k v q := by
  rcases h with h | ⟨a1, a2, a3, a4, a5⟩ | ⟨a1, a2, a3, a4, a5⟩ | ⟨a1, a2, a3, a4, a5, a6⟩
  · exact Or.inl h
  · have ej := e j hj a1
    have r := a3.2.1
    refine Or.inr (Or.inl ⟨a1, by rw [← ej]; exact a2, x_run_c hj e a3, a4, ?_⟩)
    rcases a5 with a5 | ⟨a5, a6⟩
    · exact Or.inl a5
    · refine Or.inr ⟨a5, ?_⟩
      rcases a6 with ⟨q1, q2, q3⟩ | ⟨q1, q2⟩
      · exact Or.inl ⟨q1, q2, x_mt_c hj (by omega) e q3⟩
      · exact Or.inr ⟨q1, fun w x y z => q2 w x y (x_mt_c hj (by omega) (fun k a b => (e k a b).symm) z)⟩
  · have ej := e j hj a1
    have r := a3.2.1
    have r1 := a3.1
    refine Or.inr (Or.inr (Or.inl ⟨a1, by rw [← ej]; exact a2, x_run_c hj e a3, ?_, a5⟩))
    rw [a4]
    exact x_dec_c hj e _ (by omega)
  · have ej := e j hj a1
    refine Or.inr (Or.inr (Or.inr ⟨a1, by rw [← ej]; exact a2, by rw [← ej]; exact a3, a4, a5, ?_⟩))
    rw [← ej]
    exact a6
theorem x_lx_c {t t' : Int → Int} {n : Int} {K A V E : Int → Int} {N : Int} (hn : 0 ≤ n) (e : ∀ k, 0 ≤ k → k < n → t k = t' k) (h : x_lx t n K A V E N) : x_lx t' n K A V E N := by
  obtain ⟨h1, h2, h3, h4, h5⟩ := h
  have pos : ∀ i : Nat, (i : Int) < N → 0 ≤ A i ∧ A i ≤ n := by
    intro i
    induction i with
    | zero => intro _; exact ⟨h2.1, h2.2.1⟩
    | succ i ih =>
      intro hi
      have a := ih (by omega)
      have b := x_tk_e (h3 i (by omega) (by omega)) a.2
      have c := (h4 i (by omega) (by omega)).1
      have c1 := c.1
      have c2 := c.2.1
      rw [show (((i + 1 : Nat)) : Int) = (i : Int) + 1 by omega]
      omega
  have pz : ∀ q, 0 ≤ q → q < N → 0 ≤ A q ∧ A q ≤ n := fun q a b => by
    have := pos q.toNat (by omega)
    rw [show ((q.toNat : Nat) : Int) = q by omega] at this
    exact this
  refine ⟨h1, x_sk_c (by omega) e h2, fun q a b => x_tk_c (pz q a b).1 e (h3 q a b), fun q a b => ⟨x_sk_c ?_ e (h4 q a b).1, (h4 q a b).2⟩, h5⟩
  have x := pz q a (by omega)
  have y := x_tk_e (h3 q a (by omega)) x.2
  omega
