/-! needs: 88 -/
/-! TOKENS, plain -/
def x_lt (c : Int) : Prop := 97 ≤ c ∧ c ≤ 122
def x_dg (c : Int) : Prop := 48 ≤ c ∧ c ≤ 57
def x_bl (c : Int) : Prop := c = 32 ∨ c = 10
def x_sg (c : Int) : Prop := c = 44 ∨ c = 40 ∨ c = 41 ∨ c = 60 ∨ c = 61 ∨ c = 43 ∨ c = 45 ∨ c = 42 ∨ c = 47
/-- from i on blanks are passed up to j -/
def x_sk (t : Int → Int) (n i j : Int) : Prop := i ≤ j ∧ j ≤ n ∧ (∀ k, i ≤ k → k < j → x_bl (t k)) ∧ (j < n → ¬ x_bl (t j))
theorem x_sk_u {t : Int → Int} {n i j j' : Int} (h : x_sk t n i j) (g : x_sk t n i j') : j = j' := by
  obtain ⟨h1, h2, h3, h4⟩ := h
  obtain ⟨g1, g2, g3, g4⟩ := g
  rcases Int.lt_trichotomy j j' with q | q | q
  · exact absurd (g3 j h1 q) (h4 (by omega))
  · exact q
  · exact absurd (h3 j' g1 q) (g4 (by omega))
def x_run (P : Int → Prop) (t : Int → Int) (n j e : Int) : Prop := j < e ∧ e ≤ n ∧ (∀ k, j ≤ k → k < e → P (t k)) ∧ (e < n → ¬ P (t e))
theorem x_run_u {P : Int → Prop} {t : Int → Int} {n j e e' : Int} (h : x_run P t n j e) (g : x_run P t n j e') : e = e' := by
  obtain ⟨h1, h2, h3, h4⟩ := h
  obtain ⟨g1, g2, g3, g4⟩ := g
  rcases Int.lt_trichotomy e e' with q | q | q
  · exact absurd (g3 e (by omega) q) (h4 (by omega))
  · exact q
  · exact absurd (h3 e' (by omega) q) (g4 (by omega))
/-- the word w stands at j, of len letters -/
def x_mt (t : Int → Int) (j len w : Int) : Prop := ((s_wb w).length : Int) = len ∧ ∀ i, 0 ≤ i → i < len → (s_wb w).getD i.toNat 0 = t (j + i)
def x_wd (t : Int → Int) (j len k : Int) : Prop := (0 ≤ k ∧ k < 67 ∧ x_mt t j len k) ∨ (k = 73 ∧ ∀ w, 0 ≤ w → w < 67 → ¬ x_mt t j len w)
def x_dec (t : Int → Int) (j : Int) : Nat → Int
  | 0 => 0
  | n + 1 => 10 * x_dec t j n + (t (j + n) - 48)
/-- the token that begins at j: its sort, its number, where it ends -/
def x_tk (t : Int → Int) (n j k v e : Int) : Prop :=
  (j = n ∧ k = 71 ∧ v = 0 ∧ e = n) ∨
  (j < n ∧ x_lt (t j) ∧ x_run x_lt t n j e ∧ v = 0 ∧ ((9 < e - j ∧ k = 72) ∨ (e - j ≤ 9 ∧ x_wd t j (e - j) k))) ∨
  (j < n ∧ x_dg (t j) ∧ x_run x_dg t n j e ∧ v = x_dec t j (if e - j < 4 then e - j else 4).toNat ∧ ((4 < e - j ∧ k = 72) ∨ (e - j ≤ 4 ∧ k = 70))) ∨
  (j < n ∧ ¬ x_lt (t j) ∧ ¬ x_dg (t j) ∧ e = j + 1 ∧ v = 0 ∧ ((x_sg (t j) ∧ k = 100 + t j) ∨ (¬ x_sg (t j) ∧ k = 72)))
theorem x_dec_s {t : Int → Int} {j k : Int} (h : 0 ≤ k) : x_dec t j (k + 1).toNat = 10 * x_dec t j k.toNat + (t (j + k) - 48) := by
  obtain ⟨n, rfl⟩ := Int.eq_ofNat_of_zero_le h
  rfl
theorem x_dec_b {t : Int → Int} {j n : Int} (hd : ∀ k, j ≤ k → k < n → x_dg (t k)) : ∀ i : Nat, (i : Int) ≤ 4 → j + i ≤ n → 0 ≤ x_dec t j i ∧ x_dec t j i + 1 ≤ (if i = 0 then 1 else if i = 1 then 10 else if i = 2 then 100 else if i = 3 then 1000 else 10000) := by
  intro i
  induction i with
  | zero => intro _ _; simp [x_dec]
  | succ i ih =>
    intro h1 h2
    have a := ih (by omega) (by omega)
    have b := hd (j + i) (by omega) (by omega)
    unfold x_dg at b
    rw [x_dec]
    generalize t (j + (i : Int)) = c at b ⊢
    generalize x_dec t j i = y at a ⊢
    have : i = 0 ∨ i = 1 ∨ i = 2 ∨ i = 3 := by omega
    rcases this with rfl | rfl | rfl | rfl <;> simp at a ⊢ <;> omega
theorem x_tk_e {t : Int → Int} {n j k v e : Int} (h : x_tk t n j k v e) (hj : j ≤ n) : j ≤ e ∧ e ≤ n ∧ (k ≠ 71 → j < e) ∧ (k = 71 ↔ j = n) := by
  unfold x_tk at h
  rcases h with ⟨a, b, c, d⟩ | ⟨a, b, c, d, g⟩ | ⟨a, b, c, d, g⟩ | ⟨a, b, c, d, g, h⟩
  · omega
  · have := c.1
    have := c.2.1
    have k71 : k ≠ 71 := by
      rcases g with ⟨_, g⟩ | ⟨_, ⟨g1, g2, -⟩ | ⟨g, -⟩⟩ <;> omega
    omega
  · have := c.1
    have := c.2.1
    omega
  · unfold x_sg x_lt x_dg at *
    omega
/-- sorts of tokens: words 0 .. 66, 70 number, 71 end, 72 wrong, 73 unheard, signs -/
theorem x_tk_k {t : Int → Int} {n j k v e : Int} (h : x_tk t n j k v e) : 0 ≤ k ∧ k ≤ 161 ∧ 0 ≤ v ∧ v ≤ 9999 ∧ (k ≠ 70 → k ≠ 72 → v = 0) := by
  unfold x_tk at h
  rcases h with ⟨a, b, c, d⟩ | ⟨a, b, c, d, g⟩ | ⟨a, b, c, d, g⟩ | ⟨a, b, c, d, g, h⟩
  · omega
  · rcases g with ⟨_, g⟩ | ⟨_, ⟨g1, g2, -⟩ | ⟨g, -⟩⟩ <;> omega
  · have q := x_dec_b (t := t) (j := j) (n := e) c.2.2.1 (if e - j < 4 then e - j else 4).toNat (by omega) (by have := c.1; omega)
    have := c.1
    rw [← d] at q
    have z : v ≤ 9999 := by
      have q2 := q.2
      split at q2
      · omega
      · split at q2
        · omega
        · split at q2
          · omega
          · split at q2 <;> omega
    omega
  · unfold x_sg at h
    omega
/-- tokens of a text: sorts K, places A, numbers V, ends E, N in all -/
def x_lx (t : Int → Int) (n : Int) (K A V E : Int → Int) (N : Int) : Prop :=
  1 ≤ N ∧ x_sk t n 0 (A 0) ∧ (∀ q, 0 ≤ q → q < N → x_tk t n (A q) (K q) (V q) (E q)) ∧ (∀ q, 0 ≤ q → q + 1 < N → x_sk t n (E q) (A (q + 1)) ∧ K q ≠ 71 ∧ K q ≠ 72) ∧ (K (N - 1) = 71 ∨ K (N - 1) = 72)
