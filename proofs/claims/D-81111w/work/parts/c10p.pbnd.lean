/-! needs: c00 -/
/-! BLAZONS, CLAUSES, plain: the place of a fault is that of a token; what is read lies ahead of the end -/
/-- r, read from q on: a fault is at a token, or what follows is at a token from q on -/
def okP {α : Type} (A : Int → Int) (N q : Int) (r : xP α) : Prop := (∀ c p, r = .inl (c, p) → ∃ t, (0 ≤ t ∧ t < N) ∧ p = A t) ∧ (∀ q2 a, r = .inr (q2, a) → q ≤ q2 ∧ q2 < N)
theorem okP.e {α : Type} {A : Int → Int} {N q t c : Int} (h : 0 ≤ t ∧ t < N) : okP (α := α) A N q (.inl (c, A t)) := ⟨fun c p e => by injection e with e; injection e with e1 e2; exact ⟨t, h, e2.symm⟩, fun q2 a e => by cases e⟩
theorem okP.v {α : Type} {A : Int → Int} {N q q2 : Int} {a : α} (h : q ≤ q2 ∧ q2 < N) : okP A N q (.inr (q2, a)) := ⟨fun c p e => (by cases e), fun x b e => (by injection e with e; injection e with e1 e2; omega)⟩
theorem okP.b {α β : Type} {A : Int → Int} {N q : Int} {r : xP α} {g : Int → α → xP β} (h : okP A N q r) (k : ∀ q2 a, r = .inr (q2, a) → q ≤ q2 → q2 < N → okP A N q2 (g q2 a)) : okP A N q (p_bd r g) := by
  rcases r with ⟨c, p⟩ | ⟨q2, a⟩
  · obtain ⟨t, h1, h2⟩ := h.1 c p rfl
    show okP A N q (.inl (c, p))
    rw [h2]
    exact okP.e h1
  · have z := h.2 q2 a rfl
    have y := k q2 a rfl z.1 z.2
    exact ⟨y.1, fun x b e => by have := y.2 x b e; omega⟩
theorem okP.w {α : Type} {A : Int → Int} {N q q0 : Int} {r : xP α} (h : okP A N q r) (e : q0 ≤ q) : okP A N q0 r := ⟨h.1, fun x b z => by have := h.2 x b z; omega⟩
section
variable {K A V : Int → Int} {N : Int}
theorem okP_wr {α : Type} {q q0 : Int} (h : 0 ≤ q ∧ q < N) : okP (α := α) A N q0 (.inl (p_wr K A q)) := okP.e h
theorem okP_want (hT : xT K A V N) {l n q : Int} (h : 0 ≤ q ∧ q < N) (hl : ¬ (l ≤ 71 ∧ 71 < l + n) ∧ ¬ (l ≤ 72 ∧ 72 < l + n)) : okP A N q (p_want K A l n q) := by
  unfold p_want
  split
  · have := hT.nx h.1 h.2 (by omega) (by omega)
    exact okP.v (by omega)
  · exact okP_wr h
theorem p_ln_c (hT : xT K A V N) {q : Int} (h : 0 ≤ q ∧ q < N) : q ≤ (p_ln K q).1 ∧ (p_ln K q).1 < N := by
  unfold p_ln
  split
  · have := hT.nx h.1 h.2 (by omega) (by omega)
    exact ⟨by show q ≤ q + 1; omega, this⟩
  · split
    · have := hT.nx h.1 h.2 (by omega) (by omega)
      exact ⟨by show q ≤ q + 1; omega, this⟩
    · exact ⟨Int.le_refl _, h.2⟩
theorem okP_num (hT : xT K A V N) {l v q : Int} (h : 0 ≤ q ∧ q < N) : okP A N q (p_num K A V l v q) := by
  unfold p_num
  split
  · split
    · exact okP.e h
    · have := hT.nx h.1 h.2 (by omega) (by omega)
      exact okP.v (by omega)
  · exact okP_wr h
theorem okP_two (hT : xT K A V N) {s l n q : Int} (h : 0 ≤ q ∧ q < N) : okP A N q (p_two K A s l n q) := by
  unfold p_two
  refine (okP_want hT h (by omega)).b fun q2 a _ u v => (okP_want hT ⟨by omega, v⟩ (by omega)).b fun q3 b _ x y => (okP_want hT ⟨by omega, y⟩ (by omega)).b fun q4 c _ z w => okP.v (by omega)
theorem okP_bar (hT : xT K A V N) {s q : Int} (h : 0 ≤ q ∧ q < N) : okP A N q (p_bar K A V s q) := by
  unfold p_bar
  split
  · have := hT.nx h.1 h.2 (by omega) (by omega)
    exact ((okP_num hT ⟨by omega, this⟩).b fun q2 a _ u v => okP_two hT ⟨by omega, v⟩).w (by omega)
  · exact okP_two hT h
theorem okP_field (hT : xT K A V N) {q : Int} (h : 0 ≤ q ∧ q < N) : okP A N q (p_field K A V q) := by
  unfold p_field
  split
  · have := hT.nx h.1 h.2 (by omega) (by omega)
    exact okP.v (by omega)
  · split
    · have := hT.nx h.1 h.2 (by omega) (by omega)
      refine ((okP_want hT ⟨by omega, this⟩ (by omega)).b fun q2 a _ u v => ?_).w (by omega)
      have z := p_ln_c hT (q := q2) ⟨by omega, v⟩
      exact (okP_two hT ⟨by omega, z.2⟩).w z.1
    · split
      · have := hT.nx h.1 h.2 (by omega) (by omega)
        exact (okP_two hT ⟨by omega, this⟩).w (by omega)
      · exact (okP_want hT h (by omega)).b fun q2 a _ u v => okP_bar hT ⟨by omega, v⟩
theorem okP_att (hT : xT K A V N) {t q : Int} (h : 0 ≤ q ∧ q < N) : okP A N q (p_att K A t q) := by
  unfold p_att
  split
  · split
    · have := hT.nx h.1 h.2 (by omega) (by omega)
      exact okP.v (by omega)
    · exact okP.e h
  · exact okP.v (by omega)
theorem okP_th (hT : xT K A V N) {n q : Int} (h : 0 ≤ q ∧ q < N) : okP A N q (p_th K A n q) := by
  unfold p_th
  exact (okP_want hT h (by omega)).b fun q2 a _ u v => (okP_att hT ⟨by omega, v⟩).b fun q3 b _ x y => (okP_want hT ⟨by omega, y⟩ (by omega)).b fun q4 c _ z w => okP.v (by omega)
theorem okP_grp (hT : xT K A V N) {q : Int} (h : 0 ≤ q ∧ q < N) : okP A N q (p_grp K A V q) := by
  unfold p_grp
  split
  · exact (okP_num hT h).b fun q2 a _ u v => okP_th hT ⟨by omega, v⟩
  · exact (okP_want hT h (by omega)).b fun q2 a _ u v => okP_th hT ⟨by omega, v⟩
theorem okP_ord (hT : xT K A V N) {c b q : Int} (h : 0 ≤ q ∧ q < N) : okP A N q (p_ord K A c b q) := by
  unfold p_ord
  refine (okP_want hT h (by omega)).b fun q2 a _ u v => ?_
  split
  · exact okP.e h
  · have z := p_ln_c hT (q := q2) ⟨by omega, v⟩
    exact ((okP_want hT ⟨by omega, z.2⟩ (by omega)).b fun q3 b _ x y => okP.v (by omega)).w z.1
theorem okP_part (hT : xT K A V N) {q : Int} (h : 0 ≤ q ∧ q < N) : okP A N q (p_part K A q) := by
  unfold p_part
  split
  · have t := hT.nx h.1 h.2 (by omega) (by omega)
    split
    · have := hT.nx (q := q + 1) (by omega) t (by omega) (by omega)
      exact okP.v (by omega)
    · exact ((okP_want hT ⟨by omega, t⟩ (by omega)).b fun q3 b _ x y => okP.v (by omega)).w (by omega)
  · exact okP.v (by omega)
theorem okP_lay1 (hT : xT K A V N) {c b v q : Int} (h : 0 ≤ q ∧ q < N) : okP A N q (p_lay1 K A V c b v q) := by
  unfold p_lay1
  split
  · have t := hT.nx h.1 h.2 (by omega) (by omega)
    exact ((okP_want hT ⟨by omega, t⟩ (by omega)).b fun q2 a _ u v => (okP_ord hT ⟨by omega, v⟩).b fun q3 o _ x y => (okP_grp hT ⟨by omega, y⟩).b fun q4 g _ z w => okP.v (by omega)).w (by omega)
  · split
    · have t := hT.nx h.1 h.2 (by omega) (by omega)
      refine ((okP_ord hT ⟨by omega, t⟩).b fun q2 a _ u v => ?_).w (by omega)
      split
      · have t2 := hT.nx (q := q2) (by omega) v (by omega) (by omega)
        exact ((okP_grp hT ⟨by omega, t2⟩).b fun q4 g _ z w => okP.v (by omega)).w (by omega)
      · exact okP.v (by omega)
    · split
      · exact (okP_grp hT h).b fun q2 a _ u v => (okP_part hT ⟨by omega, v⟩).b fun q4 g _ z w => okP.v (by omega)
      · exact okP_wr h
theorem okP_lay (hT : xT K A V N) {c b q : Int} (h : 0 ≤ q ∧ q < N) : okP A N q (p_lay K A V c b q) := by
  unfold p_lay
  split
  · have t := hT.nx h.1 h.2 (by omega) (by omega)
    exact (okP_lay1 hT ⟨by omega, t⟩).w (by omega)
  · exact okP_lay1 hT h
theorem okP_lays (hT : xT K A V N) : ∀ (n : Nat) (ls : List (Int → Int)) (c b q : Int), (0 ≤ q ∧ q < N) → okP A N q (p_lays K A V n ls c b q) := by
  intro n
  induction n with
  | zero => intro ls c b q h; exact okP_wr h
  | succ n ih =>
    intro ls c b q h
    unfold p_lays
    split
    · exact okP.v (by omega)
    · split
      · exact okP_wr h
      · have t := hT.nx h.1 h.2 (by omega) (by omega)
        split
        · exact okP_wr ⟨by omega, t⟩
        · split
          · exact okP.e ⟨by omega, t⟩
          · exact ((okP_lay hT ⟨by omega, t⟩).b fun q2 a _ u v => ih _ _ _ _ ⟨by omega, v⟩).w (by omega)
theorem okP_read (hT : xT K A V N) (n : Nat) : okP A N 0 (p_read K A V n) := by
  have h := hT.1
  unfold p_read
  exact (okP_field hT ⟨by omega, by omega⟩).b fun q f _ u v => (okP_lays hT n _ _ _ _ ⟨by omega, v⟩).b fun q2 ls _ x y => okP.v (by omega)
theorem p_read_b (hT : xT K A V N) {n : Nat} {c p : Int} (e : p_read K A V n = .inl (c, p)) : 0 ≤ p ∧ p ≤ 1200 := by
  obtain ⟨t, h1, h2⟩ := (okP_read hT n).1 c p e
  have := (hT.2.2.2 t h1.1 h1.2).2.1
  rw [h2]
  omega
end
