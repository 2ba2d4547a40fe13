/-! needs: d06 -/
/-! CLEAR, plain: spots of a row, one tincture changed, what clears -/
set_option maxRecDepth 100000
set_option maxHeartbeats 4000000
def sp_o (w : Int → Int) (l : Int) : Int := if 0 ≤ w (6 + 10 * l + 1) then 1 else 0
def sp_g (w : Int → Int) (l : Int) : Int := if 0 < w (6 + 10 * l + 4) then 1 else 0
def sp_f (w : Int → Int) : Int := if w 0 = 0 then 1 else 2
def sp_c (w : Int → Int) (l : Int) : Int := sp_f w + s_sum (fun k => sp_o w k + sp_g w k) l.toNat
def sp_n (w : Int → Int) : Int := sp_c w (w 5)
/-- spot p is place s of the row -/
def spAt (w : Int → Int) (p s : Int) : Prop := (p = 0 ∧ s = 3) ∨ (p = 1 ∧ w 0 ≠ 0 ∧ s = 4) ∨ ∃ l, (0 ≤ l ∧ l < w 5) ∧ ((sp_o w l = 1 ∧ p = sp_c w l ∧ s = 6 + 10 * l + 3) ∨ (sp_g w l = 1 ∧ p = sp_c w l + sp_o w l ∧ s = 6 + 10 * l + 8))
theorem sp_o_b (w : Int → Int) (l : Int) : sp_o w l = 0 ∨ sp_o w l = 1 := by unfold sp_o; split <;> omega
theorem sp_g_b (w : Int → Int) (l : Int) : sp_g w l = 0 ∨ sp_g w l = 1 := by unfold sp_g; split <;> omega
theorem sp_f_b (w : Int → Int) : (w 0 = 0 ∧ sp_f w = 1) ∨ (w 0 ≠ 0 ∧ sp_f w = 2) := by unfold sp_f; split <;> omega
theorem sp_c_s {w : Int → Int} {l : Int} (h : 0 ≤ l) : sp_c w (l + 1) = sp_c w l + sp_o w l + sp_g w l := by unfold sp_c; rw [s_sum_i h]; omega
theorem sp_c_0 (w : Int → Int) : sp_c w 0 = sp_f w := by show sp_f w + 0 = _; omega
theorem sp_nn (w : Int → Int) : ∀ k, 0 ≤ (fun k => sp_o w k + sp_g w k) k := fun k => by
  have := sp_o_b w k
  have := sp_g_b w k
  show 0 ≤ sp_o w k + sp_g w k
  omega
theorem sp_c_m {w : Int → Int} {a b : Int} (h : a ≤ b) : sp_c w a ≤ sp_c w b := by
  have := s_sum_mi (sp_nn w) h
  unfold sp_c
  omega
theorem sp_c_b {w : Int → Int} {l : Int} (h : 0 ≤ l) : 1 ≤ sp_c w l ∧ sp_c w l ≤ 2 + 2 * l := by
  have := s_sum_b (f := fun k => sp_o w k + sp_g w k) (c := 2) (fun k => by
    have := sp_o_b w k
    have := sp_g_b w k
    show 0 ≤ sp_o w k + sp_g w k ∧ sp_o w k + sp_g w k ≤ 2
    omega) l.toNat
  have := sp_f_b w
  unfold sp_c
  omega
theorem sp_n_b {w : Int → Int} (h : 0 ≤ w 5 ∧ w 5 ≤ 6) : 1 ≤ sp_n w ∧ sp_n w ≤ 14 := by
  have := sp_c_b (w := w) h.1
  unfold sp_n
  omega
theorem spAt_lt {w : Int → Int} {p s : Int} (h5 : 0 ≤ w 5) (h : spAt w p s) : 0 ≤ p ∧ p < sp_n w := by
  have hf := sp_f_b w
  rcases h with ⟨a, b⟩ | ⟨a, b, c⟩ | ⟨l, ⟨l0, l1⟩, h⟩
  · have := sp_c_b (w := w) h5
    unfold sp_n; omega
  · have := sp_c_m (w := w) h5
    rw [sp_c_0] at this
    unfold sp_n; omega
  · have a1 := sp_c_b (w := w) l0
    have a2 := sp_c_m (w := w) (show l + 1 ≤ w 5 by omega)
    rw [sp_c_s l0] at a2
    have := sp_o_b w l
    have := sp_g_b w l
    unfold sp_n
    rcases h with h | h <;> omega
theorem spAt_u {w : Int → Int} {p s s' : Int} (h : spAt w p s) (g : spAt w p s') : s = s' := by
  have hf := sp_f_b w
  have B : ∀ l, 0 ≤ l → sp_f w ≤ sp_c w l := fun l a => by
    have := sp_c_m (w := w) a
    rw [sp_c_0] at this
    exact this
  have K : ∀ l l', 0 ≤ l → l < l' → sp_c w l + sp_o w l + sp_g w l ≤ sp_c w l' := fun l l' a b => by
    have := sp_c_m (w := w) (show l + 1 ≤ l' by omega)
    rw [sp_c_s a] at this
    exact this
  rcases h with ⟨a, b⟩ | ⟨a, b, c⟩ | ⟨l, ⟨l0, l1⟩, h⟩
  · rcases g with ⟨a', b'⟩ | ⟨a', b', c'⟩ | ⟨l', ⟨l0', l1'⟩, g⟩
    · omega
    · omega
    · have := B l' l0'
      have := sp_o_b w l'
      omega
  · rcases g with ⟨a', b'⟩ | ⟨a', b', c'⟩ | ⟨l', ⟨l0', l1'⟩, g⟩
    · omega
    · omega
    · have := B l' l0'
      have := sp_o_b w l'
      omega
  · rcases g with ⟨a', b'⟩ | ⟨a', b', c'⟩ | ⟨l', ⟨l0', l1'⟩, g⟩
    · have := B l l0
      have := sp_o_b w l
      omega
    · have := B l l0
      have := sp_o_b w l
      omega
    · have o1 := sp_o_b w l
      have o2 := sp_o_b w l'
      have g1 := sp_g_b w l
      have g2 := sp_g_b w l'
      rcases Int.lt_trichotomy l l' with q | q | q
      · have := K l l' l0 q
        omega
      · subst q; omega
      · have := K l' l l0' q
        omega
theorem spAt_e {w : Int → Int} (h5 : 0 ≤ w 5) {p : Int} (h0 : 0 ≤ p) (h1 : p < sp_n w) : ∃ s, spAt w p s := by
  have hf := sp_f_b w
  have key : ∀ n : Nat, (n : Int) ≤ w 5 → p < sp_c w n → ∃ s, spAt w p s := by
    intro n
    induction n with
    | zero =>
      intro a b
      rw [show ((0 : Nat) : Int) = 0 by omega, sp_c_0] at b
      by_cases q : p = 0
      · exact ⟨3, Or.inl ⟨q, rfl⟩⟩
      · exact ⟨4, Or.inr (Or.inl ⟨by omega, by omega, rfl⟩)⟩
    | succ n ih =>
      intro a b
      by_cases q : p < sp_c w n
      · exact ih (by omega) q
      · rw [show ((n + 1 : Nat) : Int) = (n : Int) + 1 by omega, sp_c_s (by omega)] at b
        have o1 := sp_o_b w n
        have g1 := sp_g_b w n
        by_cases z : sp_o w n = 1 ∧ p = sp_c w n
        · exact ⟨6 + 10 * n + 3, Or.inr (Or.inr ⟨n, ⟨by omega, by omega⟩, Or.inl ⟨z.1, z.2, rfl⟩⟩)⟩
        · exact ⟨6 + 10 * n + 8, Or.inr (Or.inr ⟨n, ⟨by omega, by omega⟩, Or.inr ⟨by omega, by omega, rfl⟩⟩)⟩
  exact key (w 5).toNat (by omega) (by rw [show ((w 5).toNat : Int) = w 5 by omega]; exact h1)
theorem spAt_i {w : Int → Int} {p p' s s' : Int} (h : spAt w p s) (g : spAt w p' s') (n : p ≠ p') : s ≠ s' := by
  intro e
  subst e
  rcases h with ⟨a, b⟩ | ⟨a, b, c⟩ | ⟨l, ⟨l0, l1⟩, h⟩
  · rcases g with ⟨a', b'⟩ | ⟨a', b', c'⟩ | ⟨l', ⟨l0', l1'⟩, g⟩ <;> omega
  · rcases g with ⟨a', b'⟩ | ⟨a', b', c'⟩ | ⟨l', ⟨l0', l1'⟩, g⟩ <;> omega
  · rcases g with ⟨a', b'⟩ | ⟨a', b', c'⟩ | ⟨l', ⟨l0', l1'⟩, g⟩
    · omega
    · omega
    · have : l = l' := by omega
      subst this
      omega
/-- one place changed -/
def up (w : Int → Int) (s t : Int) : Int → Int := fun k => if k = s then t else w k
theorem up_s (w : Int → Int) (s t : Int) : up w s t s = t := if_pos rfl
theorem up_n {w : Int → Int} {s t k : Int} (h : k ≠ s) : up w s t k = w k := if_neg h
theorem up_up (w : Int → Int) (s t u : Int) : up (up w s t) s u = up w s u := funext fun k => by
  by_cases h : k = s
  · rw [h, up_s, up_s]
  · rw [up_n h, up_n h, up_n h]
theorem up_id (w : Int → Int) (s : Int) : up w s (w s) = w := funext fun k => by
  by_cases h : k = s
  · rw [h, up_s]
  · rw [up_n h]
theorem spAt_k {w : Int → Int} {p s : Int} (h : spAt w p s) : s = 3 ∨ (s = 4 ∧ w 0 ≠ 0) ∨ ∃ l, (0 ≤ l ∧ l < w 5) ∧ ((s = 6 + 10 * l + 3 ∧ 0 ≤ w (6 + 10 * l + 1)) ∨ (s = 6 + 10 * l + 8 ∧ 0 < w (6 + 10 * l + 4))) := by
  rcases h with ⟨a, b⟩ | ⟨a, b, c⟩ | ⟨l, hl, h⟩
  · exact Or.inl b
  · exact Or.inr (Or.inl ⟨c, b⟩)
  · refine Or.inr (Or.inr ⟨l, hl, ?_⟩)
    rcases h with ⟨h1, h2, h3⟩ | ⟨h1, h2, h3⟩
    · exact Or.inl ⟨h3, by unfold sp_o at h1; split at h1 <;> omega⟩
    · exact Or.inr ⟨h3, by unfold sp_g at h1; split at h1 <;> omega⟩
/-- the places that tell which spots there are stay -/
theorem up_st {w : Int → Int} {p s t : Int} (h : spAt w p s) : up w s t 0 = w 0 ∧ up w s t 5 = w 5 ∧ ∀ l, up w s t (6 + 10 * l + 1) = w (6 + 10 * l + 1) ∧ up w s t (6 + 10 * l + 4) = w (6 + 10 * l + 4) := by
  have k := spAt_k h
  refine ⟨up_n ?_, up_n ?_, fun l => ⟨up_n ?_, up_n ?_⟩⟩
  all_goals (rcases k with k | ⟨k, -⟩ | ⟨l', hl, ⟨k, -⟩ | ⟨k, -⟩⟩ <;> omega)
theorem up_sp {w : Int → Int} {p s t : Int} (h : spAt w p s) : (∀ l, sp_c (up w s t) l = sp_c w l) ∧ sp_n (up w s t) = sp_n w ∧ ∀ p' s', spAt (up w s t) p' s' ↔ spAt w p' s' := by
  obtain ⟨e0, e5, el⟩ := up_st (t := t) h
  have eo : ∀ l, sp_o (up w s t) l = sp_o w l := fun l => by unfold sp_o; rw [(el l).1]
  have eg : ∀ l, sp_g (up w s t) l = sp_g w l := fun l => by unfold sp_g; rw [(el l).2]
  have ec : ∀ l, sp_c (up w s t) l = sp_c w l := fun l => by
    unfold sp_c sp_f
    rw [e0, show (fun k => sp_o (up w s t) k + sp_g (up w s t) k) = fun k => sp_o w k + sp_g w k from funext fun k => by rw [eo, eg]]
  refine ⟨ec, by unfold sp_n; rw [e5, ec], fun p' s' => ?_⟩
  unfold spAt
  rw [e0, e5]
  constructor
  · rintro (q | q | ⟨l, hl, q⟩)
    · exact Or.inl q
    · exact Or.inr (Or.inl q)
    · rw [eo, eg, ec] at q; exact Or.inr (Or.inr ⟨l, hl, q⟩)
  · rintro (q | q | ⟨l, hl, q⟩)
    · exact Or.inl q
    · exact Or.inr (Or.inl q)
    · exact Or.inr (Or.inr ⟨l, hl, by rw [eo, eg, ec]; exact q⟩)
theorem sp_val {w : Int → Int} {p s : Int} (ok : okRow w) (h : spAt w p s) : 0 ≤ w s ∧ w s ≤ 8 := by
  rcases spAt_k h with k | ⟨k, k0⟩ | ⟨l, hl, ⟨k, k1⟩ | ⟨k, k1⟩⟩
  · rw [k]; exact ok.2.2.2.1
  · rw [k]
    have := ok.2.2.2.2.1
    omega
  · rw [k]
    obtain ⟨y1, y2, y3, y4, y5⟩ := ok.2.2.2.2.2.2.2.1 l hl.1 hl.2
    rcases y2 with q | q
    · exact ⟨q.2.2.2.2.1, q.2.2.2.2.2⟩
    · have := q.1; omega
  · rw [k]
    obtain ⟨y1, y2, y3, y4, y5⟩ := ok.2.2.2.2.2.2.2.1 l hl.1 hl.2
    rcases y3 with q | q
    · exact ⟨q.2.2.2.2.2.2.2.2.1, q.2.2.2.2.2.2.2.2.2.1⟩
    · have := q.1; omega
theorem okLay_up {w : Int → Int} {b s t : Int} (h : okLay w b) (ht : 0 ≤ t ∧ t ≤ 8) (n : (∀ j, 0 ≤ j → j ≤ 9 → b + j ≠ s) ∨ (s = b + 3 ∧ 0 ≤ w (b + 1)) ∨ (s = b + 8 ∧ 0 < w (b + 4))) : okLay (up w s t) b := by
  obtain ⟨y1, y2, y3, y4, y5⟩ := h
  rcases n with n | ⟨n, n1⟩ | ⟨n, n1⟩
  · have e : ∀ j, 0 ≤ j → j ≤ 9 → up w s t (b + j) = w (b + j) := fun j x y => up_n (n j x y)
    have e0 : up w s t b = w b := by have := e 0 (by omega) (by omega); rw [Int.add_zero] at this; exact this
    unfold okLay okOrd noOrd okGrp noGrp
    rw [e0, e 1 (by omega) (by omega), e 2 (by omega) (by omega), e 3 (by omega) (by omega), e 4 (by omega) (by omega), e 5 (by omega) (by omega), e 6 (by omega) (by omega), e 7 (by omega) (by omega), e 8 (by omega) (by omega), e 9 (by omega) (by omega)]
    exact ⟨y1, y2, y3, y4, y5⟩
  · have e : ∀ j, j ≠ 3 → up w s t (b + j) = w (b + j) := fun j x => up_n (by omega)
    have e0 : up w s t b = w b := up_n (by omega)
    have e3 : up w s t (b + 3) = t := by rw [← n]; exact up_s w s t
    unfold okLay okOrd noOrd okGrp noGrp
    rw [e0, e 1 (by omega), e 2 (by omega), e3, e 4 (by omega), e 5 (by omega), e 6 (by omega), e 7 (by omega), e 8 (by omega), e 9 (by omega)]
    refine ⟨y1, Or.inl ?_, y3, y4, y5⟩
    rcases y2 with q | q
    · exact ⟨q.1, q.2.1, q.2.2.1, q.2.2.2.1, ht.1, ht.2⟩
    · have := q.1; omega
  · have e : ∀ j, j ≠ 8 → up w s t (b + j) = w (b + j) := fun j x => up_n (by omega)
    have e0 : up w s t b = w b := up_n (by omega)
    have e8 : up w s t (b + 8) = t := by rw [← n]; exact up_s w s t
    unfold okLay okOrd noOrd okGrp noGrp
    rw [e0, e 1 (by omega), e 2 (by omega), e 3 (by omega), e 4 (by omega), e 5 (by omega), e 6 (by omega), e 7 (by omega), e8, e 9 (by omega)]
    refine ⟨y1, y2, Or.inl ?_, y4, y5⟩
    rcases y3 with q | q
    · obtain ⟨q1, q2, q3, q4, q5, q6, q7, q8, q9, q10, q11⟩ := q
      exact ⟨q1, q2, q3, q4, q5, q6, q7, q8, ht.1, ht.2, q11⟩
    · have := q.1; omega
theorem okRow_up {w : Int → Int} {p s t : Int} (ok : okRow w) (h : spAt w p s) (ht : 0 ≤ t ∧ t ≤ 8) : okRow (up w s t) := by
  have k := spAt_k h
  obtain ⟨o0, o1, o2, o3, o4, o5, o6, o7, o8⟩ := ok
  obtain ⟨e0, e5, el⟩ := up_st (t := t) h
  have e1 : up w s t 1 = w 1 := up_n (by rcases k with k | ⟨k, -⟩ | ⟨l', hl, ⟨k, -⟩ | ⟨k, -⟩⟩ <;> omega)
  have e2 : up w s t 2 = w 2 := up_n (by rcases k with k | ⟨k, -⟩ | ⟨l', hl, ⟨k, -⟩ | ⟨k, -⟩⟩ <;> omega)
  have e3 : 0 ≤ up w s t 3 ∧ up w s t 3 ≤ 8 := by
    by_cases q : (3 : Int) = s
    · rw [← q, up_s]; exact ht
    · rw [up_n q]; exact o3
  unfold okRow
  rw [e0, e1, e2, e5]
  refine ⟨o0, o1, o2, e3, ?_, o5, o6, fun l a b => ?_, fun l a b => ?_⟩
  · by_cases q : (4 : Int) = s
    · rw [← q, up_s]
      rcases k with k | ⟨k, k0⟩ | ⟨l', hl, ⟨k, -⟩ | ⟨k, -⟩⟩ <;> omega
    · rw [up_n q]; exact o4
  · refine okLay_up (o7 l a b) ht ?_
    rcases k with k | ⟨k, k0⟩ | ⟨l', hl, ⟨k, k1⟩ | ⟨k, k1⟩⟩
    · exact Or.inl (fun j x y => by omega)
    · exact Or.inl (fun j x y => by omega)
    · by_cases q : l = l'
      · subst q; exact Or.inr (Or.inl ⟨k, k1⟩)
      · exact Or.inl (fun j x y => by omega)
    · by_cases q : l = l'
      · subst q; exact Or.inr (Or.inr ⟨k, k1⟩)
      · exact Or.inl (fun j x y => by omega)
  · have e : ∀ j, 0 ≤ j → j ≤ 9 → up w s t (6 + 10 * l + j) = w (6 + 10 * l + j) := fun j x y => up_n (by rcases k with k | ⟨k, -⟩ | ⟨l', hl, ⟨k, -⟩ | ⟨k, -⟩⟩ <;> omega)
    have e0' : up w s t (6 + 10 * l) = w (6 + 10 * l) := by have := e 0 (by omega) (by omega); rw [Int.add_zero] at this; exact this
    unfold noLay noOrd noGrp
    rw [e0', e 1 (by omega) (by omega), e 2 (by omega) (by omega), e 3 (by omega) (by omega), e 4 (by omega) (by omega), e 5 (by omega) (by omega), e 6 (by omega) (by omega), e 7 (by omega) (by omega), e 8 (by omega) (by omega), e 9 (by omega) (by omega)]
    exact o8 l a b
/-- what clears; the place of a spot -/
def clr (S : aM) (day : Int) (w : Int → Int) : Prop := w 3 ≠ w 4 ∧ s_bt w = 0 ∧ s_sum (s_cf S w day) (S 0 5).toNat = 0
noncomputable def sp (w : Int → Int) (p : Int) : Int := @dite Int (∃ s, spAt w p s) (Classical.propDecidable _) (fun h => Classical.choose h) (fun _ => 0)
theorem sp_e {w : Int → Int} {p s : Int} (h : spAt w p s) : sp w p = s := by
  have hh : ∃ s, spAt w p s := ⟨s, h⟩
  unfold sp
  rw [dif_pos hh]
  exact spAt_u (Classical.choose_spec hh) h
theorem sp_p {w : Int → Int} (h5 : 0 ≤ w 5) {p : Int} (h0 : 0 ≤ p) (h1 : p < sp_n w) : spAt w p (sp w p) := by
  obtain ⟨s, h⟩ := spAt_e h5 h0 h1
  rw [sp_e h]; exact h
noncomputable def q1 (w : Int → Int) (e : Int) : Int → Int := up w (sp w (e / 9)) (e % 9)
noncomputable def q2 (w : Int → Int) (e : Int) : Int → Int := up (up w (sp w (e / 1134)) (e / 9 % 9)) (sp w (e / 81 % 14)) (e % 9)
def P1 (S : aM) (day : Int) (w : Int → Int) (e : Int) : Prop := e / 9 < sp_n w ∧ e % 9 ≠ w (sp w (e / 9)) ∧ clr S day (q1 w e)
def P2 (S : aM) (day : Int) (w : Int → Int) (e : Int) : Prop := (e / 1134 < e / 81 % 14 ∧ e / 81 % 14 < sp_n w) ∧ e / 9 % 9 ≠ w (sp w (e / 1134)) ∧ e % 9 ≠ w (sp w (e / 81 % 14)) ∧ clr S day (q2 w e)
/-- the changed row -/
noncomputable def k_e (S : aM) (day : Int) (w : Int → Int) : Int := s_fst (P1 S day w) 126
noncomputable def k_f (S : aM) (day : Int) (w : Int → Int) : Int := s_fst (P2 S day w) 15876
noncomputable def k_w (S : aM) (day : Int) (w : Int → Int) : Int → Int := if k_e S day w = -1 then q2 w (k_f S day w) else q1 w (k_e S day w)
noncomputable def c_clr (S : aM) (a day : Int) : Int × aM := if v_has S a then (if v_day day then (@ite (Int × aM) (clr S day (S (100 + a))) (Classical.propDecidable _) (a, S) (if k_e S day (S (100 + a)) = -1 ∧ k_f S day (S (100 + a)) = -1 then (-1, S) else if S 0 3 = 50 then (-5, S) else (S 0 3, sAr S (k_w S day (S (100 + a)))))) else (-3, S)) else (-2, S)
theorem up_c {w : Int → Int} {s s' t u : Int} (n : s ≠ s') : up (up w s t) s' u = up (up w s' u) s t := funext fun k => by
  by_cases h : k = s
  · rw [h, up_n n, up_s, up_s]
  · by_cases h' : k = s'
    · rw [h', up_s, up_n (fun e => n e.symm), up_s]
    · rw [up_n h', up_n h, up_n h, up_n h']
