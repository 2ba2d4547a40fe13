/-! needs: 84 -/
/-! CONTRACTS: writing of the house; by tools/gen85.py -/
set_option maxRecDepth 100000
/-- the written form, as a list of bytes -/
def o_w (l : List Int) (w : Int) : List Int := l ++ (if l.length = 0 then [] else [32]) ++ s_wb w
def o_n (l : List Int) (v : Int) : List Int := l ++ [32] ++ (if 9 < v then [48 + v / 10] else []) ++ [48 + v % 10]
def o_ln (l : List Int) (n : Int) : List Int := if 0 < n then o_w l (41 + n - 1) else l
def o_nb (l : List Int) (n : Int) : List Int := if n = 1 then o_w l 43 else o_n l n
def o_at (l : List Int) (t a : Int) : List Int := if a = s_fa t then l else o_w l (21 + a - 1)
def o_grp (w : Int → Int) (b : Int) (l : List Int) : List Int := o_w (o_at (o_w (o_nb l (w (b + 5))) (9 + w (b + 6))) (w (b + 6)) (w (b + 7))) (w (b + 8))
def o_ov (l : List Int) (v : Int) : List Int := if v = 0 then l else o_w l 44
def o_on (l : List Int) (v : Int) : List Int := if v = 3 then o_w l 45 else l
def o_ord (w : Int → Int) (b : Int) (l : List Int) : List Int := if w (b + 1) = -1 then l else o_w (o_ln (o_w (o_w l 43) (25 + w (b + 1))) (w (b + 2))) (w (b + 3))
def o_bt (l : List Int) (v : Int) : List Int := if v = 2 then o_w l 46 else l
def o_gr (w : Int → Int) (b : Int) (l : List Int) : List Int := if w (b + 4) = 0 then l else o_grp w b l
def o_pt (l : List Int) (p : Int) : List Int := if 0 < p then o_w (o_w l 47) (if p = 1 then 31 else 48 + p - 2) else l
def o_lay (w : Int → Int) (b : Int) (l : List Int) : List Int := o_pt (o_gr w b (o_bt (o_ord w b (o_on (o_ov l (w b)) (w (b + 4)))) (w (b + 4)))) (w (b + 9))
def o_nm (l : List Int) (n : Int) : List Int := if n = 0 ∨ n = 6 then l else o_n (o_w l 40) n
def o_f1 (w : Int → Int) : List Int := if w 0 = 0 then [] else if w 0 < 5 then o_ln (o_w (o_w [] 33) (25 + w 0 - 1)) (w 1) else o_nm (o_w [] (if w 0 = 5 then 35 else 36 + w 0 - 6)) (w 2)
def o_fld (w : Int → Int) : List Int := if w 4 = -1 then o_w (o_f1 w) (w 3) else o_w (o_w (o_w (o_f1 w) (w 3)) 34) (w 4)
def o_k (w : Int → Int) : Nat → List Int
  | 0 => o_fld w
  | n + 1 => o_lay w (6 + 10 * (n : Int)) (o_k w n ++ [44])
def o_arms (w : Int → Int) : List Int := o_k w (w 5).toNat
theorem o_k_s (w : Int → Int) {k : Int} (h : 0 ≤ k) : o_k w (k + 1).toNat = o_lay w (6 + 10 * k) (o_k w k.toNat ++ [44]) := by
  obtain ⟨n, rfl⟩ := Int.eq_ofNat_of_zero_le h
  rfl
/-! lengths -/
def s_wm (w : Int) : Int := (if w < 9 then 7 else if w < 25 then 8 else if w < 33 then 7 else if w = 35 then 9 else if w = 33 ∨ w = 34 then 3 else if w = 40 ∨ w = 45 ∨ w = 47 then 2 else if w = 43 then 1 else if w = 44 ∨ w = 46 then 7 else if w < 40 then 6 else 8)
theorem s_wl : ∀ w : Nat, w < 67 → ((st_by.getD w []).length : Int) ≤ s_wm w := by decide +kernel
theorem s_wli {w : Int} (h : 0 ≤ w ∧ w < 67) : ((s_wb w).length : Int) ≤ (if w < 9 then 7 else if w < 25 then 8 else if w < 33 then 7 else if w = 35 then 9 else if w = 33 ∨ w = 34 then 3 else if w = 40 ∨ w = 45 ∨ w = 47 then 2 else if w = 43 then 1 else if w = 44 ∨ w = 46 then 7 else if w < 40 then 6 else 8) := by
  have := s_wl w.toNat (by omega)
  rw [show ((w.toNat : Nat) : Int) = w by omega] at this
  exact this
theorem o_w_l {l : List Int} {w c : Int} (hw : 0 ≤ w ∧ w < 67) (h : ((s_wb w).length : Int) ≤ c) : l.length ≤ (o_w l w).length ∧ ((o_w l w).length : Int) ≤ l.length + 1 + c := by
  unfold o_w
  rw [List.length_append, List.length_append]
  split <;> simp <;> omega
theorem o_w_a {l : List Int} {w : Int} (hw : 0 ≤ w ∧ w < 67) : l.length ≤ (o_w l w).length ∧ ((o_w l w).length : Int) ≤ l.length + 1 + (if w < 9 then 7 else if w < 25 then 8 else if w < 33 then 7 else if w = 35 then 9 else if w = 33 ∨ w = 34 then 3 else if w = 40 ∨ w = 45 ∨ w = 47 then 2 else if w = 43 then 1 else if w = 44 ∨ w = 46 then 7 else if w < 40 then 6 else 8) := o_w_l hw (s_wli hw)
theorem o_n_l (l : List Int) (v : Int) : l.length ≤ (o_n l v).length ∧ (o_n l v).length ≤ l.length + 3 := by
  unfold o_n
  rw [List.length_append, List.length_append, List.length_append]
  split <;> simp <;> omega
theorem o_ln_l {l : List Int} {n : Int} (h : 0 ≤ n ∧ n ≤ 2) : l.length ≤ (o_ln l n).length ∧ (o_ln l n).length ≤ l.length + 9 := by
  unfold o_ln
  split
  · have := o_w_a (l := l) (w := 41 + n - 1) (by omega); omega
  · omega
theorem o_nb_l {l : List Int} {n : Int} : l.length ≤ (o_nb l n).length ∧ (o_nb l n).length ≤ l.length + 3 := by
  unfold o_nb
  split
  · have := o_w_a (l := l) (w := 43) (by omega); omega
  · exact o_n_l l n
theorem o_at_l {l : List Int} {t a : Int} (h : a = s_fa t ∨ (1 ≤ a ∧ a ≤ 4)) : l.length ≤ (o_at l t a).length ∧ (o_at l t a).length ≤ l.length + 9 := by
  unfold o_at
  split
  · omega
  · have := o_w_a (l := l) (w := 21 + a - 1) (by omega); omega
theorem o_grp_l {w : Int → Int} {b : Int} {l : List Int} (h : okGrp w b) : l.length ≤ (o_grp w b l).length ∧ (o_grp w b l).length ≤ l.length + 29 := by
  obtain ⟨g1, g2, g3, g4, g5, g6, g7, g8, g9, g10, g11, g12, g13⟩ := h
  unfold o_grp
  have a1 := o_nb_l (l := l) (n := w (b + 5))
  have a2 := o_w_a (l := o_nb l (w (b + 5))) (w := 9 + w (b + 6)) (by omega)
  have a3 := o_at_l (l := o_w (o_nb l (w (b + 5))) (9 + w (b + 6))) (t := w (b + 6)) (a := w (b + 7)) (by omega)
  have a4 := o_w_a (l := o_at (o_w (o_nb l (w (b + 5))) (9 + w (b + 6))) (w (b + 6)) (w (b + 7))) (w := w (b + 8)) (by omega)
  omega
theorem o_gr_l {w : Int → Int} {b : Int} {l : List Int} (h : okLay w b) : l.length ≤ (o_gr w b l).length ∧ (o_gr w b l).length ≤ l.length + 29 := by
  unfold o_gr
  split
  · omega
  · rcases h.2.2.1 with q | q
    · exact o_grp_l q
    · unfold noGrp at q; omega
theorem o_ord_l {w : Int → Int} {b : Int} {l : List Int} (h : okLay w b) : l.length ≤ (o_ord w b l).length ∧ (o_ord w b l).length ≤ l.length + 27 := by
  unfold o_ord
  split
  · omega
  · rcases h.2.1 with q | q
    · obtain ⟨q1, q2, q3, q4, q5, q6⟩ := q
      have a1 := o_w_a (l := l) (w := 43) (by omega)
      have a2 := o_w_a (l := o_w l 43) (w := 25 + w (b + 1)) (by omega)
      have a3 := o_ln_l (l := o_w (o_w l 43) (25 + w (b + 1))) (n := w (b + 2)) (by omega)
      have a4 := o_w_a (l := o_ln (o_w (o_w l 43) (25 + w (b + 1))) (w (b + 2))) (w := w (b + 3)) (by omega)
      omega
    · unfold noOrd at q; omega
theorem o_pt_l {l : List Int} {p : Int} (h : 0 ≤ p ∧ p ≤ 4) : l.length ≤ (o_pt l p).length ∧ (o_pt l p).length ≤ l.length + 12 := by
  unfold o_pt
  split
  · have a1 := o_w_a (l := l) (w := 47) (by omega)
    have a2 := o_w_a (l := o_w l 47) (w := if p = 1 then 31 else 48 + p - 2) (by omega)
    omega
  · omega
theorem o_ov_l (l : List Int) (v : Int) : l.length ≤ (o_ov l v).length ∧ (o_ov l v).length ≤ l.length + 8 := by
  unfold o_ov
  have := o_w_a (l := l) (w := 44) (by omega)
  split <;> omega
theorem o_on_l (l : List Int) (v : Int) : l.length ≤ (o_on l v).length ∧ (o_on l v).length ≤ l.length + 3 := by
  unfold o_on
  have := o_w_a (l := l) (w := 45) (by omega)
  split <;> omega
theorem o_bt_l (l : List Int) (v : Int) : l.length ≤ (o_bt l v).length ∧ (o_bt l v).length ≤ l.length + 8 := by
  unfold o_bt
  have := o_w_a (l := l) (w := 46) (by omega)
  split <;> omega
theorem okLay.part {w : Int → Int} {b : Int} (h : okLay w b) : 0 ≤ w (b + 9) ∧ w (b + 9) ≤ 4 := by
  have := h.2.2.1
  unfold okGrp noGrp at this
  omega
theorem o_lay_l {w : Int → Int} {b : Int} {l : List Int} (h : okLay w b) : l.length ≤ (o_lay w b l).length ∧ (o_lay w b l).length ≤ l.length + 87 := by
  unfold o_lay
  have a1 := o_ov_l l (w b)
  have a2 := o_on_l (o_ov l (w b)) (w (b + 4))
  have a3 := o_ord_l (l := o_on (o_ov l (w b)) (w (b + 4))) h
  have a4 := o_bt_l (o_ord w b (o_on (o_ov l (w b)) (w (b + 4)))) (w (b + 4))
  have a5 := o_gr_l (l := o_bt (o_ord w b (o_on (o_ov l (w b)) (w (b + 4)))) (w (b + 4))) h
  have a6 := o_pt_l (l := o_gr w b (o_bt (o_ord w b (o_on (o_ov l (w b)) (w (b + 4)))) (w (b + 4)))) h.part
  omega
theorem o_nm_l (l : List Int) (n : Int) : l.length ≤ (o_nm l n).length ∧ (o_nm l n).length ≤ l.length + 6 := by
  unfold o_nm
  have a1 := o_w_a (l := l) (w := 40) (by omega)
  have a2 := o_n_l (o_w l 40) n
  split <;> omega
theorem o_f1_l {w : Int → Int} (h : okRow w) : (o_f1 w).length ≤ 40 := by
  obtain ⟨h0, h1, -⟩ := h
  unfold o_f1
  split
  · simp
  · split
    · have a1 := o_w_a (l := []) (w := 33) (by omega)
      have a2 := o_w_a (l := o_w [] 33) (w := 25 + w 0 - 1) (by omega)
      have a3 := o_ln_l (l := o_w (o_w [] 33) (25 + w 0 - 1)) (n := w 1) (by omega)
      simp at a1
      omega
    · have a1 := o_w_a (l := []) (w := if w 0 = 5 then 35 else 36 + w 0 - 6) (by omega)
      have a2 := o_nm_l (o_w [] (if w 0 = 5 then 35 else 36 + w 0 - 6)) (w 2)
      simp at a1
      omega
theorem o_fld_l {w : Int → Int} (h : okRow w) : (o_fld w).length ≤ 70 := by
  have a0 := o_f1_l h
  obtain ⟨-, -, -, h3, h4, -⟩ := h
  have a1 := o_w_a (l := o_f1 w) (w := w 3) (by omega)
  unfold o_fld
  split
  · omega
  · have a2 := o_w_a (l := o_w (o_f1 w) (w 3)) (w := 34) (by omega)
    have a3 := o_w_a (l := o_w (o_w (o_f1 w) (w 3)) 34) (w := w 4) (by omega)
    omega
theorem o_k_l {w : Int → Int} (h : okRow w) : ∀ n : Nat, (n : Int) ≤ w 5 → (o_k w n).length ≤ 70 + 88 * n := by
  intro n
  induction n with
  | zero => intro _; exact o_fld_l h
  | succ n ih =>
    intro hn
    have a := ih (by omega)
    have b := o_lay_l (l := o_k w n ++ [44]) (h.2.2.2.2.2.2.2.1 n (by omega) (by omega))
    rw [List.length_append, List.length_singleton] at b
    rw [o_k]
    omega
/-! OUT of the house -/
def hOut (m : aM) (l : List Int) : Prop := m 1 3 = l.length ∧ ∀ j : Nat, j < l.length → m 4 j = l.getD j 0
def fr_W (m m' : aM) : Prop := ∀ r j, r ≠ 4 → (r ≠ 1 ∨ j ≠ 3) → m' r j = m r j
theorem fr_W.trans {a b c : aM} (h : fr_W a b) (g : fr_W b c) : fr_W a c := fun r j x y => (g r j x y).trans (h r j x y)
theorem fr_W.rfl (m : aM) : fr_W m m := fun _ _ _ _ => Eq.refl _
theorem fr_W.at {m m' : aM} (h : fr_W m m') {r : Int} (h1 : r ≠ 4) (h2 : r ≠ 1) : m' r = m r := funext fun j => h r j h1 (Or.inl h2)
theorem fr_W.hK {lo hi : Int} {m m' : aM} (h : fr_W m m') (hl : 29 ≤ lo) : hKeep m m' lo hi := fun r x y => by
  have := h.at (r := r) (by omega) (by omega)
  exact ⟨by rw [this], fun _ => this⟩
def hWd (m : aM) : Prop := hCst m ∧ ∀ w, 0 ≤ w → w < 67 → m 2 w = -(100 + w)
theorem fr_W.Wd {m m' : aM} (h : fr_W m m') (g : hWd m) : hWd m' := ⟨fun r hr => by rw [h.at (by omega) (by omega)]; exact g.1 r hr, fun w a b => by rw [h.at (by omega) (by omega)]; exact g.2 w a b⟩
theorem ct_71 {d : Nat} {m : aM} {Q : aO → aM → Prop} {b : Int} {l : List Int} (hd : 1 ≤ d) (hO : hOut m l) (hl : l.length < 700) (hQ : ∀ m', fr_W m m' → hOut m' (l ++ [b]) → Q (.inl none) m') : am_wpc am_G am_T d 71 [aR 1, aI b] m Q := by
  have h0 := hO.1
  refine am_in rfl hd (fun d hd => ?_)
  refine am_go 400 [] (am_wpc_cm _ _ _) wf_71 ?_
  refine And.intro (rfl) ?_
  refine And.intro (rfl) ?_
  refine And.intro (⟨rfl, by first | omega | (simp only [mS_iff, eq_self, Int.reduceEq, true_and, and_true, false_and, and_false, and_self, ↓reduceIte]; omega) | (simp only [mS_iff, eq_self, Int.reduceEq, true_and, and_true, false_and, and_false, and_self, ↓reduceIte] at *; omega)⟩) ?_
  refine And.intro (rfl) ?_
  refine And.intro (show -2147483648 ≤ (m 1 3) + 1 ∧ (m 1 3) + 1 ≤ 2147483647 by first | omega | (simp only [mS_iff, eq_self, Int.reduceEq, true_and, and_true, false_and, and_false, and_self, ↓reduceIte]; omega) | (simp only [mS_iff, eq_self, Int.reduceEq, true_and, and_true, false_and, and_false, and_self, ↓reduceIte] at *; omega)) ?_
  refine And.intro (rfl) ?_
  refine hQ _ (fun r j a b => by rw [mS_iff, if_neg (by omega), mS_iff, if_neg (by omega)]) ⟨?_, fun j hj => ?_⟩
  · rw [List.length_append, List.length_singleton]
    show m 1 3 + 1 = _
    omega
  · rw [q_app_at hj]
    rw [List.length_append, List.length_singleton] at hj
    rw [mS_a _ _ _ _ (by omega), mS_iff]
    by_cases e : j < l.length
    · rw [if_pos e, if_neg (by omega)]; exact hO.2 j e
    · rw [if_neg e, if_pos (by omega)]
theorem ct_70 {d : Nat} {m : aM} {Q : aO → aM → Prop} {w : Int} {l : List Int} (hd : 5 ≤ d) (hW : hWd m) (hw : 0 ≤ w ∧ w < 67) (hO : hOut m l) (hl : l.length + 10 ≤ 700) (hQ : ∀ m', fr_W m m' → hOut m' (o_w l w) → Q (.inl none) m') : am_wpc am_G am_T d 70 [aR 1, aI w] m Q := by
  have h0 := hO.1
  have wl := s_wb_b hw
  refine am_in rfl hd (fun d hd => ?_)
  have K15 : ∀ (N : Nat), ∀ (k : Int), ∀ (m2 : aM), ((s_wb w).length - k).toNat = N → (0 ≤ k ∧ k ≤ (s_wb w).length) → (fr_W m m2) → (hOut m2 (l ++ (if l.length = 0 then [] else [32]) ++ (s_wb w).take k.toNat)) → am_WP am_G (am_wpc am_G am_T d) [] cd_70 Q 15 [aR 1, aI w, aI k] [] m2 := by
    intro N
    induction N using Nat.strongRecOn with
    | _ N ih15 =>
      intro k m2 hN i0 fr ho
      have hW2 := fr.Wd hW
      refine am_go 400 [15] (am_wpc_cm _ _ _) wf_70 ?_
      refine And.intro (rfl) ?_
      refine And.intro (⟨rfl, by first | omega | (simp only [mS_iff, eq_self, Int.reduceEq, true_and, and_true, false_and, and_false, and_self, ↓reduceIte]; omega) | (simp only [mS_iff, eq_self, Int.reduceEq, true_and, and_true, false_and, and_false, and_self, ↓reduceIte] at *; omega)⟩) ?_
      refine And.intro (show m2 (m2 2 w) (-1) = 30 by rw [hW2.2 w hw.1 hw.2]; exact (hW2.1.str hw).1.1) ?_
      refine ct_20 (by omega) hW2.1 hw (hW2.2 w hw.1 hw.2) (fun v1 h2 => ?_)
      refine And.intro (fun h3 => ?_) (fun h3 => ?_)
      · exact hQ _ fr (by rw [show k.toNat = (s_wb w).length by omega, List.take_length] at ho; exact ho)
      · refine And.intro (rfl) ?_
        refine And.intro (⟨rfl, by first | omega | (simp only [mS_iff, eq_self, Int.reduceEq, true_and, and_true, false_and, and_false, and_self, ↓reduceIte]; omega) | (simp only [mS_iff, eq_self, Int.reduceEq, true_and, and_true, false_and, and_false, and_self, ↓reduceIte] at *; omega)⟩) ?_
        refine And.intro (show m2 (m2 2 w) (-1) = 30 by rw [hW2.2 w hw.1 hw.2]; exact (hW2.1.str hw).1.1) ?_
        refine ct_22 (by omega) hW2.1 hw (hW2.2 w hw.1 hw.2) (by omega) (fun v4 h5 => ?_)
        refine And.intro (rfl) ?_
        refine ct_71 (by omega) ho (by rw [List.length_append, List.length_append, List.length_take]; split <;> simp <;> omega) (fun mw6 h7 h8 => ?_)
        have fz := h7
        have oz := h8
        refine And.intro (show -2147483648 ≤ k + 1 ∧ k + 1 ≤ 2147483647 by first | omega | (simp only [mS_iff, eq_self, Int.reduceEq, true_and, and_true, false_and, and_false, and_self, ↓reduceIte]; omega) | (simp only [mS_iff, eq_self, Int.reduceEq, true_and, and_true, false_and, and_false, and_self, ↓reduceIte] at *; omega)) ?_
        refine ih15 _ ?_ _ _ (Eq.refl _) ?_ ?_ ?_
        · omega
        · first | omega | (simp only [mS_iff, eq_self, Int.reduceEq, true_and, and_true, false_and, and_false, and_self, ↓reduceIte]; omega) | (simp only [mS_iff, eq_self, Int.reduceEq, true_and, and_true, false_and, and_false, and_self, ↓reduceIte] at *; omega)
        · exact fr.trans fz
        · rw [q_take_s (by omega) (by omega), ← List.append_assoc, ← h5]; exact oz
  refine am_go 400 [15] (am_wpc_cm _ _ _) wf_70 ?_
  refine And.intro (rfl) ?_
  refine And.intro (fun h9 => ?_) (fun h9 => ?_)
  · refine K15 _ _ _ (Eq.refl _) ?_ ?_ ?_
    · first | omega | (simp only [mS_iff, eq_self, Int.reduceEq, true_and, and_true, false_and, and_false, and_self, ↓reduceIte]; omega) | (simp only [mS_iff, eq_self, Int.reduceEq, true_and, and_true, false_and, and_false, and_self, ↓reduceIte] at *; omega)
    · exact fr_W.rfl m
    · rw [if_pos (by omega)]; simp; exact hO
  · refine And.intro (rfl) ?_
    refine ct_71 (by omega) hO (by omega) (fun mw10 h11 h12 => ?_)
    have fz := h11
    have oz := h12
    refine K15 _ _ _ (Eq.refl _) ?_ ?_ ?_
    · first | omega | (simp only [mS_iff, eq_self, Int.reduceEq, true_and, and_true, false_and, and_false, and_self, ↓reduceIte]; omega) | (simp only [mS_iff, eq_self, Int.reduceEq, true_and, and_true, false_and, and_false, and_self, ↓reduceIte] at *; omega)
    · exact fz
    · rw [if_neg (by omega)]; simp; exact oz
