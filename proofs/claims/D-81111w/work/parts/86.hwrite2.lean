/-! needs: 85 -/
/-! CONTRACTS: writing of the house, whole; by tools/gen86.py -/
set_option maxRecDepth 100000
theorem ct_70e {d : Nat} {m : aM} {Q : aO → aM → Prop} {w w' : Int} {l : List Int} (e : w' = w) (hd : 5 ≤ d) (hW : hWd m) (hw : 0 ≤ w ∧ w < 67) (hO : hOut m l) (hl : l.length + 10 ≤ 700) (hQ : ∀ m', fr_W m m' → hOut m' (o_w l w) → Q (.inl none) m') : am_wpc am_G am_T d 70 [aR 1, aI w'] m Q := by
  subst e
  exact ct_70 hd hW hw hO hl hQ
theorem ct_72 {d : Nat} {m : aM} {Q : aO → aM → Prop} {n : Int} {l : List Int} (hd : 6 ≤ d) (hW : hWd m) (hO : hOut m l) (hn : 0 ≤ n ∧ n ≤ 2) (hl : l.length + 10 ≤ 700) (hQ : ∀ m', fr_W m m' → hOut m' (o_ln l n) → Q (.inl none) m') : am_wpc am_G am_T d 72 [aR 1, aI n] m Q := by
  have fr := fr_W.rfl m
  refine am_in rfl hd (fun d hd => ?_)
  refine am_go 400 [] (am_wpc_cm _ _ _) wf_72 ?_
  refine And.intro (fun h1 => ?_) (fun h1 => ?_)
  · exact hQ _ fr (by unfold o_ln; first | (rw [if_pos (by omega)]; exact hO) | (rw [if_neg (by omega)]; exact hO))
  · refine And.intro (show -2147483648 ≤ 41 + n ∧ 41 + n ≤ 2147483647 by first | omega | (simp only [mS_iff, eq_self, Int.reduceEq, true_and, and_true, false_and, and_false, and_self, ↓reduceIte]; omega) | (simp only [mS_iff, eq_self, Int.reduceEq, true_and, and_true, false_and, and_false, and_self, ↓reduceIte] at *; omega)) ?_
    refine And.intro (show -2147483648 ≤ (41 + n) - 1 ∧ (41 + n) - 1 ≤ 2147483647 by first | omega | (simp only [mS_iff, eq_self, Int.reduceEq, true_and, and_true, false_and, and_false, and_self, ↓reduceIte]; omega) | (simp only [mS_iff, eq_self, Int.reduceEq, true_and, and_true, false_and, and_false, and_self, ↓reduceIte] at *; omega)) ?_
    refine And.intro (rfl) ?_
    refine ct_70e (w := 41 + n - 1) (l := l) (by omega) (by omega) hW (by omega) hO (by omega) (fun mw2 h3 h4 => ?_)
    have fr := fr.trans h3
    have hW := h3.Wd hW
    have hO := h4
    have h5 := o_w_a (l := l) (w := 41 + n - 1) (by omega)
    exact hQ _ fr (by unfold o_ln; first | (rw [if_pos (by omega)]; exact hO) | (rw [if_neg (by omega)]; exact hO))
theorem ct_73 {d : Nat} {m : aM} {Q : aO → aM → Prop} {n : Int} {l : List Int} (hd : 2 ≤ d) (hW : hWd m) (hO : hOut m l) (hn : 0 ≤ n ∧ n ≤ 99) (hl : l.length + 3 ≤ 700) (hQ : ∀ m', fr_W m m' → hOut m' (o_n l n) → Q (.inl none) m') : am_wpc am_G am_T d 73 [aR 1, aI n] m Q := by
  have fr := fr_W.rfl m
  have t1 := Int.tdiv_eq_ediv_of_nonneg (b := 10) hn.1
  have t2 := Int.tmod_eq_emod_of_nonneg (b := 10) hn.1
  refine am_in rfl hd (fun d hd => ?_)
  refine am_go 400 [] (am_wpc_cm _ _ _) wf_73 ?_
  refine And.intro (rfl) ?_
  refine ct_71 (b := _) (l := l) (by omega) hO (by omega) (fun mw1 h2 h3 => ?_)
  have fr := fr.trans h2
  have hO := h3
  have h4 : (l ++ [32]).length = (l).length + 1 := List.length_append
  refine And.intro (fun h5 => ?_) (fun h5 => ?_)
  · refine And.intro (show 0 < 10 by first | omega | (simp only [mS_iff, eq_self, Int.reduceEq, true_and, and_true, false_and, and_false, and_self, ↓reduceIte]; omega) | (simp only [mS_iff, eq_self, Int.reduceEq, true_and, and_true, false_and, and_false, and_self, ↓reduceIte] at *; omega)) ?_
    refine And.intro (show -2147483648 ≤ 48 + (n.tmod 10) ∧ 48 + (n.tmod 10) ≤ 2147483647 by first | omega | (simp only [mS_iff, eq_self, Int.reduceEq, true_and, and_true, false_and, and_false, and_self, ↓reduceIte]; omega) | (simp only [mS_iff, eq_self, Int.reduceEq, true_and, and_true, false_and, and_false, and_self, ↓reduceIte] at *; omega)) ?_
    refine And.intro (rfl) ?_
    refine ct_71 (b := _) (l := (l ++ [32])) (by omega) hO (by omega) (fun mw6 h7 h8 => ?_)
    have fr := fr.trans h7
    have hO := h8
    rw [t2] at hO
    have h9 : ((l ++ [32]) ++ [48 + n % 10]).length = ((l ++ [32])).length + 1 := List.length_append
    exact hQ _ fr (by unfold o_n; first | (rw [if_pos (by omega)]; exact hO) | (rw [if_neg (by omega), List.append_nil]; exact hO))
  · refine And.intro (show 0 < 10 by first | omega | (simp only [mS_iff, eq_self, Int.reduceEq, true_and, and_true, false_and, and_false, and_self, ↓reduceIte]; omega) | (simp only [mS_iff, eq_self, Int.reduceEq, true_and, and_true, false_and, and_false, and_self, ↓reduceIte] at *; omega)) ?_
    refine And.intro (show -2147483648 ≤ 48 + (n.tdiv 10) ∧ 48 + (n.tdiv 10) ≤ 2147483647 by first | omega | (simp only [mS_iff, eq_self, Int.reduceEq, true_and, and_true, false_and, and_false, and_self, ↓reduceIte]; omega) | (simp only [mS_iff, eq_self, Int.reduceEq, true_and, and_true, false_and, and_false, and_self, ↓reduceIte] at *; omega)) ?_
    refine And.intro (rfl) ?_
    refine ct_71 (b := _) (l := (l ++ [32])) (by omega) hO (by omega) (fun mw10 h11 h12 => ?_)
    have fr := fr.trans h11
    have hO := h12
    rw [t1] at hO
    have h13 : ((l ++ [32]) ++ [48 + n / 10]).length = ((l ++ [32])).length + 1 := List.length_append
    refine And.intro (show 0 < 10 by first | omega | (simp only [mS_iff, eq_self, Int.reduceEq, true_and, and_true, false_and, and_false, and_self, ↓reduceIte]; omega) | (simp only [mS_iff, eq_self, Int.reduceEq, true_and, and_true, false_and, and_false, and_self, ↓reduceIte] at *; omega)) ?_
    refine And.intro (show -2147483648 ≤ 48 + (n.tmod 10) ∧ 48 + (n.tmod 10) ≤ 2147483647 by first | omega | (simp only [mS_iff, eq_self, Int.reduceEq, true_and, and_true, false_and, and_false, and_self, ↓reduceIte]; omega) | (simp only [mS_iff, eq_self, Int.reduceEq, true_and, and_true, false_and, and_false, and_self, ↓reduceIte] at *; omega)) ?_
    refine And.intro (rfl) ?_
    refine ct_71 (b := _) (l := ((l ++ [32]) ++ [48 + n / 10])) (by omega) hO (by omega) (fun mw14 h15 h16 => ?_)
    have fr := fr.trans h15
    have hO := h16
    rw [t2] at hO
    have h17 : (((l ++ [32]) ++ [48 + n / 10]) ++ [48 + n % 10]).length = (((l ++ [32]) ++ [48 + n / 10])).length + 1 := List.length_append
    exact hQ _ fr (by unfold o_n; first | (rw [if_pos (by omega)]; exact hO) | (rw [if_neg (by omega), List.append_nil]; exact hO))
theorem ct_72e {d : Nat} {m : aM} {Q : aO → aM → Prop} {n n' : Int} {l : List Int} (e : n' = n) (hd : 6 ≤ d) (hW : hWd m) (hO : hOut m l) (hn : 0 ≤ n ∧ n ≤ 2) (hl : l.length + 10 ≤ 700) (hQ : ∀ m', fr_W m m' → hOut m' (o_ln l n) → Q (.inl none) m') : am_wpc am_G am_T d 72 [aR 1, aI n'] m Q := by
  subst e
  exact ct_72 hd hW hO hn hl hQ
theorem ct_73e {d : Nat} {m : aM} {Q : aO → aM → Prop} {n n' : Int} {l : List Int} (e : n' = n) (hd : 2 ≤ d) (hW : hWd m) (hO : hOut m l) (hn : 0 ≤ n ∧ n ≤ 99) (hl : l.length + 3 ≤ 700) (hQ : ∀ m', fr_W m m' → hOut m' (o_n l n) → Q (.inl none) m') : am_wpc am_G am_T d 73 [aR 1, aI n'] m Q := by
  subst e
  exact ct_73 hd hW hO hn hl hQ
theorem ct_75 {d : Nat} {m : aM} {Q : aO → aM → Prop} {g b : Int} {w : Int → Int} {l : List Int} (hd : 6 ≤ d) (hW : hWd m) (hO : hOut m l) (hg : 29 ≤ g) (g1 : m g (-1) = 10) (g2 : m g 0 = w (b + 5)) (g3 : m g 1 = w (b + 6)) (g4 : m g 2 = w (b + 7)) (g5 : m g 3 = w (b + 8)) (hk : okGrp w b) (hl : l.length + 40 ≤ 700) (hQ : ∀ m', fr_W m m' → hOut m' (o_grp w b l) → Q (.inl none) m') : am_wpc am_G am_T d 75 [aR 1, aR g] m Q := by
  have fr := fr_W.rfl m
  obtain ⟨k1, k2, k3, k4, k5, k6, k7, k8, k9, k10, k11, k12, k13⟩ := hk
  have hW0 := hW
  refine am_in rfl hd (fun d hd => ?_)
  have K63 : ∀ (m3 : aM), (fr_W m m3) → (hOut m3 (o_at (o_w (o_nb l (w (b + 5))) (9 + w (b + 6))) (w (b + 6)) (w (b + 7)))) → am_WP am_G (am_wpc am_G am_T d) [] cd_75 Q 63 [aR 1, aR g] [] m3 := by
    intro m3 fr hO
    have hW := fr.Wd hW0
    have qm3 : m3 g = m g := fr.at (by omega) (by omega)
    have c1 : m3 g (-1) = 10 := by rw [qm3]; exact g1
    have c2 : m3 g 0 = w (b + 5) := by rw [qm3]; exact g2
    have c3 : m3 g 1 = w (b + 6) := by rw [qm3]; exact g3
    have c4 : m3 g 2 = w (b + 7) := by rw [qm3]; exact g4
    have c5 : m3 g 3 = w (b + 8) := by rw [qm3]; exact g5
    have n1 := o_nb_l (l := l) (n := w (b + 5))
    have n2 := o_w_a (l := (o_nb l (w (b + 5)))) (w := 9 + w (b + 6)) (by omega)
    have n3 := o_at_l (l := (o_w (o_nb l (w (b + 5))) (9 + w (b + 6)))) (t := w (b + 6)) (a := w (b + 7)) (by omega)
    refine am_go 400 [63, 25] (am_wpc_cm _ _ _) wf_75 ?_
    refine And.intro (show (m3 g (-1)) = 10 by first | assumption | omega | (simp only [mS_iff, eq_self, Int.reduceEq, true_and, and_true, false_and, and_false, and_self, ↓reduceIte]; omega) | (simp only [mS_iff, eq_self, Int.reduceEq, true_and, and_true, false_and, and_false, and_self, ↓reduceIte] at *; omega)) ?_
    refine And.intro (rfl) ?_
    refine ct_70e (w := w (b + 8)) (l := (o_at (o_w (o_nb l (w (b + 5))) (9 + w (b + 6))) (w (b + 6)) (w (b + 7)))) (by omega) (by omega) hW (by omega) hO (by omega) (fun mw1 h2 h3 => ?_)
    have fr := fr.trans h2
    have hW := h2.Wd hW
    have hO := h3
    have h4 := o_w_a (l := (o_at (o_w (o_nb l (w (b + 5))) (9 + w (b + 6))) (w (b + 6)) (w (b + 7)))) (w := w (b + 8)) (by omega)
    exact hQ _ fr hO
  have K25 : ∀ (m3 : aM), (fr_W m m3) → (hOut m3 (o_nb l (w (b + 5)))) → am_WP am_G (am_wpc am_G am_T d) [] cd_75 Q 25 [aR 1, aR g] [] m3 := by
    intro m3 fr hO
    have hW := fr.Wd hW0
    have qm3 : m3 g = m g := fr.at (by omega) (by omega)
    have c1 : m3 g (-1) = 10 := by rw [qm3]; exact g1
    have c2 : m3 g 0 = w (b + 5) := by rw [qm3]; exact g2
    have c3 : m3 g 1 = w (b + 6) := by rw [qm3]; exact g3
    have c4 : m3 g 2 = w (b + 7) := by rw [qm3]; exact g4
    have c5 : m3 g 3 = w (b + 8) := by rw [qm3]; exact g5
    have n1 := o_nb_l (l := l) (n := w (b + 5))
    refine am_go 400 [63, 25] (am_wpc_cm _ _ _) wf_75 ?_
    refine And.intro (show (m3 g (-1)) = 10 by first | assumption | omega | (simp only [mS_iff, eq_self, Int.reduceEq, true_and, and_true, false_and, and_false, and_self, ↓reduceIte]; omega) | (simp only [mS_iff, eq_self, Int.reduceEq, true_and, and_true, false_and, and_false, and_self, ↓reduceIte] at *; omega)) ?_
    refine And.intro (show -2147483648 ≤ 9 + (m3 g 1) ∧ 9 + (m3 g 1) ≤ 2147483647 by first | omega | (simp only [mS_iff, eq_self, Int.reduceEq, true_and, and_true, false_and, and_false, and_self, ↓reduceIte]; omega) | (simp only [mS_iff, eq_self, Int.reduceEq, true_and, and_true, false_and, and_false, and_self, ↓reduceIte] at *; omega)) ?_
    refine And.intro (rfl) ?_
    refine ct_70e (w := 9 + w (b + 6)) (l := (o_nb l (w (b + 5)))) (by omega) (by omega) hW (by omega) hO (by omega) (fun mw5 h6 h7 => ?_)
    have fr := fr.trans h6
    have hW := h6.Wd hW
    have hO := h7
    have h8 := o_w_a (l := (o_nb l (w (b + 5)))) (w := 9 + w (b + 6)) (by omega)
    have qmw5 : mw5 g = m g := fr.at (by omega) (by omega)
    have c1 : mw5 g (-1) = 10 := by rw [qmw5]; exact g1
    have c2 : mw5 g 0 = w (b + 5) := by rw [qmw5]; exact g2
    have c3 : mw5 g 1 = w (b + 6) := by rw [qmw5]; exact g3
    have c4 : mw5 g 2 = w (b + 7) := by rw [qmw5]; exact g4
    have c5 : mw5 g 3 = w (b + 8) := by rw [qmw5]; exact g5
    refine And.intro (show (mw5 g (-1)) = 10 by first | assumption | omega | (simp only [mS_iff, eq_self, Int.reduceEq, true_and, and_true, false_and, and_false, and_self, ↓reduceIte]; omega) | (simp only [mS_iff, eq_self, Int.reduceEq, true_and, and_true, false_and, and_false, and_self, ↓reduceIte] at *; omega)) ?_
    refine And.intro (show (mw5 g (-1)) = 10 by first | assumption | omega | (simp only [mS_iff, eq_self, Int.reduceEq, true_and, and_true, false_and, and_false, and_self, ↓reduceIte]; omega) | (simp only [mS_iff, eq_self, Int.reduceEq, true_and, and_true, false_and, and_false, and_self, ↓reduceIte] at *; omega)) ?_
    refine ct_52 (by omega) (fun v9 h10 => ?_)
    rw [c3] at h10
    refine And.intro (fun h11 => ?_) (fun h11 => ?_)
    · refine K63 _ ?_ ?_
      · exact fr
      · unfold o_at; first | (rw [if_pos (by omega)]; exact hO) | (rw [if_neg (by omega)]; exact hO)
    · refine And.intro (show (mw5 g (-1)) = 10 by first | assumption | omega | (simp only [mS_iff, eq_self, Int.reduceEq, true_and, and_true, false_and, and_false, and_self, ↓reduceIte]; omega) | (simp only [mS_iff, eq_self, Int.reduceEq, true_and, and_true, false_and, and_false, and_self, ↓reduceIte] at *; omega)) ?_
      refine And.intro (show -2147483648 ≤ 21 + (mw5 g 2) ∧ 21 + (mw5 g 2) ≤ 2147483647 by first | omega | (simp only [mS_iff, eq_self, Int.reduceEq, true_and, and_true, false_and, and_false, and_self, ↓reduceIte]; omega) | (simp only [mS_iff, eq_self, Int.reduceEq, true_and, and_true, false_and, and_false, and_self, ↓reduceIte] at *; omega)) ?_
      refine And.intro (show -2147483648 ≤ (21 + (mw5 g 2)) - 1 ∧ (21 + (mw5 g 2)) - 1 ≤ 2147483647 by first | omega | (simp only [mS_iff, eq_self, Int.reduceEq, true_and, and_true, false_and, and_false, and_self, ↓reduceIte]; omega) | (simp only [mS_iff, eq_self, Int.reduceEq, true_and, and_true, false_and, and_false, and_self, ↓reduceIte] at *; omega)) ?_
      refine And.intro (rfl) ?_
      refine ct_70e (w := 21 + w (b + 7) - 1) (l := (o_w (o_nb l (w (b + 5))) (9 + w (b + 6)))) (by omega) (by omega) hW (by omega) hO (by omega) (fun mw12 h13 h14 => ?_)
      have fr := fr.trans h13
      have hW := h13.Wd hW
      have hO := h14
      have h15 := o_w_a (l := (o_w (o_nb l (w (b + 5))) (9 + w (b + 6)))) (w := 21 + w (b + 7) - 1) (by omega)
      refine K63 _ ?_ ?_
      · exact fr
      · unfold o_at; first | (rw [if_pos (by omega)]; exact hO) | (rw [if_neg (by omega)]; exact hO)
  refine am_go 400 [63, 25] (am_wpc_cm _ _ _) wf_75 ?_
  refine And.intro (show (m g (-1)) = 10 by first | assumption | omega | (simp only [mS_iff, eq_self, Int.reduceEq, true_and, and_true, false_and, and_false, and_self, ↓reduceIte]; omega) | (simp only [mS_iff, eq_self, Int.reduceEq, true_and, and_true, false_and, and_false, and_self, ↓reduceIte] at *; omega)) ?_
  refine And.intro (fun h16 => ?_) (fun h16 => ?_)
  · refine And.intro (show (m g (-1)) = 10 by first | assumption | omega | (simp only [mS_iff, eq_self, Int.reduceEq, true_and, and_true, false_and, and_false, and_self, ↓reduceIte]; omega) | (simp only [mS_iff, eq_self, Int.reduceEq, true_and, and_true, false_and, and_false, and_self, ↓reduceIte] at *; omega)) ?_
    refine And.intro (rfl) ?_
    refine ct_73e (n := w (b + 5)) (l := l) (by omega) (by omega) hW hO (by omega) (by omega) (fun mw17 h18 h19 => ?_)
    have fr := fr.trans h18
    have hW := h18.Wd hW
    have hO := h19
    have h20 := o_n_l l (w (b + 5))
    refine K25 _ ?_ ?_
    · exact fr
    · unfold o_nb; first | (rw [if_pos (by omega)]; exact hO) | (rw [if_neg (by omega)]; exact hO)
  · refine And.intro (rfl) ?_
    refine ct_70e (w := 43) (l := l) (by omega) (by omega) hW (by omega) hO (by omega) (fun mw21 h22 h23 => ?_)
    have fr := fr.trans h22
    have hW := h22.Wd hW
    have hO := h23
    have h24 := o_w_a (l := l) (w := 43) (by omega)
    refine K25 _ ?_ ?_
    · exact fr
    · unfold o_nb; first | (rw [if_pos (by omega)]; exact hO) | (rw [if_neg (by omega)]; exact hO)
theorem ct_74 {d : Nat} {m : aM} {Q : aO → aM → Prop} {y b lo hi : Int} {w : Int → Int} {l : List Int} (hd : 7 ≤ d) (hW : hWd m) (hO : hOut m l) (hlo : 29 ≤ lo) (hL : hLay m lo hi y w b) (hK : okLay w b) (hl : l.length + 90 ≤ 700) (hQ : ∀ m', fr_W m m' → hOut m' (o_lay w b l) → Q (.inl none) m') : am_wpc am_G am_T d 74 [aR 1, aR y] m Q := by
  have fr := fr_W.rfl m
  have hW0 := hW
  have n1 := o_ov_l l (w b)
  have n2 := o_on_l (o_ov l (w b)) (w (b + 4))
  have n3 := o_ord_l (l := o_on (o_ov l (w b)) (w (b + 4))) hK
  have n4 := o_bt_l (o_ord w b (o_on (o_ov l (w b)) (w (b + 4)))) (w (b + 4))
  have n5 := o_gr_l (l := o_bt (o_ord w b (o_on (o_ov l (w b)) (w (b + 4)))) (w (b + 4))) hK
  have pt := hK.part
  refine am_in rfl hd (fun d hd => ?_)
  have K105 : ∀ (m3 : aM), (fr_W m m3) → (hOut m3 (o_gr w b (o_bt (o_ord w b (o_on (o_ov l (w b)) (w (b + 4)))) (w (b + 4))))) → am_WP am_G (am_wpc am_G am_T d) [] cd_74 Q 105 [aR 1, aR y] [] m3 := by
    intro m3 fr hO
    have hW := fr.Wd hW0
    have qm3 := hL.keep (fr.hK hlo)
    obtain ⟨y1, y2, y3, y4, y5, y6, y7, y8, y9, -⟩ := id qm3
    refine am_go 400 [105, 90, 76, 27, 13] (am_wpc_cm _ _ _) wf_74 ?_
    refine And.intro (show (m3 y (-1)) = 7 by first | assumption | omega | (simp only [mS_iff, eq_self, Int.reduceEq, true_and, and_true, false_and, and_false, and_self, ↓reduceIte]; omega) | (simp only [mS_iff, eq_self, Int.reduceEq, true_and, and_true, false_and, and_false, and_self, ↓reduceIte] at *; omega)) ?_
    refine And.intro (fun h1 => ?_) (fun h1 => ?_)
    · refine hQ _ fr ?_
      show hOut _ (o_pt (o_gr w b (o_bt (o_ord w b (o_on (o_ov l (w b)) (w (b + 4)))) (w (b + 4)))) (w (b + 9)))
      unfold o_pt
      first | (rw [if_pos (by omega)]; exact hO) | (rw [if_neg (by omega)]; exact hO)
    · refine And.intro (rfl) ?_
      refine ct_70e (w := 47) (l := (o_gr w b (o_bt (o_ord w b (o_on (o_ov l (w b)) (w (b + 4)))) (w (b + 4))))) (by omega) (by omega) hW (by omega) hO (by omega) (fun mw2 h3 h4 => ?_)
      have fr := fr.trans h3
      have hW := h3.Wd hW
      have hO := h4
      have h5 := o_w_a (l := (o_gr w b (o_bt (o_ord w b (o_on (o_ov l (w b)) (w (b + 4)))) (w (b + 4))))) (w := 47) (by omega)
      have qmw2 := hL.keep (fr.hK hlo)
      obtain ⟨y1, y2, y3, y4, y5, y6, y7, y8, y9, -⟩ := id qmw2
      refine And.intro (show (mw2 y (-1)) = 7 by first | assumption | omega | (simp only [mS_iff, eq_self, Int.reduceEq, true_and, and_true, false_and, and_false, and_self, ↓reduceIte]; omega) | (simp only [mS_iff, eq_self, Int.reduceEq, true_and, and_true, false_and, and_false, and_self, ↓reduceIte] at *; omega)) ?_
      refine And.intro (fun h6 => ?_) (fun h6 => ?_)
      · refine And.intro (show (mw2 y (-1)) = 7 by first | assumption | omega | (simp only [mS_iff, eq_self, Int.reduceEq, true_and, and_true, false_and, and_false, and_self, ↓reduceIte]; omega) | (simp only [mS_iff, eq_self, Int.reduceEq, true_and, and_true, false_and, and_false, and_self, ↓reduceIte] at *; omega)) ?_
        refine And.intro (show -2147483648 ≤ 48 + (mw2 y 4) ∧ 48 + (mw2 y 4) ≤ 2147483647 by first | omega | (simp only [mS_iff, eq_self, Int.reduceEq, true_and, and_true, false_and, and_false, and_self, ↓reduceIte]; omega) | (simp only [mS_iff, eq_self, Int.reduceEq, true_and, and_true, false_and, and_false, and_self, ↓reduceIte] at *; omega)) ?_
        refine And.intro (show -2147483648 ≤ (48 + (mw2 y 4)) - 2 ∧ (48 + (mw2 y 4)) - 2 ≤ 2147483647 by first | omega | (simp only [mS_iff, eq_self, Int.reduceEq, true_and, and_true, false_and, and_false, and_self, ↓reduceIte]; omega) | (simp only [mS_iff, eq_self, Int.reduceEq, true_and, and_true, false_and, and_false, and_self, ↓reduceIte] at *; omega)) ?_
        refine And.intro (rfl) ?_
        refine ct_70e (w := if w (b + 9) = 1 then 31 else 48 + w (b + 9) - 2) (l := (o_w (o_gr w b (o_bt (o_ord w b (o_on (o_ov l (w b)) (w (b + 4)))) (w (b + 4)))) 47)) (by omega) (by omega) hW (by omega) hO (by omega) (fun mw7 h8 h9 => ?_)
        have fr := fr.trans h8
        have hW := h8.Wd hW
        have hO := h9
        have h10 := o_w_a (l := (o_w (o_gr w b (o_bt (o_ord w b (o_on (o_ov l (w b)) (w (b + 4)))) (w (b + 4)))) 47)) (w := if w (b + 9) = 1 then 31 else 48 + w (b + 9) - 2) (by omega)
        refine hQ _ fr ?_
        show hOut _ (o_pt (o_gr w b (o_bt (o_ord w b (o_on (o_ov l (w b)) (w (b + 4)))) (w (b + 4)))) (w (b + 9)))
        unfold o_pt
        first | (rw [if_pos (by omega)]; exact hO) | (rw [if_neg (by omega)]; exact hO)
      · refine And.intro (rfl) ?_
        refine ct_70e (w := if w (b + 9) = 1 then 31 else 48 + w (b + 9) - 2) (l := (o_w (o_gr w b (o_bt (o_ord w b (o_on (o_ov l (w b)) (w (b + 4)))) (w (b + 4)))) 47)) (by omega) (by omega) hW (by omega) hO (by omega) (fun mw11 h12 h13 => ?_)
        have fr := fr.trans h12
        have hW := h12.Wd hW
        have hO := h13
        have h14 := o_w_a (l := (o_w (o_gr w b (o_bt (o_ord w b (o_on (o_ov l (w b)) (w (b + 4)))) (w (b + 4)))) 47)) (w := if w (b + 9) = 1 then 31 else 48 + w (b + 9) - 2) (by omega)
        refine hQ _ fr ?_
        show hOut _ (o_pt (o_gr w b (o_bt (o_ord w b (o_on (o_ov l (w b)) (w (b + 4)))) (w (b + 4)))) (w (b + 9)))
        unfold o_pt
        first | (rw [if_pos (by omega)]; exact hO) | (rw [if_neg (by omega)]; exact hO)
  have K90 : ∀ (m3 : aM), (fr_W m m3) → (hOut m3 (o_bt (o_ord w b (o_on (o_ov l (w b)) (w (b + 4)))) (w (b + 4)))) → am_WP am_G (am_wpc am_G am_T d) [] cd_74 Q 90 [aR 1, aR y] [] m3 := by
    intro m3 fr hO
    have hW := fr.Wd hW0
    have qm3 := hL.keep (fr.hK hlo)
    obtain ⟨y1, y2, y3, y4, y5, y6, y7, y8, y9, -⟩ := id qm3
    refine am_go 400 [105, 90, 76, 27, 13] (am_wpc_cm _ _ _) wf_74 ?_
    refine And.intro (show (m3 y (-1)) = 7 by first | assumption | omega | (simp only [mS_iff, eq_self, Int.reduceEq, true_and, and_true, false_and, and_false, and_self, ↓reduceIte]; omega) | (simp only [mS_iff, eq_self, Int.reduceEq, true_and, and_true, false_and, and_false, and_self, ↓reduceIte] at *; omega)) ?_
    rcases y6 with ⟨gn, gn2, -, -, -, -, -⟩ | ⟨g0, g2, g1, g4, g5, g6, g7, g8, -⟩
    · refine And.intro (show (m3 y 2) ≠ -9 by first | omega | (simp only [mS_iff, eq_self, Int.reduceEq, true_and, and_true, false_and, and_false, and_self, ↓reduceIte]; omega) | (simp only [mS_iff, eq_self, Int.reduceEq, true_and, and_true, false_and, and_false, and_self, ↓reduceIte] at *; omega)) ?_
      refine And.intro (fun _ => ?_) (fun h => absurd h (by omega))
      refine K105 _ ?_ ?_
      · exact fr
      · unfold o_gr; first | (rw [if_pos (by omega)]; exact hO) | (rw [if_neg (by omega)]; exact hO)
    · have kg := g4.1
      refine And.intro (show (m3 y 2) ≠ -9 by first | omega | (simp only [mS_iff, eq_self, Int.reduceEq, true_and, and_true, false_and, and_false, and_self, ↓reduceIte]; omega) | (simp only [mS_iff, eq_self, Int.reduceEq, true_and, and_true, false_and, and_false, and_self, ↓reduceIte] at *; omega)) ?_
      refine And.intro (fun h => absurd h (by omega)) (fun _ => ?_)
      refine And.intro (show (m3 y (-1)) = 7 by first | assumption | omega | (simp only [mS_iff, eq_self, Int.reduceEq, true_and, and_true, false_and, and_false, and_self, ↓reduceIte]; omega) | (simp only [mS_iff, eq_self, Int.reduceEq, true_and, and_true, false_and, and_false, and_self, ↓reduceIte] at *; omega)) ?_
      refine And.intro (rfl) ?_
      refine ct_75 (b := b) (w := w) (l := (o_bt (o_ord w b (o_on (o_ov l (w b)) (w (b + 4)))) (w (b + 4)))) (by omega) hW hO (by omega) g1 g5 g6 g7 g8 g4 (by omega) (fun mw15 h16 h17 => ?_)
      have fr := fr.trans h16
      have hW := h16.Wd hW
      have hO := h17
      refine K105 _ ?_ ?_
      · exact fr
      · unfold o_gr; first | (rw [if_pos (by omega)]; exact hO) | (rw [if_neg (by omega)]; exact hO)
  have K76 : ∀ (m3 : aM), (fr_W m m3) → (hOut m3 (o_ord w b (o_on (o_ov l (w b)) (w (b + 4))))) → am_WP am_G (am_wpc am_G am_T d) [] cd_74 Q 76 [aR 1, aR y] [] m3 := by
    intro m3 fr hO
    have hW := fr.Wd hW0
    have qm3 := hL.keep (fr.hK hlo)
    obtain ⟨y1, y2, y3, y4, y5, y6, y7, y8, y9, -⟩ := id qm3
    refine am_go 400 [105, 90, 76, 27, 13] (am_wpc_cm _ _ _) wf_74 ?_
    refine And.intro (show (m3 y (-1)) = 7 by first | assumption | omega | (simp only [mS_iff, eq_self, Int.reduceEq, true_and, and_true, false_and, and_false, and_self, ↓reduceIte]; omega) | (simp only [mS_iff, eq_self, Int.reduceEq, true_and, and_true, false_and, and_false, and_self, ↓reduceIte] at *; omega)) ?_
    refine And.intro (fun h18 => ?_) (fun h18 => ?_)
    · refine K90 _ ?_ ?_
      · exact fr
      · unfold o_bt; first | (rw [if_pos (by omega)]; exact hO) | (rw [if_neg (by omega)]; exact hO)
    · refine And.intro (rfl) ?_
      refine ct_70e (w := 46) (l := (o_ord w b (o_on (o_ov l (w b)) (w (b + 4))))) (by omega) (by omega) hW (by omega) hO (by omega) (fun mw19 h20 h21 => ?_)
      have fr := fr.trans h20
      have hW := h20.Wd hW
      have hO := h21
      have h22 := o_w_a (l := (o_ord w b (o_on (o_ov l (w b)) (w (b + 4))))) (w := 46) (by omega)
      refine K90 _ ?_ ?_
      · exact fr
      · unfold o_bt; first | (rw [if_pos (by omega)]; exact hO) | (rw [if_neg (by omega)]; exact hO)
  have K27 : ∀ (m3 : aM), (fr_W m m3) → (hOut m3 (o_on (o_ov l (w b)) (w (b + 4)))) → am_WP am_G (am_wpc am_G am_T d) [] cd_74 Q 27 [aR 1, aR y] [] m3 := by
    intro m3 fr hO
    have hW := fr.Wd hW0
    have qm3 := hL.keep (fr.hK hlo)
    obtain ⟨y1, y2, y3, y4, y5, y6, y7, y8, y9, -⟩ := id qm3
    refine am_go 400 [105, 90, 76, 27, 13] (am_wpc_cm _ _ _) wf_74 ?_
    refine And.intro (show (m3 y (-1)) = 7 by first | assumption | omega | (simp only [mS_iff, eq_self, Int.reduceEq, true_and, and_true, false_and, and_false, and_self, ↓reduceIte]; omega) | (simp only [mS_iff, eq_self, Int.reduceEq, true_and, and_true, false_and, and_false, and_self, ↓reduceIte] at *; omega)) ?_
    rcases y5 with ⟨on, on2, -, -⟩ | ⟨o1, o2, o3, ⟨o4, o44, o45, o46, o47, o48⟩, o5, o6, o7, -⟩
    · refine And.intro (show (m3 y 1) ≠ -9 by first | omega | (simp only [mS_iff, eq_self, Int.reduceEq, true_and, and_true, false_and, and_false, and_self, ↓reduceIte]; omega) | (simp only [mS_iff, eq_self, Int.reduceEq, true_and, and_true, false_and, and_false, and_self, ↓reduceIte] at *; omega)) ?_
      refine And.intro (fun _ => ?_) (fun h => absurd h (by omega))
      refine K76 _ ?_ ?_
      · exact fr
      · unfold o_ord; first | (rw [if_pos (by omega)]; exact hO) | (rw [if_neg (by omega)]; exact hO)
    · have z3 : m3 y 1 = m y 1 := by rw [fr.at (r := y) (by omega) (by omega)]
      refine And.intro (show (m3 y 1) ≠ -9 by first | omega | (simp only [mS_iff, eq_self, Int.reduceEq, true_and, and_true, false_and, and_false, and_self, ↓reduceIte]; omega) | (simp only [mS_iff, eq_self, Int.reduceEq, true_and, and_true, false_and, and_false, and_self, ↓reduceIte] at *; omega)) ?_
      refine And.intro (fun h => absurd h (by omega)) (fun _ => ?_)
      refine And.intro (rfl) ?_
      refine ct_70e (w := 43) (l := (o_on (o_ov l (w b)) (w (b + 4)))) (by omega) (by omega) hW (by omega) hO (by omega) (fun mw23 h24 h25 => ?_)
      have fr := fr.trans h24
      have hW := h24.Wd hW
      have hO := h25
      have h26 := o_w_a (l := (o_on (o_ov l (w b)) (w (b + 4)))) (w := 43) (by omega)
      have qmw23 := hL.keep (fr.hK hlo)
      obtain ⟨y1, y2, y3, y4, y5, y6, y7, y8, y9, -⟩ := id qmw23
      have zmw23 : mw23 y 1 = m y 1 := by rw [fr.at (r := y) (by omega) (by omega)]
      obtain ⟨o1, o2, o3, o4, o5, o6, o7, -⟩ := qmw23.ord (by omega)
      refine And.intro (show (mw23 y (-1)) = 7 by first | assumption | omega | (simp only [mS_iff, eq_self, Int.reduceEq, true_and, and_true, false_and, and_false, and_self, ↓reduceIte]; omega) | (simp only [mS_iff, eq_self, Int.reduceEq, true_and, and_true, false_and, and_false, and_self, ↓reduceIte] at *; omega)) ?_
      refine And.intro (show (mw23 (mw23 y 1) (-1)) = 8 by first | assumption | omega | (simp only [mS_iff, eq_self, Int.reduceEq, true_and, and_true, false_and, and_false, and_self, ↓reduceIte]; omega) | (simp only [mS_iff, eq_self, Int.reduceEq, true_and, and_true, false_and, and_false, and_self, ↓reduceIte] at *; omega)) ?_
      refine And.intro (show -2147483648 ≤ 25 + (mw23 (mw23 y 1) 0) ∧ 25 + (mw23 (mw23 y 1) 0) ≤ 2147483647 by first | omega | (simp only [mS_iff, eq_self, Int.reduceEq, true_and, and_true, false_and, and_false, and_self, ↓reduceIte]; omega) | (simp only [mS_iff, eq_self, Int.reduceEq, true_and, and_true, false_and, and_false, and_self, ↓reduceIte] at *; omega)) ?_
      refine And.intro (rfl) ?_
      refine ct_70e (w := 25 + w (b + 1)) (l := (o_w (o_on (o_ov l (w b)) (w (b + 4))) 43)) (by omega) (by omega) hW (by omega) hO (by omega) (fun mw27 h28 h29 => ?_)
      have fr := fr.trans h28
      have hW := h28.Wd hW
      have hO := h29
      have h30 := o_w_a (l := (o_w (o_on (o_ov l (w b)) (w (b + 4))) 43)) (w := 25 + w (b + 1)) (by omega)
      have qmw27 := hL.keep (fr.hK hlo)
      obtain ⟨y1, y2, y3, y4, y5, y6, y7, y8, y9, -⟩ := id qmw27
      have zmw27 : mw27 y 1 = m y 1 := by rw [fr.at (r := y) (by omega) (by omega)]
      obtain ⟨o1, o2, o3, o4, o5, o6, o7, -⟩ := qmw27.ord (by omega)
      refine And.intro (show (mw27 y (-1)) = 7 by first | assumption | omega | (simp only [mS_iff, eq_self, Int.reduceEq, true_and, and_true, false_and, and_false, and_self, ↓reduceIte]; omega) | (simp only [mS_iff, eq_self, Int.reduceEq, true_and, and_true, false_and, and_false, and_self, ↓reduceIte] at *; omega)) ?_
      refine And.intro (show (mw27 (mw27 y 1) (-1)) = 8 by first | assumption | omega | (simp only [mS_iff, eq_self, Int.reduceEq, true_and, and_true, false_and, and_false, and_self, ↓reduceIte]; omega) | (simp only [mS_iff, eq_self, Int.reduceEq, true_and, and_true, false_and, and_false, and_self, ↓reduceIte] at *; omega)) ?_
      refine And.intro (rfl) ?_
      refine ct_72e (n := w (b + 2)) (l := (o_w (o_w (o_on (o_ov l (w b)) (w (b + 4))) 43) (25 + w (b + 1)))) (by omega) (by omega) hW hO (by omega) (by omega) (fun mw31 h32 h33 => ?_)
      have fr := fr.trans h32
      have hW := h32.Wd hW
      have hO := h33
      have h34 := o_ln_l (l := (o_w (o_w (o_on (o_ov l (w b)) (w (b + 4))) 43) (25 + w (b + 1)))) (n := w (b + 2)) (by omega)
      have qmw31 := hL.keep (fr.hK hlo)
      obtain ⟨y1, y2, y3, y4, y5, y6, y7, y8, y9, -⟩ := id qmw31
      have zmw31 : mw31 y 1 = m y 1 := by rw [fr.at (r := y) (by omega) (by omega)]
      obtain ⟨o1, o2, o3, o4, o5, o6, o7, -⟩ := qmw31.ord (by omega)
      refine And.intro (show (mw31 y (-1)) = 7 by first | assumption | omega | (simp only [mS_iff, eq_self, Int.reduceEq, true_and, and_true, false_and, and_false, and_self, ↓reduceIte]; omega) | (simp only [mS_iff, eq_self, Int.reduceEq, true_and, and_true, false_and, and_false, and_self, ↓reduceIte] at *; omega)) ?_
      refine And.intro (show (mw31 (mw31 y 1) (-1)) = 8 by first | assumption | omega | (simp only [mS_iff, eq_self, Int.reduceEq, true_and, and_true, false_and, and_false, and_self, ↓reduceIte]; omega) | (simp only [mS_iff, eq_self, Int.reduceEq, true_and, and_true, false_and, and_false, and_self, ↓reduceIte] at *; omega)) ?_
      refine And.intro (rfl) ?_
      refine ct_70e (w := w (b + 3)) (l := (o_ln (o_w (o_w (o_on (o_ov l (w b)) (w (b + 4))) 43) (25 + w (b + 1))) (w (b + 2)))) (by omega) (by omega) hW (by omega) hO (by omega) (fun mw35 h36 h37 => ?_)
      have fr := fr.trans h36
      have hW := h36.Wd hW
      have hO := h37
      have h38 := o_w_a (l := (o_ln (o_w (o_w (o_on (o_ov l (w b)) (w (b + 4))) 43) (25 + w (b + 1))) (w (b + 2)))) (w := w (b + 3)) (by omega)
      refine K76 _ ?_ ?_
      · exact fr
      · unfold o_ord; first | (rw [if_pos (by omega)]; exact hO) | (rw [if_neg (by omega)]; exact hO)
  have K13 : ∀ (m3 : aM), (fr_W m m3) → (hOut m3 (o_ov l (w b))) → am_WP am_G (am_wpc am_G am_T d) [] cd_74 Q 13 [aR 1, aR y] [] m3 := by
    intro m3 fr hO
    have hW := fr.Wd hW0
    have qm3 := hL.keep (fr.hK hlo)
    obtain ⟨y1, y2, y3, y4, y5, y6, y7, y8, y9, -⟩ := id qm3
    refine am_go 400 [105, 90, 76, 27, 13] (am_wpc_cm _ _ _) wf_74 ?_
    refine And.intro (show (m3 y (-1)) = 7 by first | assumption | omega | (simp only [mS_iff, eq_self, Int.reduceEq, true_and, and_true, false_and, and_false, and_self, ↓reduceIte]; omega) | (simp only [mS_iff, eq_self, Int.reduceEq, true_and, and_true, false_and, and_false, and_self, ↓reduceIte] at *; omega)) ?_
    refine And.intro (fun h39 => ?_) (fun h39 => ?_)
    · refine K27 _ ?_ ?_
      · exact fr
      · unfold o_on; first | (rw [if_pos (by omega)]; exact hO) | (rw [if_neg (by omega)]; exact hO)
    · refine And.intro (rfl) ?_
      refine ct_70e (w := 45) (l := (o_ov l (w b))) (by omega) (by omega) hW (by omega) hO (by omega) (fun mw40 h41 h42 => ?_)
      have fr := fr.trans h41
      have hW := h41.Wd hW
      have hO := h42
      have h43 := o_w_a (l := (o_ov l (w b))) (w := 45) (by omega)
      refine K27 _ ?_ ?_
      · exact fr
      · unfold o_on; first | (rw [if_pos (by omega)]; exact hO) | (rw [if_neg (by omega)]; exact hO)
  refine am_go 400 [105, 90, 76, 27, 13] (am_wpc_cm _ _ _) wf_74 ?_
  obtain ⟨y1, y2, y3, y4, y5, y6, y7, y8, y9, -⟩ := id hL
  refine And.intro (show (m y (-1)) = 7 by first | assumption | omega | (simp only [mS_iff, eq_self, Int.reduceEq, true_and, and_true, false_and, and_false, and_self, ↓reduceIte]; omega) | (simp only [mS_iff, eq_self, Int.reduceEq, true_and, and_true, false_and, and_false, and_self, ↓reduceIte] at *; omega)) ?_
  refine And.intro (fun h44 => ?_) (fun h44 => ?_)
  · refine K13 _ ?_ ?_
    · exact fr
    · unfold o_ov; first | (rw [if_pos (by omega)]; exact hO) | (rw [if_neg (by omega)]; exact hO)
  · refine And.intro (rfl) ?_
    refine ct_70e (w := 44) (l := l) (by omega) (by omega) hW (by omega) hO (by omega) (fun mw45 h46 h47 => ?_)
    have fr := fr.trans h46
    have hW := h46.Wd hW
    have hO := h47
    have h48 := o_w_a (l := l) (w := 44) (by omega)
    refine K13 _ ?_ ?_
    · exact fr
    · unfold o_ov; first | (rw [if_pos (by omega)]; exact hO) | (rw [if_neg (by omega)]; exact hO)
theorem ct_69 {d : Nat} {m : aM} {Q : aO → aM → Prop} {r lo hi : Int} {w : Int → Int} (hd : 8 ≤ d) (hW : hWd m) (hA : hArms m lo hi r w) (hQ : ∀ m', fr_W m m' → hOut m' (o_arms w) → Q (.inl none) m') : am_wpc am_G am_T d 69 [aR 1, aR r] m Q := by
  obtain ⟨a1, a2, a3, a4, a5, a6, a7, a8, a9⟩ := hA.basic
  have hW0 := hW
  have hk := hA.row
  obtain ⟨r0, r1, r2, r3, r4, r5, -⟩ := id hk
  have n1 := o_f1_l hk
  have n2 := o_fld_l hk
  refine am_in rfl hd (fun d hd => ?_)
  have K163 : ∀ (N : Nat), ∀ (k : Int) (x6 : aV), ∀ (m3 : aM), (6 - k).toNat = N → (0 ≤ k ∧ k ≤ w 5) → (fr_W m m3) → (hOut m3 (o_k w k.toNat)) → am_WP am_G (am_wpc am_G am_T d) [] cd_69 Q 163 [aR 1, aR r, aR (m r 0), aR (m r 1), aI (w 5), aI k, x6] [] m3 := by
    intro N
    induction N using Nat.strongRecOn with
    | _ N ih163 =>
      intro k x6 m3 hN i0 fr hO
      have hW := fr.Wd hW0
      have el : m3 (m r 1) = m (m r 1) := fr.at (by omega) (by omega)
      have b7 : m3 (m r 1) (-1) = 45 := by rw [el]; exact a7
      have b8 : m3 (m r 1) (-2) = w 5 := by rw [el]; exact a8
      have n3 := o_k_l hk k.toNat (by omega)
      refine am_go 400 [163, 151, 121, 10] (am_wpc_cm _ _ _) wf_69 ?_
      refine And.intro (fun h1 => ?_) (fun h1 => ?_)
      · exact hQ _ fr (by unfold o_arms; rw [show w 5 = k by omega]; exact hO)
      · refine And.intro (⟨by first | assumption | omega | (simp only [mS_iff, eq_self, Int.reduceEq, true_and, and_true, false_and, and_false, and_self, ↓reduceIte]; omega), by first | omega | (simp only [mS_iff, eq_self, Int.reduceEq, true_and, and_true, false_and, and_false, and_self, ↓reduceIte]; omega) | (simp only [mS_iff, eq_self, Int.reduceEq, true_and, and_true, false_and, and_false, and_self, ↓reduceIte] at *; omega)⟩) ?_
        refine And.intro (rfl) ?_
        refine ct_71 (b := 44) (l := (o_k w k.toNat)) (by omega) hO (by omega) (fun mw2 h3 h4 => ?_)
        have fr := fr.trans h3
        have hW := h3.Wd hW
        have hO := h4
        have n4 : ((o_k w k.toNat) ++ [44]).length = ((o_k w k.toNat)).length + 1 := List.length_append
        refine And.intro (rfl) ?_
        refine ct_74 (w := w) (b := 6 + 10 * k) (l := ((o_k w k.toNat) ++ [44])) (by omega) hW hO a1 (by rw [el]; exact (hA.lay (k := k) (by omega) (by omega)).keep (fr.hK a1)) (hk.2.2.2.2.2.2.2.1 k (by omega) (by omega)) (by omega) (fun mw5 h6 h7 => ?_)
        have fr := fr.trans h6
        have hO := h7
        refine And.intro (show -2147483648 ≤ k + 1 ∧ k + 1 ≤ 2147483647 by first | omega | (simp only [mS_iff, eq_self, Int.reduceEq, true_and, and_true, false_and, and_false, and_self, ↓reduceIte]; omega) | (simp only [mS_iff, eq_self, Int.reduceEq, true_and, and_true, false_and, and_false, and_self, ↓reduceIte] at *; omega)) ?_
        refine ih163 _ ?_ _ _ _ (Eq.refl _) ?_ ?_ ?_
        · omega
        · first | omega | (simp only [mS_iff, eq_self, Int.reduceEq, true_and, and_true, false_and, and_false, and_self, ↓reduceIte]; omega) | (simp only [mS_iff, eq_self, Int.reduceEq, true_and, and_true, false_and, and_false, and_self, ↓reduceIte] at *; omega)
        · exact fr
        · rw [o_k_s w (by omega)]; exact hO
  have K151 : ∀ (m3 : aM), (fr_W m m3) → (hOut m3 (o_fld w)) → am_WP am_G (am_wpc am_G am_T d) [] cd_69 Q 151 [aR 1, aR r, aR (m r 0), aU, aU, aU, aU] [] m3 := by
    intro m3 fr hO
    have hW := fr.Wd hW0
    have er : m3 r = m r := fr.at (by omega) (by omega)
    have b5 : m3 r (-1) = 4 := by rw [er]; exact a5
    have e1 : m3 r 1 = m r 1 := by rw [er]
    have qf := hA.fld.keep (fr.hK a1)
    obtain ⟨f1, f2, f3, f4, f5, f6, f7, -⟩ := qf
    have el : m3 (m r 1) = m (m r 1) := fr.at (by omega) (by omega)
    have b7 : m3 (m r 1) (-1) = 45 := by rw [el]; exact a7
    have b8 : m3 (m r 1) (-2) = w 5 := by rw [el]; exact a8
    refine am_go 400 [163, 151, 121, 10] (am_wpc_cm _ _ _) wf_69 ?_
    refine And.intro (show (m3 r (-1)) = 4 by first | assumption | omega | (simp only [mS_iff, eq_self, Int.reduceEq, true_and, and_true, false_and, and_false, and_self, ↓reduceIte]; omega) | (simp only [mS_iff, eq_self, Int.reduceEq, true_and, and_true, false_and, and_false, and_self, ↓reduceIte] at *; omega)) ?_
    rw [e1]
    refine And.intro (by first | omega | (simp only [mS_iff, eq_self, Int.reduceEq, true_and, and_true, false_and, and_false, and_self, ↓reduceIte]; omega) | (simp only [mS_iff, eq_self, Int.reduceEq, true_and, and_true, false_and, and_false, and_self, ↓reduceIte] at *; omega)) ?_
    rw [b8]
    refine K163 _ _ _ _ (Eq.refl _) ?_ ?_ ?_
    · first | omega | (simp only [mS_iff, eq_self, Int.reduceEq, true_and, and_true, false_and, and_false, and_self, ↓reduceIte]; omega) | (simp only [mS_iff, eq_self, Int.reduceEq, true_and, and_true, false_and, and_false, and_self, ↓reduceIte] at *; omega)
    · exact fr
    · exact hO
  have K121 : ∀ (m3 : aM), (fr_W m m3) → (hOut m3 (o_f1 w)) → am_WP am_G (am_wpc am_G am_T d) [] cd_69 Q 121 [aR 1, aR r, aR (m r 0), aU, aU, aU, aU] [] m3 := by
    intro m3 fr hO
    have hW := fr.Wd hW0
    have er : m3 r = m r := fr.at (by omega) (by omega)
    have b5 : m3 r (-1) = 4 := by rw [er]; exact a5
    have e1 : m3 r 1 = m r 1 := by rw [er]
    have qf := hA.fld.keep (fr.hK a1)
    obtain ⟨f1, f2, f3, f4, f5, f6, f7, -⟩ := qf
    refine am_go 400 [163, 151, 121, 10] (am_wpc_cm _ _ _) wf_69 ?_
    refine And.intro (show (m3 (m r 0) (-1)) = 5 by first | assumption | omega | (simp only [mS_iff, eq_self, Int.reduceEq, true_and, and_true, false_and, and_false, and_self, ↓reduceIte]; omega) | (simp only [mS_iff, eq_self, Int.reduceEq, true_and, and_true, false_and, and_false, and_self, ↓reduceIte] at *; omega)) ?_
    refine And.intro (rfl) ?_
    refine ct_70e (w := w 3) (l := (o_f1 w)) (by omega) (by omega) hW (by omega) hO (by omega) (fun mw8 h9 h10 => ?_)
    have fr := fr.trans h9
    have hW := h9.Wd hW
    have hO := h10
    have h11 := o_w_a (l := (o_f1 w)) (w := w 3) (by omega)
    have er : mw8 r = m r := fr.at (by omega) (by omega)
    have b5 : mw8 r (-1) = 4 := by rw [er]; exact a5
    have e1 : mw8 r 1 = m r 1 := by rw [er]
    have qf := hA.fld.keep (fr.hK a1)
    obtain ⟨f1, f2, f3, f4, f5, f6, f7, -⟩ := qf
    refine And.intro (show (mw8 (m r 0) (-1)) = 5 by first | assumption | omega | (simp only [mS_iff, eq_self, Int.reduceEq, true_and, and_true, false_and, and_false, and_self, ↓reduceIte]; omega) | (simp only [mS_iff, eq_self, Int.reduceEq, true_and, and_true, false_and, and_false, and_self, ↓reduceIte] at *; omega)) ?_
    refine And.intro (fun h12 => ?_) (fun h12 => ?_)
    · refine K151 _ ?_ ?_
      · exact fr
      · unfold o_fld; first | (rw [if_pos (by omega)]; exact hO) | (rw [if_neg (by omega)]; exact hO)
    · refine And.intro (rfl) ?_
      refine ct_70e (w := 34) (l := (o_w (o_f1 w) (w 3))) (by omega) (by omega) hW (by omega) hO (by omega) (fun mw13 h14 h15 => ?_)
      have fr := fr.trans h14
      have hW := h14.Wd hW
      have hO := h15
      have h16 := o_w_a (l := (o_w (o_f1 w) (w 3))) (w := 34) (by omega)
      have er : mw13 r = m r := fr.at (by omega) (by omega)
      have b5 : mw13 r (-1) = 4 := by rw [er]; exact a5
      have e1 : mw13 r 1 = m r 1 := by rw [er]
      have qf := hA.fld.keep (fr.hK a1)
      obtain ⟨f1, f2, f3, f4, f5, f6, f7, -⟩ := qf
      refine And.intro (show (mw13 (m r 0) (-1)) = 5 by first | assumption | omega | (simp only [mS_iff, eq_self, Int.reduceEq, true_and, and_true, false_and, and_false, and_self, ↓reduceIte]; omega) | (simp only [mS_iff, eq_self, Int.reduceEq, true_and, and_true, false_and, and_false, and_self, ↓reduceIte] at *; omega)) ?_
      refine And.intro (rfl) ?_
      refine ct_70e (w := w 4) (l := (o_w (o_w (o_f1 w) (w 3)) 34)) (by omega) (by omega) hW (by omega) hO (by omega) (fun mw17 h18 h19 => ?_)
      have fr := fr.trans h18
      have hW := h18.Wd hW
      have hO := h19
      have h20 := o_w_a (l := (o_w (o_w (o_f1 w) (w 3)) 34)) (w := w 4) (by omega)
      refine K151 _ ?_ ?_
      · exact fr
      · unfold o_fld; first | (rw [if_pos (by omega)]; exact hO) | (rw [if_neg (by omega)]; exact hO)
  have K10 : ∀ (m3 : aM), (fr_W m m3) → (hOut m3 []) → am_WP am_G (am_wpc am_G am_T d) [] cd_69 Q 10 [aR 1, aR r, aR (m r 0), aU, aU, aU, aU] [] m3 := by
    intro m3 fr hO
    have hW := fr.Wd hW0
    have n0 : ([] : List Int).length = 0 := rfl
    have er : m3 r = m r := fr.at (by omega) (by omega)
    have b5 : m3 r (-1) = 4 := by rw [er]; exact a5
    have e1 : m3 r 1 = m r 1 := by rw [er]
    have qf := hA.fld.keep (fr.hK a1)
    obtain ⟨f1, f2, f3, f4, f5, f6, f7, -⟩ := qf
    refine am_go 400 [163, 151, 121, 10] (am_wpc_cm _ _ _) wf_69 ?_
    refine And.intro (show (m3 (m r 0) (-1)) = 5 by first | assumption | omega | (simp only [mS_iff, eq_self, Int.reduceEq, true_and, and_true, false_and, and_false, and_self, ↓reduceIte]; omega) | (simp only [mS_iff, eq_self, Int.reduceEq, true_and, and_true, false_and, and_false, and_self, ↓reduceIte] at *; omega)) ?_
    refine And.intro (fun h21 => ?_) (fun h21 => ?_)
    · refine And.intro (show (m3 (m r 0) (-1)) = 5 by first | assumption | omega | (simp only [mS_iff, eq_self, Int.reduceEq, true_and, and_true, false_and, and_false, and_self, ↓reduceIte]; omega) | (simp only [mS_iff, eq_self, Int.reduceEq, true_and, and_true, false_and, and_false, and_self, ↓reduceIte] at *; omega)) ?_
      refine And.intro (fun h22 => ?_) (fun h22 => ?_)
      · refine K121 _ ?_ ?_
        · exact fr
        · unfold o_f1; first | (rw [if_pos (by omega)]; exact hO) | (rw [if_neg (by omega), if_pos (by omega)]; exact hO) | (rw [if_neg (by omega), if_neg (by omega)]; unfold o_nm; first | (rw [if_pos (by omega)]; exact hO) | (rw [if_neg (by omega)]; exact hO))
      · refine And.intro (show (m3 (m r 0) (-1)) = 5 by first | assumption | omega | (simp only [mS_iff, eq_self, Int.reduceEq, true_and, and_true, false_and, and_false, and_self, ↓reduceIte]; omega) | (simp only [mS_iff, eq_self, Int.reduceEq, true_and, and_true, false_and, and_false, and_self, ↓reduceIte] at *; omega)) ?_
        refine And.intro (fun h23 => ?_) (fun h23 => ?_)
        · refine And.intro (show (m3 (m r 0) (-1)) = 5 by first | assumption | omega | (simp only [mS_iff, eq_self, Int.reduceEq, true_and, and_true, false_and, and_false, and_self, ↓reduceIte]; omega) | (simp only [mS_iff, eq_self, Int.reduceEq, true_and, and_true, false_and, and_false, and_self, ↓reduceIte] at *; omega)) ?_
          refine And.intro (show -2147483648 ≤ 36 + (m3 (m r 0) 0) ∧ 36 + (m3 (m r 0) 0) ≤ 2147483647 by first | omega | (simp only [mS_iff, eq_self, Int.reduceEq, true_and, and_true, false_and, and_false, and_self, ↓reduceIte]; omega) | (simp only [mS_iff, eq_self, Int.reduceEq, true_and, and_true, false_and, and_false, and_self, ↓reduceIte] at *; omega)) ?_
          refine And.intro (show -2147483648 ≤ (36 + (m3 (m r 0) 0)) - 6 ∧ (36 + (m3 (m r 0) 0)) - 6 ≤ 2147483647 by first | omega | (simp only [mS_iff, eq_self, Int.reduceEq, true_and, and_true, false_and, and_false, and_self, ↓reduceIte]; omega) | (simp only [mS_iff, eq_self, Int.reduceEq, true_and, and_true, false_and, and_false, and_self, ↓reduceIte] at *; omega)) ?_
          refine And.intro (rfl) ?_
          refine ct_70e (w := if w 0 = 5 then 35 else 36 + w 0 - 6) (l := []) (by omega) (by omega) hW (by omega) hO (by omega) (fun mw24 h25 h26 => ?_)
          have fr := fr.trans h25
          have hW := h25.Wd hW
          have hO := h26
          have h27 := o_w_a (l := []) (w := if w 0 = 5 then 35 else 36 + w 0 - 6) (by omega)
          have er : mw24 r = m r := fr.at (by omega) (by omega)
          have b5 : mw24 r (-1) = 4 := by rw [er]; exact a5
          have e1 : mw24 r 1 = m r 1 := by rw [er]
          have qf := hA.fld.keep (fr.hK a1)
          obtain ⟨f1, f2, f3, f4, f5, f6, f7, -⟩ := qf
          refine And.intro (show (mw24 (m r 0) (-1)) = 5 by first | assumption | omega | (simp only [mS_iff, eq_self, Int.reduceEq, true_and, and_true, false_and, and_false, and_self, ↓reduceIte]; omega) | (simp only [mS_iff, eq_self, Int.reduceEq, true_and, and_true, false_and, and_false, and_self, ↓reduceIte] at *; omega)) ?_
          refine And.intro (fun h28 => ?_) (fun h28 => ?_)
          · refine K121 _ ?_ ?_
            · exact fr
            · unfold o_f1; first | (rw [if_pos (by omega)]; exact hO) | (rw [if_neg (by omega), if_pos (by omega)]; exact hO) | (rw [if_neg (by omega), if_neg (by omega)]; unfold o_nm; first | (rw [if_pos (by omega)]; exact hO) | (rw [if_neg (by omega)]; exact hO))
          · refine And.intro (show (mw24 (m r 0) (-1)) = 5 by first | assumption | omega | (simp only [mS_iff, eq_self, Int.reduceEq, true_and, and_true, false_and, and_false, and_self, ↓reduceIte]; omega) | (simp only [mS_iff, eq_self, Int.reduceEq, true_and, and_true, false_and, and_false, and_self, ↓reduceIte] at *; omega)) ?_
            refine And.intro (fun h29 => ?_) (fun h29 => ?_)
            · refine K121 _ ?_ ?_
              · exact fr
              · unfold o_f1; first | (rw [if_pos (by omega)]; exact hO) | (rw [if_neg (by omega), if_pos (by omega)]; exact hO) | (rw [if_neg (by omega), if_neg (by omega)]; unfold o_nm; first | (rw [if_pos (by omega)]; exact hO) | (rw [if_neg (by omega)]; exact hO))
            · refine And.intro (rfl) ?_
              refine ct_70e (w := 40) (l := (o_w [] (if w 0 = 5 then 35 else 36 + w 0 - 6))) (by omega) (by omega) hW (by omega) hO (by omega) (fun mw30 h31 h32 => ?_)
              have fr := fr.trans h31
              have hW := h31.Wd hW
              have hO := h32
              have h33 := o_w_a (l := (o_w [] (if w 0 = 5 then 35 else 36 + w 0 - 6))) (w := 40) (by omega)
              have er : mw30 r = m r := fr.at (by omega) (by omega)
              have b5 : mw30 r (-1) = 4 := by rw [er]; exact a5
              have e1 : mw30 r 1 = m r 1 := by rw [er]
              have qf := hA.fld.keep (fr.hK a1)
              obtain ⟨f1, f2, f3, f4, f5, f6, f7, -⟩ := qf
              refine And.intro (show (mw30 (m r 0) (-1)) = 5 by first | assumption | omega | (simp only [mS_iff, eq_self, Int.reduceEq, true_and, and_true, false_and, and_false, and_self, ↓reduceIte]; omega) | (simp only [mS_iff, eq_self, Int.reduceEq, true_and, and_true, false_and, and_false, and_self, ↓reduceIte] at *; omega)) ?_
              refine And.intro (rfl) ?_
              refine ct_73e (n := w 2) (l := (o_w (o_w [] (if w 0 = 5 then 35 else 36 + w 0 - 6)) 40)) (by omega) (by omega) hW hO (by omega) (by omega) (fun mw34 h35 h36 => ?_)
              have fr := fr.trans h35
              have hW := h35.Wd hW
              have hO := h36
              have h37 := o_n_l (o_w (o_w [] (if w 0 = 5 then 35 else 36 + w 0 - 6)) 40) (w 2)
              refine K121 _ ?_ ?_
              · exact fr
              · unfold o_f1; first | (rw [if_pos (by omega)]; exact hO) | (rw [if_neg (by omega), if_pos (by omega)]; exact hO) | (rw [if_neg (by omega), if_neg (by omega)]; unfold o_nm; first | (rw [if_pos (by omega)]; exact hO) | (rw [if_neg (by omega)]; exact hO))
        · refine And.intro (rfl) ?_
          refine ct_70e (w := if w 0 = 5 then 35 else 36 + w 0 - 6) (l := []) (by omega) (by omega) hW (by omega) hO (by omega) (fun mw38 h39 h40 => ?_)
          have fr := fr.trans h39
          have hW := h39.Wd hW
          have hO := h40
          have h41 := o_w_a (l := []) (w := if w 0 = 5 then 35 else 36 + w 0 - 6) (by omega)
          have er : mw38 r = m r := fr.at (by omega) (by omega)
          have b5 : mw38 r (-1) = 4 := by rw [er]; exact a5
          have e1 : mw38 r 1 = m r 1 := by rw [er]
          have qf := hA.fld.keep (fr.hK a1)
          obtain ⟨f1, f2, f3, f4, f5, f6, f7, -⟩ := qf
          refine And.intro (show (mw38 (m r 0) (-1)) = 5 by first | assumption | omega | (simp only [mS_iff, eq_self, Int.reduceEq, true_and, and_true, false_and, and_false, and_self, ↓reduceIte]; omega) | (simp only [mS_iff, eq_self, Int.reduceEq, true_and, and_true, false_and, and_false, and_self, ↓reduceIte] at *; omega)) ?_
          refine And.intro (fun h42 => ?_) (fun h42 => ?_)
          · refine K121 _ ?_ ?_
            · exact fr
            · unfold o_f1; first | (rw [if_pos (by omega)]; exact hO) | (rw [if_neg (by omega), if_pos (by omega)]; exact hO) | (rw [if_neg (by omega), if_neg (by omega)]; unfold o_nm; first | (rw [if_pos (by omega)]; exact hO) | (rw [if_neg (by omega)]; exact hO))
          · refine And.intro (show (mw38 (m r 0) (-1)) = 5 by first | assumption | omega | (simp only [mS_iff, eq_self, Int.reduceEq, true_and, and_true, false_and, and_false, and_self, ↓reduceIte]; omega) | (simp only [mS_iff, eq_self, Int.reduceEq, true_and, and_true, false_and, and_false, and_self, ↓reduceIte] at *; omega)) ?_
            refine And.intro (fun h43 => ?_) (fun h43 => ?_)
            · refine K121 _ ?_ ?_
              · exact fr
              · unfold o_f1; first | (rw [if_pos (by omega)]; exact hO) | (rw [if_neg (by omega), if_pos (by omega)]; exact hO) | (rw [if_neg (by omega), if_neg (by omega)]; unfold o_nm; first | (rw [if_pos (by omega)]; exact hO) | (rw [if_neg (by omega)]; exact hO))
            · refine And.intro (rfl) ?_
              refine ct_70e (w := 40) (l := (o_w [] (if w 0 = 5 then 35 else 36 + w 0 - 6))) (by omega) (by omega) hW (by omega) hO (by omega) (fun mw44 h45 h46 => ?_)
              have fr := fr.trans h45
              have hW := h45.Wd hW
              have hO := h46
              have h47 := o_w_a (l := (o_w [] (if w 0 = 5 then 35 else 36 + w 0 - 6))) (w := 40) (by omega)
              have er : mw44 r = m r := fr.at (by omega) (by omega)
              have b5 : mw44 r (-1) = 4 := by rw [er]; exact a5
              have e1 : mw44 r 1 = m r 1 := by rw [er]
              have qf := hA.fld.keep (fr.hK a1)
              obtain ⟨f1, f2, f3, f4, f5, f6, f7, -⟩ := qf
              refine And.intro (show (mw44 (m r 0) (-1)) = 5 by first | assumption | omega | (simp only [mS_iff, eq_self, Int.reduceEq, true_and, and_true, false_and, and_false, and_self, ↓reduceIte]; omega) | (simp only [mS_iff, eq_self, Int.reduceEq, true_and, and_true, false_and, and_false, and_self, ↓reduceIte] at *; omega)) ?_
              refine And.intro (rfl) ?_
              refine ct_73e (n := w 2) (l := (o_w (o_w [] (if w 0 = 5 then 35 else 36 + w 0 - 6)) 40)) (by omega) (by omega) hW hO (by omega) (by omega) (fun mw48 h49 h50 => ?_)
              have fr := fr.trans h49
              have hW := h49.Wd hW
              have hO := h50
              have h51 := o_n_l (o_w (o_w [] (if w 0 = 5 then 35 else 36 + w 0 - 6)) 40) (w 2)
              refine K121 _ ?_ ?_
              · exact fr
              · unfold o_f1; first | (rw [if_pos (by omega)]; exact hO) | (rw [if_neg (by omega), if_pos (by omega)]; exact hO) | (rw [if_neg (by omega), if_neg (by omega)]; unfold o_nm; first | (rw [if_pos (by omega)]; exact hO) | (rw [if_neg (by omega)]; exact hO))
    · refine And.intro (show (m3 (m r 0) (-1)) = 5 by first | assumption | omega | (simp only [mS_iff, eq_self, Int.reduceEq, true_and, and_true, false_and, and_false, and_self, ↓reduceIte]; omega) | (simp only [mS_iff, eq_self, Int.reduceEq, true_and, and_true, false_and, and_false, and_self, ↓reduceIte] at *; omega)) ?_
      refine And.intro (fun h52 => ?_) (fun h52 => ?_)
      · refine And.intro (show (m3 (m r 0) (-1)) = 5 by first | assumption | omega | (simp only [mS_iff, eq_self, Int.reduceEq, true_and, and_true, false_and, and_false, and_self, ↓reduceIte]; omega) | (simp only [mS_iff, eq_self, Int.reduceEq, true_and, and_true, false_and, and_false, and_self, ↓reduceIte] at *; omega)) ?_
        refine And.intro (fun h53 => ?_) (fun h53 => ?_)
        · refine K121 _ ?_ ?_
          · exact fr
          · unfold o_f1; first | (rw [if_pos (by omega)]; exact hO) | (rw [if_neg (by omega), if_pos (by omega)]; exact hO) | (rw [if_neg (by omega), if_neg (by omega)]; unfold o_nm; first | (rw [if_pos (by omega)]; exact hO) | (rw [if_neg (by omega)]; exact hO))
        · refine And.intro (show (m3 (m r 0) (-1)) = 5 by first | assumption | omega | (simp only [mS_iff, eq_self, Int.reduceEq, true_and, and_true, false_and, and_false, and_self, ↓reduceIte]; omega) | (simp only [mS_iff, eq_self, Int.reduceEq, true_and, and_true, false_and, and_false, and_self, ↓reduceIte] at *; omega)) ?_
          refine And.intro (fun h54 => ?_) (fun h54 => ?_)
          · refine And.intro (show (m3 (m r 0) (-1)) = 5 by first | assumption | omega | (simp only [mS_iff, eq_self, Int.reduceEq, true_and, and_true, false_and, and_false, and_self, ↓reduceIte]; omega) | (simp only [mS_iff, eq_self, Int.reduceEq, true_and, and_true, false_and, and_false, and_self, ↓reduceIte] at *; omega)) ?_
            refine And.intro (show -2147483648 ≤ 36 + (m3 (m r 0) 0) ∧ 36 + (m3 (m r 0) 0) ≤ 2147483647 by first | omega | (simp only [mS_iff, eq_self, Int.reduceEq, true_and, and_true, false_and, and_false, and_self, ↓reduceIte]; omega) | (simp only [mS_iff, eq_self, Int.reduceEq, true_and, and_true, false_and, and_false, and_self, ↓reduceIte] at *; omega)) ?_
            refine And.intro (show -2147483648 ≤ (36 + (m3 (m r 0) 0)) - 6 ∧ (36 + (m3 (m r 0) 0)) - 6 ≤ 2147483647 by first | omega | (simp only [mS_iff, eq_self, Int.reduceEq, true_and, and_true, false_and, and_false, and_self, ↓reduceIte]; omega) | (simp only [mS_iff, eq_self, Int.reduceEq, true_and, and_true, false_and, and_false, and_self, ↓reduceIte] at *; omega)) ?_
            refine And.intro (rfl) ?_
            refine ct_70e (w := if w 0 = 5 then 35 else 36 + w 0 - 6) (l := []) (by omega) (by omega) hW (by omega) hO (by omega) (fun mw55 h56 h57 => ?_)
            have fr := fr.trans h56
            have hW := h56.Wd hW
            have hO := h57
            have h58 := o_w_a (l := []) (w := if w 0 = 5 then 35 else 36 + w 0 - 6) (by omega)
            have er : mw55 r = m r := fr.at (by omega) (by omega)
            have b5 : mw55 r (-1) = 4 := by rw [er]; exact a5
            have e1 : mw55 r 1 = m r 1 := by rw [er]
            have qf := hA.fld.keep (fr.hK a1)
            obtain ⟨f1, f2, f3, f4, f5, f6, f7, -⟩ := qf
            refine And.intro (show (mw55 (m r 0) (-1)) = 5 by first | assumption | omega | (simp only [mS_iff, eq_self, Int.reduceEq, true_and, and_true, false_and, and_false, and_self, ↓reduceIte]; omega) | (simp only [mS_iff, eq_self, Int.reduceEq, true_and, and_true, false_and, and_false, and_self, ↓reduceIte] at *; omega)) ?_
            refine And.intro (fun h59 => ?_) (fun h59 => ?_)
            · refine K121 _ ?_ ?_
              · exact fr
              · unfold o_f1; first | (rw [if_pos (by omega)]; exact hO) | (rw [if_neg (by omega), if_pos (by omega)]; exact hO) | (rw [if_neg (by omega), if_neg (by omega)]; unfold o_nm; first | (rw [if_pos (by omega)]; exact hO) | (rw [if_neg (by omega)]; exact hO))
            · refine And.intro (show (mw55 (m r 0) (-1)) = 5 by first | assumption | omega | (simp only [mS_iff, eq_self, Int.reduceEq, true_and, and_true, false_and, and_false, and_self, ↓reduceIte]; omega) | (simp only [mS_iff, eq_self, Int.reduceEq, true_and, and_true, false_and, and_false, and_self, ↓reduceIte] at *; omega)) ?_
              refine And.intro (fun h60 => ?_) (fun h60 => ?_)
              · refine K121 _ ?_ ?_
                · exact fr
                · unfold o_f1; first | (rw [if_pos (by omega)]; exact hO) | (rw [if_neg (by omega), if_pos (by omega)]; exact hO) | (rw [if_neg (by omega), if_neg (by omega)]; unfold o_nm; first | (rw [if_pos (by omega)]; exact hO) | (rw [if_neg (by omega)]; exact hO))
              · refine And.intro (rfl) ?_
                refine ct_70e (w := 40) (l := (o_w [] (if w 0 = 5 then 35 else 36 + w 0 - 6))) (by omega) (by omega) hW (by omega) hO (by omega) (fun mw61 h62 h63 => ?_)
                have fr := fr.trans h62
                have hW := h62.Wd hW
                have hO := h63
                have h64 := o_w_a (l := (o_w [] (if w 0 = 5 then 35 else 36 + w 0 - 6))) (w := 40) (by omega)
                have er : mw61 r = m r := fr.at (by omega) (by omega)
                have b5 : mw61 r (-1) = 4 := by rw [er]; exact a5
                have e1 : mw61 r 1 = m r 1 := by rw [er]
                have qf := hA.fld.keep (fr.hK a1)
                obtain ⟨f1, f2, f3, f4, f5, f6, f7, -⟩ := qf
                refine And.intro (show (mw61 (m r 0) (-1)) = 5 by first | assumption | omega | (simp only [mS_iff, eq_self, Int.reduceEq, true_and, and_true, false_and, and_false, and_self, ↓reduceIte]; omega) | (simp only [mS_iff, eq_self, Int.reduceEq, true_and, and_true, false_and, and_false, and_self, ↓reduceIte] at *; omega)) ?_
                refine And.intro (rfl) ?_
                refine ct_73e (n := w 2) (l := (o_w (o_w [] (if w 0 = 5 then 35 else 36 + w 0 - 6)) 40)) (by omega) (by omega) hW hO (by omega) (by omega) (fun mw65 h66 h67 => ?_)
                have fr := fr.trans h66
                have hW := h66.Wd hW
                have hO := h67
                have h68 := o_n_l (o_w (o_w [] (if w 0 = 5 then 35 else 36 + w 0 - 6)) 40) (w 2)
                refine K121 _ ?_ ?_
                · exact fr
                · unfold o_f1; first | (rw [if_pos (by omega)]; exact hO) | (rw [if_neg (by omega), if_pos (by omega)]; exact hO) | (rw [if_neg (by omega), if_neg (by omega)]; unfold o_nm; first | (rw [if_pos (by omega)]; exact hO) | (rw [if_neg (by omega)]; exact hO))
          · refine And.intro (rfl) ?_
            refine ct_70e (w := if w 0 = 5 then 35 else 36 + w 0 - 6) (l := []) (by omega) (by omega) hW (by omega) hO (by omega) (fun mw69 h70 h71 => ?_)
            have fr := fr.trans h70
            have hW := h70.Wd hW
            have hO := h71
            have h72 := o_w_a (l := []) (w := if w 0 = 5 then 35 else 36 + w 0 - 6) (by omega)
            have er : mw69 r = m r := fr.at (by omega) (by omega)
            have b5 : mw69 r (-1) = 4 := by rw [er]; exact a5
            have e1 : mw69 r 1 = m r 1 := by rw [er]
            have qf := hA.fld.keep (fr.hK a1)
            obtain ⟨f1, f2, f3, f4, f5, f6, f7, -⟩ := qf
            refine And.intro (show (mw69 (m r 0) (-1)) = 5 by first | assumption | omega | (simp only [mS_iff, eq_self, Int.reduceEq, true_and, and_true, false_and, and_false, and_self, ↓reduceIte]; omega) | (simp only [mS_iff, eq_self, Int.reduceEq, true_and, and_true, false_and, and_false, and_self, ↓reduceIte] at *; omega)) ?_
            refine And.intro (fun h73 => ?_) (fun h73 => ?_)
            · refine K121 _ ?_ ?_
              · exact fr
              · unfold o_f1; first | (rw [if_pos (by omega)]; exact hO) | (rw [if_neg (by omega), if_pos (by omega)]; exact hO) | (rw [if_neg (by omega), if_neg (by omega)]; unfold o_nm; first | (rw [if_pos (by omega)]; exact hO) | (rw [if_neg (by omega)]; exact hO))
            · refine And.intro (show (mw69 (m r 0) (-1)) = 5 by first | assumption | omega | (simp only [mS_iff, eq_self, Int.reduceEq, true_and, and_true, false_and, and_false, and_self, ↓reduceIte]; omega) | (simp only [mS_iff, eq_self, Int.reduceEq, true_and, and_true, false_and, and_false, and_self, ↓reduceIte] at *; omega)) ?_
              refine And.intro (fun h74 => ?_) (fun h74 => ?_)
              · refine K121 _ ?_ ?_
                · exact fr
                · unfold o_f1; first | (rw [if_pos (by omega)]; exact hO) | (rw [if_neg (by omega), if_pos (by omega)]; exact hO) | (rw [if_neg (by omega), if_neg (by omega)]; unfold o_nm; first | (rw [if_pos (by omega)]; exact hO) | (rw [if_neg (by omega)]; exact hO))
              · refine And.intro (rfl) ?_
                refine ct_70e (w := 40) (l := (o_w [] (if w 0 = 5 then 35 else 36 + w 0 - 6))) (by omega) (by omega) hW (by omega) hO (by omega) (fun mw75 h76 h77 => ?_)
                have fr := fr.trans h76
                have hW := h76.Wd hW
                have hO := h77
                have h78 := o_w_a (l := (o_w [] (if w 0 = 5 then 35 else 36 + w 0 - 6))) (w := 40) (by omega)
                have er : mw75 r = m r := fr.at (by omega) (by omega)
                have b5 : mw75 r (-1) = 4 := by rw [er]; exact a5
                have e1 : mw75 r 1 = m r 1 := by rw [er]
                have qf := hA.fld.keep (fr.hK a1)
                obtain ⟨f1, f2, f3, f4, f5, f6, f7, -⟩ := qf
                refine And.intro (show (mw75 (m r 0) (-1)) = 5 by first | assumption | omega | (simp only [mS_iff, eq_self, Int.reduceEq, true_and, and_true, false_and, and_false, and_self, ↓reduceIte]; omega) | (simp only [mS_iff, eq_self, Int.reduceEq, true_and, and_true, false_and, and_false, and_self, ↓reduceIte] at *; omega)) ?_
                refine And.intro (rfl) ?_
                refine ct_73e (n := w 2) (l := (o_w (o_w [] (if w 0 = 5 then 35 else 36 + w 0 - 6)) 40)) (by omega) (by omega) hW hO (by omega) (by omega) (fun mw79 h80 h81 => ?_)
                have fr := fr.trans h80
                have hW := h80.Wd hW
                have hO := h81
                have h82 := o_n_l (o_w (o_w [] (if w 0 = 5 then 35 else 36 + w 0 - 6)) 40) (w 2)
                refine K121 _ ?_ ?_
                · exact fr
                · unfold o_f1; first | (rw [if_pos (by omega)]; exact hO) | (rw [if_neg (by omega), if_pos (by omega)]; exact hO) | (rw [if_neg (by omega), if_neg (by omega)]; unfold o_nm; first | (rw [if_pos (by omega)]; exact hO) | (rw [if_neg (by omega)]; exact hO))
      · refine And.intro (rfl) ?_
        refine ct_70e (w := 33) (l := []) (by omega) (by omega) hW (by omega) hO (by omega) (fun mw83 h84 h85 => ?_)
        have fr := fr.trans h84
        have hW := h84.Wd hW
        have hO := h85
        have h86 := o_w_a (l := []) (w := 33) (by omega)
        have er : mw83 r = m r := fr.at (by omega) (by omega)
        have b5 : mw83 r (-1) = 4 := by rw [er]; exact a5
        have e1 : mw83 r 1 = m r 1 := by rw [er]
        have qf := hA.fld.keep (fr.hK a1)
        obtain ⟨f1, f2, f3, f4, f5, f6, f7, -⟩ := qf
        refine And.intro (show (mw83 (m r 0) (-1)) = 5 by first | assumption | omega | (simp only [mS_iff, eq_self, Int.reduceEq, true_and, and_true, false_and, and_false, and_self, ↓reduceIte]; omega) | (simp only [mS_iff, eq_self, Int.reduceEq, true_and, and_true, false_and, and_false, and_self, ↓reduceIte] at *; omega)) ?_
        refine And.intro (show -2147483648 ≤ 25 + (mw83 (m r 0) 0) ∧ 25 + (mw83 (m r 0) 0) ≤ 2147483647 by first | omega | (simp only [mS_iff, eq_self, Int.reduceEq, true_and, and_true, false_and, and_false, and_self, ↓reduceIte]; omega) | (simp only [mS_iff, eq_self, Int.reduceEq, true_and, and_true, false_and, and_false, and_self, ↓reduceIte] at *; omega)) ?_
        refine And.intro (show -2147483648 ≤ (25 + (mw83 (m r 0) 0)) - 1 ∧ (25 + (mw83 (m r 0) 0)) - 1 ≤ 2147483647 by first | omega | (simp only [mS_iff, eq_self, Int.reduceEq, true_and, and_true, false_and, and_false, and_self, ↓reduceIte]; omega) | (simp only [mS_iff, eq_self, Int.reduceEq, true_and, and_true, false_and, and_false, and_self, ↓reduceIte] at *; omega)) ?_
        refine And.intro (rfl) ?_
        refine ct_70e (w := 25 + w 0 - 1) (l := (o_w [] 33)) (by omega) (by omega) hW (by omega) hO (by omega) (fun mw87 h88 h89 => ?_)
        have fr := fr.trans h88
        have hW := h88.Wd hW
        have hO := h89
        have h90 := o_w_a (l := (o_w [] 33)) (w := 25 + w 0 - 1) (by omega)
        have er : mw87 r = m r := fr.at (by omega) (by omega)
        have b5 : mw87 r (-1) = 4 := by rw [er]; exact a5
        have e1 : mw87 r 1 = m r 1 := by rw [er]
        have qf := hA.fld.keep (fr.hK a1)
        obtain ⟨f1, f2, f3, f4, f5, f6, f7, -⟩ := qf
        refine And.intro (show (mw87 (m r 0) (-1)) = 5 by first | assumption | omega | (simp only [mS_iff, eq_self, Int.reduceEq, true_and, and_true, false_and, and_false, and_self, ↓reduceIte]; omega) | (simp only [mS_iff, eq_self, Int.reduceEq, true_and, and_true, false_and, and_false, and_self, ↓reduceIte] at *; omega)) ?_
        refine And.intro (rfl) ?_
        refine ct_72e (n := w 1) (l := (o_w (o_w [] 33) (25 + w 0 - 1))) (by omega) (by omega) hW hO (by omega) (by omega) (fun mw91 h92 h93 => ?_)
        have fr := fr.trans h92
        have hW := h92.Wd hW
        have hO := h93
        have h94 := o_ln_l (l := (o_w (o_w [] 33) (25 + w 0 - 1))) (n := w 1) (by omega)
        refine K121 _ ?_ ?_
        · exact fr
        · unfold o_f1; first | (rw [if_pos (by omega)]; exact hO) | (rw [if_neg (by omega), if_pos (by omega)]; exact hO) | (rw [if_neg (by omega), if_neg (by omega)]; unfold o_nm; first | (rw [if_pos (by omega)]; exact hO) | (rw [if_neg (by omega)]; exact hO))
  refine am_go 400 [163, 151, 121, 10] (am_wpc_cm _ _ _) wf_69 ?_
  refine And.intro (rfl) ?_
  refine And.intro (show ((mS m 1 3 0) r (-1)) = 4 by first | assumption | omega | (simp only [mS_iff, eq_self, Int.reduceEq, true_and, and_true, false_and, and_false, and_self, ↓reduceIte]; omega) | (simp only [mS_iff, eq_self, Int.reduceEq, true_and, and_true, false_and, and_false, and_self, ↓reduceIte] at *; omega)) ?_
  rw [show mS m 1 3 0 r 0 = m r 0 from mS_a _ _ _ _ (by omega)]
  refine K10 _ ?_ ?_
  · intro r j a b
    rw [mS_iff, if_neg (by omega)]
  · exact ⟨rfl, fun j hj => absurd hj (Nat.not_lt_zero _)⟩
