/-! needs: b03 -/
/-! CONTRACTS: tinctures of things, work of nodes with one below; by tools/genb4.py -/
set_option maxRecDepth 100000
set_option maxHeartbeats 8000000
theorem ct_6 {d : Nat} {m : aM} {Q : aO → aM → Prop} {x alo ahi : Int} {w : Int → Int} (hd : 1 ≤ d) (hf : hFld m alo ahi x w) (ha : 29 ≤ alo) (hQ1 : w 4 = -1 → Q (.inl (some (aR (m x 5)))) (mS m (m x 5) 0 (w 3))) (hQ0 : w 4 ≠ -1 → Q (.inl (some (aR 0))) (mS m (m x 5) 0 (w 3))) : am_wpc am_G am_T d 6 [aR x] m Q := by
  obtain ⟨f0, f1, f2, f3, f4, f5, f6, t1, t2, t3⟩ := hf
  have nx : x ≠ m x 5 := fun e => by rw [← e] at t3; omega
  have g : ∀ j, mS m (m x 5) 0 (w 3) x j = m x j := fun j => mS_a _ _ _ _ nx
  rw [← f5] at hQ1 hQ0 g
  refine am_in rfl hd (fun d hd => ?_)
  refine am_go 400 [] (am_wpc_cm _ _ _) wf_6 ?_
  refine And.intro (show (m x (-1)) = 5 by first | assumption | omega | (simp only [mS_iff, eq_self, Int.reduceEq, true_and, and_true, false_and, and_false, and_self, ↓reduceIte]; omega) | (simp only [mS_iff, eq_self, Int.reduceEq, true_and, and_true, false_and, and_false, and_self, ↓reduceIte] at *; omega)) ?_
  refine And.intro (show (m x (-1)) = 5 by first | assumption | omega | (simp only [mS_iff, eq_self, Int.reduceEq, true_and, and_true, false_and, and_false, and_self, ↓reduceIte]; omega) | (simp only [mS_iff, eq_self, Int.reduceEq, true_and, and_true, false_and, and_false, and_self, ↓reduceIte] at *; omega)) ?_
  refine And.intro (⟨by omega, t3⟩) ?_
  refine And.intro (by rw [g]; exact f1) ?_
  refine And.intro (fun h1 => ?_) (fun h1 => ?_)
  · replace h1 : ((mS m (m x 5) 0 (m x 3)) x 4) ≠ (-1) := h1
    exact hQ0 (by have := g 4; omega)
  · replace h1 : ((mS m (m x 5) 0 (m x 3)) x 4) = (-1) := h1
    refine And.intro (by rw [g]; exact f1) ?_
    rw [g 5]
    exact hQ1 (by have := g 4; omega)
theorem ct_8o {d : Nat} {m : aM} {Q : aO → aM → Prop} {x v alo ahi : Int} (hd : 2 ≤ d) (hx : 0 < x) (tx : m x (-1) = 8) (hv : m x 2 = v) (vb : 0 ≤ v ∧ v ≤ 8) (ht : hTold m alo ahi (m x 3)) (ha : 29 ≤ alo) (hQ : Q (.inl (some (aR (m x 3)))) (mS m (m x 3) 0 v)) : am_wpc am_G am_T d 8 [aR x] m Q := by
  obtain ⟨t1, t2, t3⟩ := ht
  have nx : x ≠ m x 3 := fun e => by rw [← e] at t3; omega
  rw [← hv] at hQ
  have g : ∀ j, mS m (m x 3) 0 (m x 2) x j = m x j := fun j => mS_a _ _ _ _ nx
  have d1 : am_dsp (Int.toNat 1002) (m x (-1)) = 9 := by rw [tx]; rfl
  have d2 : am_dsp (Int.toNat 1003) (m x (-1)) = 11 := by rw [tx]; rfl
  have d3 : am_dsp (Int.toNat 1003) (mS m (m x 3) 0 (m x 2) x (-1)) = 11 := by rw [g, tx]; rfl
  have d4 : am_dsp (Int.toNat 1002) (mS m (m x 3) 0 (m x 2) x (-1)) = 9 := by rw [g, tx]; rfl
  refine am_in rfl hd (fun d hd => ?_)
  refine am_go 400 [] (am_wpc_cm _ _ _) wf_8 ?_
  refine And.intro (show m x (-1) = 8 ∨ m x (-1) = 10 by omega) ?_
  rw [d1]
  refine am_in (k := 0) rfl (by omega) (fun d hd => ?_)
  refine am_go 400 [] (am_wpc_cm _ _ _) wf_9 ?_
  refine And.intro (show (m x (-1)) = 8 by first | assumption | omega | (simp only [mS_iff, eq_self, Int.reduceEq, true_and, and_true, false_and, and_false, and_self, ↓reduceIte]; omega) | (simp only [mS_iff, eq_self, Int.reduceEq, true_and, and_true, false_and, and_false, and_self, ↓reduceIte] at *; omega)) ?_
  refine And.intro (show m x (-1) = 8 ∨ m x (-1) = 10 by omega) ?_
  rw [d2]
  refine am_in (k := 0) rfl (by omega) (fun d hd => ?_)
  refine am_go 400 [] (am_wpc_cm _ _ _) wf_11 ?_
  refine And.intro (show (m x (-1)) = 8 by first | assumption | omega | (simp only [mS_iff, eq_self, Int.reduceEq, true_and, and_true, false_and, and_false, and_self, ↓reduceIte]; omega) | (simp only [mS_iff, eq_self, Int.reduceEq, true_and, and_true, false_and, and_false, and_self, ↓reduceIte] at *; omega)) ?_
  refine And.intro (⟨by omega, t3⟩) ?_
  refine And.intro (show mS m (m x 3) 0 (m x 2) x (-1) = 8 ∨ mS m (m x 3) 0 (m x 2) x (-1) = 10 by rw [g]; omega) ?_
  rw [d3]
  refine am_in (k := 0) rfl (by omega) (fun d hd => ?_)
  refine am_go 400 [] (am_wpc_cm _ _ _) wf_11 ?_
  refine And.intro (show ((mS m (m x 3) 0 (m x 2)) x (-1)) = 8 by first | assumption | omega | (simp only [mS_iff, eq_self, Int.reduceEq, true_and, and_true, false_and, and_false, and_self, ↓reduceIte]; omega) | (simp only [mS_iff, eq_self, Int.reduceEq, true_and, and_true, false_and, and_false, and_self, ↓reduceIte] at *; omega)) ?_
  refine And.intro (fun _ => ?_) (fun h => absurd h (by rw [g]; omega))
  refine And.intro (show mS m (m x 3) 0 (m x 2) x (-1) = 8 ∨ mS m (m x 3) 0 (m x 2) x (-1) = 10 by rw [g]; omega) ?_
  rw [d4]
  refine am_in (k := 0) rfl (by omega) (fun d hd => ?_)
  refine am_go 400 [] (am_wpc_cm _ _ _) wf_9 ?_
  refine And.intro (show ((mS m (m x 3) 0 (m x 2)) x (-1)) = 8 by first | assumption | omega | (simp only [mS_iff, eq_self, Int.reduceEq, true_and, and_true, false_and, and_false, and_self, ↓reduceIte]; omega) | (simp only [mS_iff, eq_self, Int.reduceEq, true_and, and_true, false_and, and_false, and_self, ↓reduceIte] at *; omega)) ?_
  rw [g]; exact hQ
theorem ct_8g {d : Nat} {m : aM} {Q : aO → aM → Prop} {x v alo ahi : Int} (hd : 2 ≤ d) (hx : 0 < x) (tx : m x (-1) = 10) (hv : m x 3 = v) (vb : 0 ≤ v ∧ v ≤ 8) (ht : hTold m alo ahi (m x 4)) (ha : 29 ≤ alo) (hQ : Q (.inl (some (aR (m x 4)))) (mS m (m x 4) 0 v)) : am_wpc am_G am_T d 8 [aR x] m Q := by
  obtain ⟨t1, t2, t3⟩ := ht
  have nx : x ≠ m x 4 := fun e => by rw [← e] at t3; omega
  rw [← hv] at hQ
  have g : ∀ j, mS m (m x 4) 0 (m x 3) x j = m x j := fun j => mS_a _ _ _ _ nx
  have d1 : am_dsp (Int.toNat 1002) (m x (-1)) = 10 := by rw [tx]; rfl
  have d2 : am_dsp (Int.toNat 1003) (m x (-1)) = 12 := by rw [tx]; rfl
  have d3 : am_dsp (Int.toNat 1003) (mS m (m x 4) 0 (m x 3) x (-1)) = 12 := by rw [g, tx]; rfl
  have d4 : am_dsp (Int.toNat 1002) (mS m (m x 4) 0 (m x 3) x (-1)) = 10 := by rw [g, tx]; rfl
  refine am_in rfl hd (fun d hd => ?_)
  refine am_go 400 [] (am_wpc_cm _ _ _) wf_8 ?_
  refine And.intro (show m x (-1) = 8 ∨ m x (-1) = 10 by omega) ?_
  rw [d1]
  refine am_in (k := 0) rfl (by omega) (fun d hd => ?_)
  refine am_go 400 [] (am_wpc_cm _ _ _) wf_10 ?_
  refine And.intro (show (m x (-1)) = 10 by first | assumption | omega | (simp only [mS_iff, eq_self, Int.reduceEq, true_and, and_true, false_and, and_false, and_self, ↓reduceIte]; omega) | (simp only [mS_iff, eq_self, Int.reduceEq, true_and, and_true, false_and, and_false, and_self, ↓reduceIte] at *; omega)) ?_
  refine And.intro (show m x (-1) = 8 ∨ m x (-1) = 10 by omega) ?_
  rw [d2]
  refine am_in (k := 0) rfl (by omega) (fun d hd => ?_)
  refine am_go 400 [] (am_wpc_cm _ _ _) wf_12 ?_
  refine And.intro (show (m x (-1)) = 10 by first | assumption | omega | (simp only [mS_iff, eq_self, Int.reduceEq, true_and, and_true, false_and, and_false, and_self, ↓reduceIte]; omega) | (simp only [mS_iff, eq_self, Int.reduceEq, true_and, and_true, false_and, and_false, and_self, ↓reduceIte] at *; omega)) ?_
  refine And.intro (⟨by omega, t3⟩) ?_
  refine And.intro (show mS m (m x 4) 0 (m x 3) x (-1) = 8 ∨ mS m (m x 4) 0 (m x 3) x (-1) = 10 by rw [g]; omega) ?_
  rw [d3]
  refine am_in (k := 0) rfl (by omega) (fun d hd => ?_)
  refine am_go 400 [] (am_wpc_cm _ _ _) wf_12 ?_
  refine And.intro (show ((mS m (m x 4) 0 (m x 3)) x (-1)) = 10 by first | assumption | omega | (simp only [mS_iff, eq_self, Int.reduceEq, true_and, and_true, false_and, and_false, and_self, ↓reduceIte]; omega) | (simp only [mS_iff, eq_self, Int.reduceEq, true_and, and_true, false_and, and_false, and_self, ↓reduceIte] at *; omega)) ?_
  refine And.intro (fun _ => ?_) (fun h => absurd h (by rw [g]; omega))
  refine And.intro (show mS m (m x 4) 0 (m x 3) x (-1) = 8 ∨ mS m (m x 4) 0 (m x 3) x (-1) = 10 by rw [g]; omega) ?_
  rw [d4]
  refine am_in (k := 0) rfl (by omega) (fun d hd => ?_)
  refine am_go 400 [] (am_wpc_cm _ _ _) wf_10 ?_
  refine And.intro (show ((mS m (m x 4) 0 (m x 3)) x (-1)) = 10 by first | assumption | omega | (simp only [mS_iff, eq_self, Int.reduceEq, true_and, and_true, false_and, and_false, and_self, ↓reduceIte]; omega) | (simp only [mS_iff, eq_self, Int.reduceEq, true_and, and_true, false_and, and_false, and_self, ↓reduceIte] at *; omega)) ?_
  rw [g]; exact hQ
theorem hKeep.rfl (m : aM) (a b : Int) : hKeep m m a b := fun _ _ _ => ⟨Eq.refl _, fun _ => Eq.refl _⟩
theorem fr_E.put2 {lo hi alo ahi c x v : Int} {m m' : aM} (h : fr_E lo hi alo ahi c m m') (hx : alo ≤ x ∧ x ≤ ahi) (ht : m' x (-1) = 6) (h7 : 29 ≤ alo ∧ ahi ≤ m 0 0) : fr_E lo hi alo ahi c m (mS m' x 0 v) := by
  have t := h.tag (x := x) (by omega) (by omega) (by omega)
  obtain ⟨h1, h2, h3, h4⟩ := h
  refine ⟨by rw [mS_a _ _ _ _ (by omega)]; exact h1, by rw [mS_a _ _ _ _ (by omega)]; exact h2, fun y j a b c e g => ?_, fun j a b => by rw [mS_a _ _ _ _ (by omega)]; exact h4 j a b⟩
  rw [mS_iff, if_neg ?_]
  · exact h3 y j a b c e g
  · rintro ⟨e1, e2⟩
    subst e1
    omega
theorem fr_E.X {lo hi alo ahi c t k : Int} {m m' : aM} (h : fr_E lo hi alo ahi c m m') (h0 : 0 ≤ m 0 0) (hk : 0 < k ∧ k ≤ 3) : fr_E lo hi alo ahi (c + 3) m (mX m' t k 1000) := by
  obtain ⟨h1, h2, h3, h4⟩ := h
  obtain ⟨x1, x2, x3⟩ := mX_0 (m := m') (t := t) (k := k) (n := 1000) (by omega) hk.1
  exact ⟨by omega, by omega, fun x j a b c e g => by rw [mX_b (by omega) a]; exact h3 x j a b c e g, fun j a b => by rw [x3 j a b]; exact h4 j a b⟩
theorem hG3 {m : aM} {lo hi l b : Int} {w : Int → Int} (h : hLay m lo hi l w b) (n : m l 2 ≠ 0) : (lo ≤ m l 2 ∧ m l 2 ≤ hi) ∧ m (m l 2) (-1) = 10 ∧ okGrp w b ∧ m (m l 2) 0 = w (b + 5) ∧ m (m l 2) 1 = w (b + 6) ∧ m (m l 2) 3 = w (b + 8) ∧ hTold m lo hi (m (m l 2) 4) := by
  rcases h.2.2.2.2.2.1 with g | ⟨g1, g2, g3, g4, g5, g6, g7, g8, g9⟩
  · exact absurd g.1 n
  · exact ⟨⟨g1, g2⟩, g3, g4, g5, g6, g8, g9⟩
theorem hO3 {m : aM} {lo hi l b : Int} {w : Int → Int} (h : hLay m lo hi l w b) (hl : 1 ≤ lo) : (m l 1 = 0 → w (b + 1) = -1 ∧ w (b + 3) = -1) ∧ (m l 1 ≠ 0 → (lo ≤ m l 1 ∧ m l 1 ≤ hi) ∧ m (m l 1) (-1) = 8 ∧ okOrd w b ∧ m (m l 1) 0 = w (b + 1) ∧ m (m l 1) 2 = w (b + 3) ∧ hTold m lo hi (m (m l 1) 3)) := by
  rcases h.2.2.2.2.1 with g | ⟨g1, g2, g3, g4, g5, g6, g7, g8⟩
  · exact ⟨fun _ => ⟨g.2.1, g.2.2.2⟩, fun n => absurd g.1 n⟩
  · exact ⟨fun z => by exfalso; omega, fun _ => ⟨⟨g1, g2⟩, g3, g4, g5, g7, g8⟩⟩
theorem hG0 {m : aM} {lo hi l b : Int} {w : Int → Int} (h : hLay m lo hi l w b) (hl : 1 ≤ lo) : (m l 2 = 0 → w (b + 4) = 0) ∧ (w (b + 4) ≠ 0 → 0 ≤ w (b + 9)) := by
  rcases h.2.2.2.2.2.1 with ⟨g, g1⟩ | ⟨g1, g2, g3, g4, g5⟩
  · exact ⟨fun _ => g1.1, fun n => absurd g1.1 n⟩
  · exact ⟨fun z => by exfalso; omega, fun _ => by unfold okGrp at g4; omega⟩
theorem d_c1_51 (w : Int → Int) (a t v : Int) : d_c1 w a 51 t v = if t = 0 then .inr (0, if v = 0 then 1 else 0) else .inl (2, a) := by unfold d_c1; simp
theorem d_c1_145 (w : Int → Int) (a t v : Int) : d_c1 w a 145 t v = if t = 0 then .inr (0, am_lneg v) else .inl (2, a) := by unfold d_c1; simp
theorem d_c1_55 (w : Int → Int) (a t v : Int) : d_c1 w a 55 t v = if t = 0 then (if 0 ≤ v ∧ v < w 5 then .inr (2, v) else .inl (3, a)) else .inl (2, a) := by unfold d_c1; simp
theorem d_c1_56 (w : Int → Int) (a t v : Int) : d_c1 w a 56 t v = if t = 2 then (if w (6 + 10 * v + 4) = 0 then .inl (1, a) else .inr (3, v)) else .inl (2, a) := by unfold d_c1; simp
theorem d_c1_57 (w : Int → Int) (a t v : Int) : d_c1 w a 57 t v = if t = 1 then .inr (0, w 3) else .inl (2, a) := by unfold d_c1; simp
theorem d_c1_58 (w : Int → Int) (a t v : Int) : d_c1 w a 58 t v = if t = 1 then d_my a (w 4) else .inl (2, a) := by unfold d_c1; simp
theorem d_c1_59 (w : Int → Int) (a t v : Int) : d_c1 w a 59 t v = if t = 1 then d_my a (if w 0 = 0 then w 3 else -1) else if t = 2 then d_my a (w (6 + 10 * v + 3)) else if t = 3 then d_my a (w (6 + 10 * v + 8)) else .inl (2, a) := by unfold d_c1; simp
theorem d_c1_60 (w : Int → Int) (a t v : Int) : d_c1 w a 60 t v = if t = 3 then .inr (0, w (6 + 10 * v + 5)) else .inl (2, a) := by unfold d_c1; simp
theorem d_c1_61 (w : Int → Int) (a t v : Int) : d_c1 w a 61 t v = if t = 3 then .inr (0, w (6 + 10 * v + 6)) else .inl (2, a) := by unfold d_c1; simp
theorem d_c1_62 (w : Int → Int) (a t v : Int) : d_c1 w a 62 t v = if t = 2 then d_my a (w (6 + 10 * v + 1)) else .inl (2, a) := by unfold d_c1; simp
theorem d_c1_63 (w : Int → Int) (a t v : Int) : d_c1 w a 63 t v = if t = 0 then (if 0 ≤ v ∧ v < 9 then .inr (0, s_kd v) else .inl (3, a)) else .inl (2, a) := by unfold d_c1; simp
theorem d_c1_64 (w : Int → Int) (a t v : Int) : d_c1 w a 64 t v = if t = 2 then d_my a (if w (6 + 10 * v + 4) = 1 then w (6 + 10 * v + 9) else -1) else .inl (2, a) := by unfold d_c1; simp
theorem hWk_one {m : aM} {lo hi r a s rc lo1 hi1 pc : Int} {fc : aD} (hb : hNb m lo hi r a) (tg : m r (-1) = 13) (hs : m r 3 = s) (ho : m r 4 = rc) (hc : hNd m lo1 hi1 rc fc pc) (hl : lo ≤ lo1 ∧ hi1 ≤ hi) (hss : s = 51 ∨ s = 145 ∨ (55 ≤ s ∧ s ≤ 64)) : hWk m lo hi r a (d_one a s fc) (pc + 1) := by
  intro d Q ar alo ahi w hd hA hR hQ hX1 hX2 hX3 hX4 hF
  obtain ⟨R1, R2, R3, R4, R5, R6, R7, R8⟩ := id hR
  obtain ⟨k, hk⟩ : ∃ k, d = k + 1 := ⟨d - 1, by omega⟩
  have hA0 := hA.basic
  have kp : ∀ {m' : aM} {c : Int}, fr_E lo hi alo ahi c m m' → hKeep m m' lo hi := fun h => h.kp (by omega) R1.2
  have fe := fr_E.rfl lo hi alo ahi m
  have hz := hb
  have z0 := hz.1
  have z1 := hz.2.1
  have z2 := hz.2.2.1
  have z3 := hz.2.2.2.1
  have z5 := hz.2.2.2.2.1
  have z6 := hz.2.2.2.2.2
  rw [tg]
  show am_wpc am_G am_T d 1 _ _ _
  refine am_in (k := k) rfl (by omega) (fun d hd => ?_)
  refine am_go 400 [] (am_wpc_cm _ _ _) wf_1 ?_
  refine And.intro (tg) ?_
  rw [ho]
  refine And.intro (hc.2.1) ?_
  refine hc.2.2.2 m (hKeep.rfl m _ _) _ _ ar alo ahi w (by omega) hA ⟨by omega, by omega, R3, hc.2.2.1, by omega, R6, by omega, R8⟩ (fun t v e m1 x fe1 hv => ?_) (fun c q e m1 fe1 e1 e2 => ?_)
  · have fe := fe1.wd hl.1 hl.2 (Int.le_refl _)
    have hz := hb.keep (kp fe)
    have z0 := hz.1
    have z1 := hz.2.1
    have z2 := hz.2.2.1
    have z3 := hz.2.2.2.1
    have z5 := hz.2.2.2.2.1
    have z6 := hz.2.2.2.2.2
    have q3 : m1 r 3 = s := by rw [(kp fe r z0.1 z0.2).2 (by omega)]; exact hs
    have q1 : m1 r (-1) = 13 := by rw [(kp fe r z0.1 z0.2).1]; exact tg
    have hA1 := fe.arms hA
    have hB := hA1.basic
    have f1 := fe.1
    have f2 := fe.2.1
    have okr := hA1.row
    have okr3 := okr.2.2.2.1
    have okr4 := okr.2.2.2.2.1
    rcases hv with ⟨t0, xr, xt, xv⟩ | ⟨t0, v0, xe⟩ | ⟨t0, vb, xe⟩ | ⟨t0, vb, xe, xn⟩
    · have xb : 0 < x := by omega
      have ox : m1 x (-1) = 6 := xt
      refine And.intro (show (m1 r (-1)) = 13 by first | assumption | omega | (simp only [mS_iff, eq_self, Int.reduceEq, true_and, and_true, false_and, and_false, and_self, ↓reduceIte]; omega) | (simp only [mS_iff, eq_self, Int.reduceEq, true_and, and_true, false_and, and_false, and_self, ↓reduceIte] at *; omega)) ?_
      refine And.intro (And.intro (fun h1 => ?_) (And.intro (fun h1 => ?_) (And.intro (fun h1 => ?_) (And.intro (fun h1 => ?_) (And.intro (fun h1 => ?_) (And.intro (fun h1 => ?_) (And.intro (fun h1 => ?_) (And.intro (fun h1 => ?_) (And.intro (fun h1 => ?_) (And.intro (fun h1 => ?_) (And.intro (fun h1 => ?_) (True.intro)))))))))))) (fun h1 => ?_)
      · replace h1 : (m1 r 3) = 51 := h1
        have hs51 : s = 51 := by omega
        refine And.intro (by first | assumption | omega | (simp only [mS_iff, eq_self, Int.reduceEq, true_and, and_true, false_and, and_false, and_self, ↓reduceIte]; omega)) ?_
        refine ct_325 (by omega) xb (by omega) (fun _ => ?_) (fun h => absurd ox h)
        refine And.intro (fun h2 => ?_) (fun h2 => ?_)
        · replace h2 := am_lc_ne.mp h2
          refine And.intro (by first | assumption | omega | (simp only [mS_iff, eq_self, Int.reduceEq, true_and, and_true, false_and, and_false, and_self, ↓reduceIte]; omega)) ?_
          refine ct_326 (by omega) z1 (by omega) ⟨by omega, z6⟩ (by omega) ?_
          exact hQ 0 0 ((d_bd_r e).trans (by rw [hs51, d_c1_51]; rw [if_pos t0]; first | rw [if_pos (by omega)] | rw [if_neg (by omega)])) _ _ ((fe.put z5 z6 (by omega)).wd (Int.le_refl _) (Int.le_refl _) (by omega)) (Or.inl ⟨rfl, z5, by rw [mS_iff, if_neg (by omega)]; exact z6, by rw [mS_iff, if_pos ⟨rfl, rfl⟩]⟩)
        · replace h2 := am_lc_eq.mp h2
          refine And.intro (by first | assumption | omega | (simp only [mS_iff, eq_self, Int.reduceEq, true_and, and_true, false_and, and_false, and_self, ↓reduceIte]; omega)) ?_
          refine ct_326 (by omega) z1 (by omega) ⟨by omega, z6⟩ (by omega) ?_
          exact hQ 0 1 ((d_bd_r e).trans (by rw [hs51, d_c1_51]; rw [if_pos t0]; first | rw [if_pos (by omega)] | rw [if_neg (by omega)])) _ _ ((fe.put z5 z6 (by omega)).wd (Int.le_refl _) (Int.le_refl _) (by omega)) (Or.inl ⟨rfl, z5, by rw [mS_iff, if_neg (by omega)]; exact z6, by rw [mS_iff, if_pos ⟨rfl, rfl⟩]⟩)
      · replace h1 : (m1 r 3) = 55 := h1
        have hs55 : s = 55 := by omega
        refine And.intro (hB.2.2.2.2.1) ?_
        refine And.intro (by first | assumption | omega | (simp only [mS_iff, eq_self, Int.reduceEq, true_and, and_true, false_and, and_false, and_self, ↓reduceIte]; omega)) ?_
        refine ct_325 (by omega) xb (by omega) (fun _ => ?_) (fun h => absurd ox h)
        refine And.intro (by first | assumption | omega | (simp only [mS_iff, eq_self, Int.reduceEq, true_and, and_true, false_and, and_false, and_self, ↓reduceIte]; omega)) ?_
        refine ct_328 (by omega) (fun i i1 i2 => ?_)
        rw [xv] at i1 i2
        refine And.intro (hB.2.2.2.2.2.2.1) ?_
        refine And.intro (fun h3 => ?_) (fun h3 => ?_)
        · have iv : i = v := by omega
          exact hQ 2 v ((d_bd_r e).trans (by rw [hs55, d_c1_55]; rw [if_pos t0, if_pos (by omega)])) _ _ (fe.wd (Int.le_refl _) (Int.le_refl _) (by omega)) (Or.inr (Or.inr (Or.inl ⟨rfl, by omega, by rw [iv]⟩)))
        · refine And.intro (by first | omega | (simp only [mS_iff, eq_self, Int.reduceEq, true_and, and_true, false_and, and_false, and_self, ↓reduceIte]; omega) | (simp only [mS_iff, eq_self, Int.reduceEq, true_and, and_true, false_and, and_false, and_self, ↓reduceIte] at *; omega)) ?_
          generalize h5 : mX m1 61 3 1000 = mw4
          have fx := (fe.X (t := 61) (k := 3) (by omega) (by omega))
          rw [h5] at fx
          exact hX3 ((d_bd_r e).trans (by rw [hs55, d_c1_55]; rw [if_pos t0, if_neg (by omega)])) _ _ (fx.wd (Int.le_refl _) (Int.le_refl _) (by omega))
      · replace h1 : (m1 r 3) = 56 := h1
        have hs56 : s = 56 := by omega
        refine And.intro (show 0 < x by first | omega | (simp only [mS_iff, eq_self, Int.reduceEq, true_and, and_true, false_and, and_false, and_self, ↓reduceIte]; omega) | (simp only [mS_iff, eq_self, Int.reduceEq, true_and, and_true, false_and, and_false, and_self, ↓reduceIte] at *; omega)) ?_
        refine And.intro (fun h => absurd h (show ¬ (m1 x (-1) = 7) by omega)) (fun _ => And.intro (by omega) ?_)
        refine And.intro (by first | omega | (simp only [mS_iff, eq_self, Int.reduceEq, true_and, and_true, false_and, and_false, and_self, ↓reduceIte]; omega) | (simp only [mS_iff, eq_self, Int.reduceEq, true_and, and_true, false_and, and_false, and_self, ↓reduceIte] at *; omega)) ?_
        generalize h8 : mX m1 63 3 1000 = mw7
        have fx := (fe.X (t := 63) (k := 3) (by omega) (by omega))
        rw [h8] at fx
        exact hX2 ((d_bd_r e).trans (by rw [hs56, d_c1_56]; rw [if_neg (by omega)])) _ _ (fx.wd (Int.le_refl _) (Int.le_refl _) (by omega))
      · replace h1 : (m1 r 3) = 57 := h1
        have hs57 : s = 57 := by omega
        refine And.intro (show 0 < x by first | omega | (simp only [mS_iff, eq_self, Int.reduceEq, true_and, and_true, false_and, and_false, and_self, ↓reduceIte]; omega) | (simp only [mS_iff, eq_self, Int.reduceEq, true_and, and_true, false_and, and_false, and_self, ↓reduceIte] at *; omega)) ?_
        refine And.intro (fun h => absurd h (show ¬ (m1 x (-1) = 5) by omega)) (fun _ => And.intro (by first | omega | (simp only [mS_iff, eq_self, Int.reduceEq, true_and, and_true, false_and, and_false, and_self, ↓reduceIte]; omega) | (simp only [mS_iff, eq_self, Int.reduceEq, true_and, and_true, false_and, and_false, and_self, ↓reduceIte] at *; omega)) ?_)
        refine And.intro (by first | omega | (simp only [mS_iff, eq_self, Int.reduceEq, true_and, and_true, false_and, and_false, and_self, ↓reduceIte]; omega) | (simp only [mS_iff, eq_self, Int.reduceEq, true_and, and_true, false_and, and_false, and_self, ↓reduceIte] at *; omega)) ?_
        generalize h11 : mX m1 63 3 1000 = mw10
        have fx := (fe.X (t := 63) (k := 3) (by omega) (by omega))
        rw [h11] at fx
        exact hX2 ((d_bd_r e).trans (by rw [hs57, d_c1_57]; rw [if_neg (by omega)])) _ _ (fx.wd (Int.le_refl _) (Int.le_refl _) (by omega))
      · replace h1 : (m1 r 3) = 58 := h1
        have hs58 : s = 58 := by omega
        refine And.intro (show 0 < x by first | omega | (simp only [mS_iff, eq_self, Int.reduceEq, true_and, and_true, false_and, and_false, and_self, ↓reduceIte]; omega) | (simp only [mS_iff, eq_self, Int.reduceEq, true_and, and_true, false_and, and_false, and_self, ↓reduceIte] at *; omega)) ?_
        refine And.intro (fun h => absurd h (show ¬ (m1 x (-1) = 5) by omega)) (fun _ => And.intro (by first | omega | (simp only [mS_iff, eq_self, Int.reduceEq, true_and, and_true, false_and, and_false, and_self, ↓reduceIte]; omega) | (simp only [mS_iff, eq_self, Int.reduceEq, true_and, and_true, false_and, and_false, and_self, ↓reduceIte] at *; omega)) ?_)
        refine And.intro (by first | omega | (simp only [mS_iff, eq_self, Int.reduceEq, true_and, and_true, false_and, and_false, and_self, ↓reduceIte]; omega) | (simp only [mS_iff, eq_self, Int.reduceEq, true_and, and_true, false_and, and_false, and_self, ↓reduceIte] at *; omega)) ?_
        generalize h14 : mX m1 63 3 1000 = mw13
        have fx := (fe.X (t := 63) (k := 3) (by omega) (by omega))
        rw [h14] at fx
        exact hX2 ((d_bd_r e).trans (by rw [hs58, d_c1_58]; rw [if_neg (by omega)])) _ _ (fx.wd (Int.le_refl _) (Int.le_refl _) (by omega))
      · replace h1 : (m1 r 3) = 59 := h1
        have hs59 : s = 59 := by omega
        refine And.intro (show 0 < x by first | omega | (simp only [mS_iff, eq_self, Int.reduceEq, true_and, and_true, false_and, and_false, and_self, ↓reduceIte]; omega) | (simp only [mS_iff, eq_self, Int.reduceEq, true_and, and_true, false_and, and_false, and_self, ↓reduceIte] at *; omega)) ?_
        refine And.intro (fun h => absurd h (show ¬ (m1 x (-1) = 5 ∨ m1 x (-1) = 7 ∨ m1 x (-1) = 8 ∨ m1 x (-1) = 10) by omega)) (fun _ => And.intro (by first | omega | (simp only [mS_iff, eq_self, Int.reduceEq, true_and, and_true, false_and, and_false, and_self, ↓reduceIte]; omega) | (simp only [mS_iff, eq_self, Int.reduceEq, true_and, and_true, false_and, and_false, and_self, ↓reduceIte] at *; omega)) ?_)
        refine And.intro (by first | omega | (simp only [mS_iff, eq_self, Int.reduceEq, true_and, and_true, false_and, and_false, and_self, ↓reduceIte]; omega) | (simp only [mS_iff, eq_self, Int.reduceEq, true_and, and_true, false_and, and_false, and_self, ↓reduceIte] at *; omega)) ?_
        generalize h17 : mX m1 63 3 1000 = mw16
        have fx := (fe.X (t := 63) (k := 3) (by omega) (by omega))
        rw [h17] at fx
        exact hX2 ((d_bd_r e).trans (by rw [hs59, d_c1_59]; rw [if_neg (by omega), if_neg (by omega), if_neg (by omega)])) _ _ (fx.wd (Int.le_refl _) (Int.le_refl _) (by omega))
      · replace h1 : (m1 r 3) = 60 := h1
        have hs60 : s = 60 := by omega
        refine And.intro (show 0 < x by first | omega | (simp only [mS_iff, eq_self, Int.reduceEq, true_and, and_true, false_and, and_false, and_self, ↓reduceIte]; omega) | (simp only [mS_iff, eq_self, Int.reduceEq, true_and, and_true, false_and, and_false, and_self, ↓reduceIte] at *; omega)) ?_
        refine And.intro (fun h => absurd h (show ¬ (m1 x (-1) = 10) by omega)) (fun _ => And.intro (by first | omega | (simp only [mS_iff, eq_self, Int.reduceEq, true_and, and_true, false_and, and_false, and_self, ↓reduceIte]; omega) | (simp only [mS_iff, eq_self, Int.reduceEq, true_and, and_true, false_and, and_false, and_self, ↓reduceIte] at *; omega)) ?_)
        refine And.intro (by first | omega | (simp only [mS_iff, eq_self, Int.reduceEq, true_and, and_true, false_and, and_false, and_self, ↓reduceIte]; omega) | (simp only [mS_iff, eq_self, Int.reduceEq, true_and, and_true, false_and, and_false, and_self, ↓reduceIte] at *; omega)) ?_
        generalize h20 : mX m1 63 3 1000 = mw19
        have fx := (fe.X (t := 63) (k := 3) (by omega) (by omega))
        rw [h20] at fx
        exact hX2 ((d_bd_r e).trans (by rw [hs60, d_c1_60]; rw [if_neg (by omega)])) _ _ (fx.wd (Int.le_refl _) (Int.le_refl _) (by omega))
      · replace h1 : (m1 r 3) = 61 := h1
        have hs61 : s = 61 := by omega
        refine And.intro (show 0 < x by first | omega | (simp only [mS_iff, eq_self, Int.reduceEq, true_and, and_true, false_and, and_false, and_self, ↓reduceIte]; omega) | (simp only [mS_iff, eq_self, Int.reduceEq, true_and, and_true, false_and, and_false, and_self, ↓reduceIte] at *; omega)) ?_
        refine And.intro (fun h => absurd h (show ¬ (m1 x (-1) = 10) by omega)) (fun _ => And.intro (by first | omega | (simp only [mS_iff, eq_self, Int.reduceEq, true_and, and_true, false_and, and_false, and_self, ↓reduceIte]; omega) | (simp only [mS_iff, eq_self, Int.reduceEq, true_and, and_true, false_and, and_false, and_self, ↓reduceIte] at *; omega)) ?_)
        refine And.intro (by first | omega | (simp only [mS_iff, eq_self, Int.reduceEq, true_and, and_true, false_and, and_false, and_self, ↓reduceIte]; omega) | (simp only [mS_iff, eq_self, Int.reduceEq, true_and, and_true, false_and, and_false, and_self, ↓reduceIte] at *; omega)) ?_
        generalize h23 : mX m1 63 3 1000 = mw22
        have fx := (fe.X (t := 63) (k := 3) (by omega) (by omega))
        rw [h23] at fx
        exact hX2 ((d_bd_r e).trans (by rw [hs61, d_c1_61]; rw [if_neg (by omega)])) _ _ (fx.wd (Int.le_refl _) (Int.le_refl _) (by omega))
      · replace h1 : (m1 r 3) = 62 := h1
        have hs62 : s = 62 := by omega
        refine And.intro (show 0 < x by first | omega | (simp only [mS_iff, eq_self, Int.reduceEq, true_and, and_true, false_and, and_false, and_self, ↓reduceIte]; omega) | (simp only [mS_iff, eq_self, Int.reduceEq, true_and, and_true, false_and, and_false, and_self, ↓reduceIte] at *; omega)) ?_
        refine And.intro (fun h => absurd h (show ¬ (m1 x (-1) = 7) by omega)) (fun _ => And.intro (by first | omega | (simp only [mS_iff, eq_self, Int.reduceEq, true_and, and_true, false_and, and_false, and_self, ↓reduceIte]; omega) | (simp only [mS_iff, eq_self, Int.reduceEq, true_and, and_true, false_and, and_false, and_self, ↓reduceIte] at *; omega)) ?_)
        refine And.intro (by first | omega | (simp only [mS_iff, eq_self, Int.reduceEq, true_and, and_true, false_and, and_false, and_self, ↓reduceIte]; omega) | (simp only [mS_iff, eq_self, Int.reduceEq, true_and, and_true, false_and, and_false, and_self, ↓reduceIte] at *; omega)) ?_
        generalize h26 : mX m1 63 3 1000 = mw25
        have fx := (fe.X (t := 63) (k := 3) (by omega) (by omega))
        rw [h26] at fx
        exact hX2 ((d_bd_r e).trans (by rw [hs62, d_c1_62]; rw [if_neg (by omega)])) _ _ (fx.wd (Int.le_refl _) (Int.le_refl _) (by omega))
      · replace h1 : (m1 r 3) = 63 := h1
        have hs63 : s = 63 := by omega
        refine And.intro (by first | assumption | omega | (simp only [mS_iff, eq_self, Int.reduceEq, true_and, and_true, false_and, and_false, and_self, ↓reduceIte]; omega)) ?_
        refine ct_325 (by omega) xb (by omega) (fun _ => ?_) (fun h => absurd ox h)
        refine And.intro (by first | assumption | omega | (simp only [mS_iff, eq_self, Int.reduceEq, true_and, and_true, false_and, and_false, and_self, ↓reduceIte]; omega)) ?_
        refine ct_328 (by omega) (fun i i1 i2 => ?_)
        rw [xv] at i1 i2
        have k8 : ∀ i, 0 ≤ i → i < 9 → m1 (-4) i = s_kd i := fun i u v => by rw [fe.2.2.1 (-4) i (by omega) (by omega) (by omega) (by omega) (by omega)]; exact R8 i u v
        refine And.intro (rfl) ?_
        refine And.intro (fun h27 => ?_) (fun h27 => ?_)
        · refine And.intro (by first | assumption | omega | (simp only [mS_iff, eq_self, Int.reduceEq, true_and, and_true, false_and, and_false, and_self, ↓reduceIte]; omega)) ?_
          refine ct_324 (by omega) z1 (by omega) ⟨by omega, z6⟩ ?_
          exact hQ 0 (m1 (-4) i) ((d_bd_r e).trans (by rw [hs63, d_c1_63]; rw [if_pos t0, if_pos (by omega), show i = v by omega, k8 v (by omega) (by omega)])) _ _ ((fe.put z5 z6 (by omega)).wd (Int.le_refl _) (Int.le_refl _) (by omega)) (Or.inl ⟨rfl, z5, by rw [mS_iff, if_neg (by omega)]; exact z6, by rw [mS_iff, if_pos ⟨rfl, rfl⟩]⟩)
        · refine And.intro (by first | omega | (simp only [mS_iff, eq_self, Int.reduceEq, true_and, and_true, false_and, and_false, and_self, ↓reduceIte]; omega) | (simp only [mS_iff, eq_self, Int.reduceEq, true_and, and_true, false_and, and_false, and_self, ↓reduceIte] at *; omega)) ?_
          generalize h29 : mX m1 61 3 1000 = mw28
          have fx := (fe.X (t := 61) (k := 3) (by omega) (by omega))
          rw [h29] at fx
          exact hX3 ((d_bd_r e).trans (by rw [hs63, d_c1_63]; rw [if_pos t0, if_neg (by omega)])) _ _ (fx.wd (Int.le_refl _) (Int.le_refl _) (by omega))
      · replace h1 : (m1 r 3) = 145 := h1
        have hs145 : s = 145 := by omega
        refine And.intro (by first | assumption | omega | (simp only [mS_iff, eq_self, Int.reduceEq, true_and, and_true, false_and, and_false, and_self, ↓reduceIte]; omega)) ?_
        refine ct_325 (by omega) xb (by omega) (fun _ => ?_) (fun h => absurd ox h)
        refine And.intro (by first | assumption | omega | (simp only [mS_iff, eq_self, Int.reduceEq, true_and, and_true, false_and, and_false, and_self, ↓reduceIte]; omega)) ?_
        refine ct_324 (by omega) z1 (by omega) ⟨by omega, z6⟩ ?_
        exact hQ 0 (am_lneg (m1 x 0)) ((d_bd_r e).trans (by rw [hs145, d_c1_145]; rw [if_pos t0, xv])) _ _ ((fe.put z5 z6 (by omega)).wd (Int.le_refl _) (Int.le_refl _) (by omega)) (Or.inl ⟨rfl, z5, by rw [mS_iff, if_neg (by omega)]; exact z6, by rw [mS_iff, if_pos ⟨rfl, rfl⟩]⟩)
      · simp only [am_none] at h1
        have hs64 : s = 64 := by omega
        refine And.intro (show 0 < x by first | omega | (simp only [mS_iff, eq_self, Int.reduceEq, true_and, and_true, false_and, and_false, and_self, ↓reduceIte]; omega) | (simp only [mS_iff, eq_self, Int.reduceEq, true_and, and_true, false_and, and_false, and_self, ↓reduceIte] at *; omega)) ?_
        refine And.intro (fun h => absurd h (show ¬ (m1 x (-1) = 7) by omega)) (fun _ => And.intro (by first | omega | (simp only [mS_iff, eq_self, Int.reduceEq, true_and, and_true, false_and, and_false, and_self, ↓reduceIte]; omega) | (simp only [mS_iff, eq_self, Int.reduceEq, true_and, and_true, false_and, and_false, and_self, ↓reduceIte] at *; omega)) ?_)
        refine And.intro (by first | omega | (simp only [mS_iff, eq_self, Int.reduceEq, true_and, and_true, false_and, and_false, and_self, ↓reduceIte]; omega) | (simp only [mS_iff, eq_self, Int.reduceEq, true_and, and_true, false_and, and_false, and_self, ↓reduceIte] at *; omega)) ?_
        generalize h32 : mX m1 63 3 1000 = mw31
        have fx := (fe.X (t := 63) (k := 3) (by omega) (by omega))
        rw [h32] at fx
        exact hX2 ((d_bd_r e).trans (by rw [hs64, d_c1_64]; rw [if_neg (by omega)])) _ _ (fx.wd (Int.le_refl _) (Int.le_refl _) (by omega))
    · have hf := hA1.fld
      rw [← xe] at hf
      have ox : m1 x (-1) = 5 := hf.2.1
      have xb : 0 < x := by have := hf.1; omega
      have o3 := hf.2.2.2.2.2.1
      have o4 := hf.2.2.2.2.2.2.1
      refine And.intro (show (m1 r (-1)) = 13 by first | assumption | omega | (simp only [mS_iff, eq_self, Int.reduceEq, true_and, and_true, false_and, and_false, and_self, ↓reduceIte]; omega) | (simp only [mS_iff, eq_self, Int.reduceEq, true_and, and_true, false_and, and_false, and_self, ↓reduceIte] at *; omega)) ?_
      refine And.intro (And.intro (fun h33 => ?_) (And.intro (fun h33 => ?_) (And.intro (fun h33 => ?_) (And.intro (fun h33 => ?_) (And.intro (fun h33 => ?_) (And.intro (fun h33 => ?_) (And.intro (fun h33 => ?_) (And.intro (fun h33 => ?_) (And.intro (fun h33 => ?_) (And.intro (fun h33 => ?_) (And.intro (fun h33 => ?_) (True.intro)))))))))))) (fun h33 => ?_)
      · replace h33 : (m1 r 3) = 51 := h33
        have hs51 : s = 51 := by omega
        refine And.intro (by first | assumption | omega | (simp only [mS_iff, eq_self, Int.reduceEq, true_and, and_true, false_and, and_false, and_self, ↓reduceIte]; omega)) ?_
        refine ct_325 (by omega) xb (by omega) (fun h => absurd h (by omega)) (fun _ => And.intro (by omega) ?_)
        · exact hX2 ((d_bd_r e).trans (by rw [hs51, d_c1_51]; rw [if_neg (by omega)])) _ _ ((fe.X (by omega) (by omega)).wd (Int.le_refl _) (Int.le_refl _) (by omega))
      · replace h33 : (m1 r 3) = 55 := h33
        have hs55 : s = 55 := by omega
        refine And.intro (hB.2.2.2.2.1) ?_
        refine And.intro (by first | assumption | omega | (simp only [mS_iff, eq_self, Int.reduceEq, true_and, and_true, false_and, and_false, and_self, ↓reduceIte]; omega)) ?_
        refine ct_325 (by omega) xb (by omega) (fun h => absurd h (by omega)) (fun _ => And.intro (by omega) ?_)
        · exact hX2 ((d_bd_r e).trans (by rw [hs55, d_c1_55]; rw [if_neg (by omega)])) _ _ ((fe.X (by omega) (by omega)).wd (Int.le_refl _) (Int.le_refl _) (by omega))
      · replace h33 : (m1 r 3) = 56 := h33
        have hs56 : s = 56 := by omega
        refine And.intro (show 0 < x by first | omega | (simp only [mS_iff, eq_self, Int.reduceEq, true_and, and_true, false_and, and_false, and_self, ↓reduceIte]; omega) | (simp only [mS_iff, eq_self, Int.reduceEq, true_and, and_true, false_and, and_false, and_self, ↓reduceIte] at *; omega)) ?_
        refine And.intro (fun h => absurd h (show ¬ (m1 x (-1) = 7) by omega)) (fun _ => And.intro (by omega) ?_)
        refine And.intro (by first | omega | (simp only [mS_iff, eq_self, Int.reduceEq, true_and, and_true, false_and, and_false, and_self, ↓reduceIte]; omega) | (simp only [mS_iff, eq_self, Int.reduceEq, true_and, and_true, false_and, and_false, and_self, ↓reduceIte] at *; omega)) ?_
        generalize h36 : mX m1 63 3 1000 = mw35
        have fx := (fe.X (t := 63) (k := 3) (by omega) (by omega))
        rw [h36] at fx
        exact hX2 ((d_bd_r e).trans (by rw [hs56, d_c1_56]; rw [if_neg (by omega)])) _ _ (fx.wd (Int.le_refl _) (Int.le_refl _) (by omega))
      · replace h33 : (m1 r 3) = 57 := h33
        have hs57 : s = 57 := by omega
        refine And.intro (show 0 < x by first | omega | (simp only [mS_iff, eq_self, Int.reduceEq, true_and, and_true, false_and, and_false, and_self, ↓reduceIte]; omega) | (simp only [mS_iff, eq_self, Int.reduceEq, true_and, and_true, false_and, and_false, and_self, ↓reduceIte] at *; omega)) ?_
        refine And.intro (fun _ => ?_) (fun h => absurd (ox) h)
        refine And.intro (show (m1 x (-1)) = 5 by first | assumption | omega | (simp only [mS_iff, eq_self, Int.reduceEq, true_and, and_true, false_and, and_false, and_self, ↓reduceIte]; omega) | (simp only [mS_iff, eq_self, Int.reduceEq, true_and, and_true, false_and, and_false, and_self, ↓reduceIte] at *; omega)) ?_
        refine And.intro (by first | assumption | omega | (simp only [mS_iff, eq_self, Int.reduceEq, true_and, and_true, false_and, and_false, and_self, ↓reduceIte]; omega)) ?_
        refine ct_324 (by omega) z1 (by omega) ⟨by omega, z6⟩ ?_
        exact hQ 0 (m1 x 3) ((d_bd_r e).trans (by rw [hs57, d_c1_57]; rw [if_pos t0, o3])) _ _ ((fe.put z5 z6 (by omega)).wd (Int.le_refl _) (Int.le_refl _) (by omega)) (Or.inl ⟨rfl, z5, by rw [mS_iff, if_neg (by omega)]; exact z6, by rw [mS_iff, if_pos ⟨rfl, rfl⟩]⟩)
      · replace h33 : (m1 r 3) = 58 := h33
        have hs58 : s = 58 := by omega
        refine And.intro (show 0 < x by first | omega | (simp only [mS_iff, eq_self, Int.reduceEq, true_and, and_true, false_and, and_false, and_self, ↓reduceIte]; omega) | (simp only [mS_iff, eq_self, Int.reduceEq, true_and, and_true, false_and, and_false, and_self, ↓reduceIte] at *; omega)) ?_
        refine And.intro (fun _ => ?_) (fun h => absurd (ox) h)
        refine And.intro (by first | assumption | omega | (simp only [mS_iff, eq_self, Int.reduceEq, true_and, and_true, false_and, and_false, and_self, ↓reduceIte]; omega)) ?_
        refine am_in (k := 1) rfl (by omega) (fun d hd => ?_)
        refine am_go 400 [] (am_wpc_cm _ _ _) wf_330 ?_
        refine And.intro (show (m1 x (-1)) = 5 by first | assumption | omega | (simp only [mS_iff, eq_self, Int.reduceEq, true_and, and_true, false_and, and_false, and_self, ↓reduceIte]; omega) | (simp only [mS_iff, eq_self, Int.reduceEq, true_and, and_true, false_and, and_false, and_self, ↓reduceIte] at *; omega)) ?_
        refine And.intro (fun h39 => ?_) (fun h39 => ?_)
        · refine And.intro (fun _ => And.intro (ox) ?_) (fun h => absurd h (by omega))
          refine And.intro (by first | assumption | omega | (simp only [mS_iff, eq_self, Int.reduceEq, true_and, and_true, false_and, and_false, and_self, ↓reduceIte]; omega)) ?_
          refine ct_324 (by omega) z1 (by omega) ⟨by omega, z6⟩ ?_
          exact hQ 0 (m1 x 4) ((d_bd_r e).trans (by rw [hs58, d_c1_58]; rw [if_pos t0, o4]; unfold d_my; rw [if_neg (by omega)])) _ _ ((fe.put z5 z6 (by omega)).wd (Int.le_refl _) (Int.le_refl _) (by omega)) (Or.inl ⟨rfl, z5, by rw [mS_iff, if_neg (by omega)]; exact z6, by rw [mS_iff, if_pos ⟨rfl, rfl⟩]⟩)
        · refine And.intro (fun h => absurd (rfl) h) (fun _ => ?_)
          refine And.intro (by first | omega | (simp only [mS_iff, eq_self, Int.reduceEq, true_and, and_true, false_and, and_false, and_self, ↓reduceIte]; omega) | (simp only [mS_iff, eq_self, Int.reduceEq, true_and, and_true, false_and, and_false, and_self, ↓reduceIte] at *; omega)) ?_
          generalize h41 : mX m1 62 1 1000 = mw40
          have fx := (fe.X (t := 62) (k := 1) (by omega) (by omega))
          rw [h41] at fx
          exact hX1 ((d_bd_r e).trans (by rw [hs58, d_c1_58]; rw [if_pos t0]; unfold d_my; rw [if_pos (by omega)])) _ _ (fx.wd (Int.le_refl _) (Int.le_refl _) (by omega))
      · replace h33 : (m1 r 3) = 59 := h33
        have hs59 : s = 59 := by omega
        refine And.intro (show 0 < x by first | omega | (simp only [mS_iff, eq_self, Int.reduceEq, true_and, and_true, false_and, and_false, and_self, ↓reduceIte]; omega) | (simp only [mS_iff, eq_self, Int.reduceEq, true_and, and_true, false_and, and_false, and_self, ↓reduceIte] at *; omega)) ?_
        refine And.intro (fun _ => ?_) (fun h => absurd (show m1 x (-1) = 5 ∨ m1 x (-1) = 7 ∨ m1 x (-1) = 8 ∨ m1 x (-1) = 10 by omega) h)
        refine And.intro (by first | assumption | omega | (simp only [mS_iff, eq_self, Int.reduceEq, true_and, and_true, false_and, and_false, and_self, ↓reduceIte]; omega)) ?_
        rw [show am_dsp (Int.toNat 1001) (m1 x (-1)) = 6 by rw [ox]; rfl]
        refine ct_6 (by omega) hf (by omega) (fun w4 => ?_) (fun w4 => ?_)
        · have tb := hf.2.2.2.2.2.2.2
          obtain ⟨mt, et⟩ : ∃ z, z = mS m1 (m1 x 5) 0 (w 3) := ⟨_, rfl⟩
          rw [← et]
          have fe : fr_E lo hi alo ahi (pc - 1) m mt := by rw [et]; exact fe.put2 ⟨tb.1, tb.2.1⟩ tb.2.2 (by omega)
          have tv : mt (m1 x 5) 0 = (w 3) := by rw [et, mS_iff, if_pos ⟨rfl, rfl⟩]
          have tt : mt (m1 x 5) (-1) = 6 := by rw [et, mS_iff, if_neg (by omega)]; exact tb.2.2
          have hz := hb.keep (kp fe)
          have z0 := hz.1
          have z1 := hz.2.1
          have z2 := hz.2.2.1
          have z3 := hz.2.2.2.1
          have z5 := hz.2.2.2.2.1
          have z6 := hz.2.2.2.2.2
          have q1 : mt r (-1) = 13 := by rw [(kp fe r z0.1 z0.2).1]; exact tg
          have f1 := fe.1
          have f2 := fe.2.1
          refine And.intro (fun _ => And.intro (tt) ?_) (fun h => absurd h (by have := tb.1; omega))
          refine And.intro (by first | assumption | omega | (simp only [mS_iff, eq_self, Int.reduceEq, true_and, and_true, false_and, and_false, and_self, ↓reduceIte]; omega)) ?_
          refine ct_324 (by omega) z1 (by omega) ⟨by omega, z6⟩ ?_
          exact hQ 0 (mt (m1 x 5) 0) ((d_bd_r e).trans (by rw [hs59, d_c1_59]; rw [if_pos t0, if_pos (by omega), tv]; unfold d_my; rw [if_neg (by omega)])) _ _ ((fe.put z5 z6 (by omega)).wd (Int.le_refl _) (Int.le_refl _) (by omega)) (Or.inl ⟨rfl, z5, by rw [mS_iff, if_neg (by omega)]; exact z6, by rw [mS_iff, if_pos ⟨rfl, rfl⟩]⟩)
        · have tb := hf.2.2.2.2.2.2.2
          obtain ⟨mt, et⟩ : ∃ z, z = mS m1 (m1 x 5) 0 (w 3) := ⟨_, rfl⟩
          rw [← et]
          have fe : fr_E lo hi alo ahi (pc - 1) m mt := by rw [et]; exact fe.put2 ⟨tb.1, tb.2.1⟩ tb.2.2 (by omega)
          have tv : mt (m1 x 5) 0 = (w 3) := by rw [et, mS_iff, if_pos ⟨rfl, rfl⟩]
          have tt : mt (m1 x 5) (-1) = 6 := by rw [et, mS_iff, if_neg (by omega)]; exact tb.2.2
          have hz := hb.keep (kp fe)
          have z0 := hz.1
          have z1 := hz.2.1
          have z2 := hz.2.2.1
          have z3 := hz.2.2.2.1
          have z5 := hz.2.2.2.2.1
          have z6 := hz.2.2.2.2.2
          have q1 : mt r (-1) = 13 := by rw [(kp fe r z0.1 z0.2).1]; exact tg
          have f1 := fe.1
          have f2 := fe.2.1
          refine And.intro (fun h => absurd (rfl) h) (fun _ => ?_)
          refine And.intro (by first | omega | (simp only [mS_iff, eq_self, Int.reduceEq, true_and, and_true, false_and, and_false, and_self, ↓reduceIte]; omega) | (simp only [mS_iff, eq_self, Int.reduceEq, true_and, and_true, false_and, and_false, and_self, ↓reduceIte] at *; omega)) ?_
          generalize h44 : mX mt 62 1 1000 = mw43
          have fx := (fe.X (t := 62) (k := 1) (by omega) (by omega))
          rw [h44] at fx
          exact hX1 ((d_bd_r e).trans (by rw [hs59, d_c1_59]; rw [if_pos t0, if_neg (by omega)]; unfold d_my; rw [if_pos rfl])) _ _ (fx.wd (Int.le_refl _) (Int.le_refl _) (by omega))
      · replace h33 : (m1 r 3) = 60 := h33
        have hs60 : s = 60 := by omega
        refine And.intro (show 0 < x by first | omega | (simp only [mS_iff, eq_self, Int.reduceEq, true_and, and_true, false_and, and_false, and_self, ↓reduceIte]; omega) | (simp only [mS_iff, eq_self, Int.reduceEq, true_and, and_true, false_and, and_false, and_self, ↓reduceIte] at *; omega)) ?_
        refine And.intro (fun h => absurd h (show ¬ (m1 x (-1) = 10) by omega)) (fun _ => And.intro (by first | omega | (simp only [mS_iff, eq_self, Int.reduceEq, true_and, and_true, false_and, and_false, and_self, ↓reduceIte]; omega) | (simp only [mS_iff, eq_self, Int.reduceEq, true_and, and_true, false_and, and_false, and_self, ↓reduceIte] at *; omega)) ?_)
        refine And.intro (by first | omega | (simp only [mS_iff, eq_self, Int.reduceEq, true_and, and_true, false_and, and_false, and_self, ↓reduceIte]; omega) | (simp only [mS_iff, eq_self, Int.reduceEq, true_and, and_true, false_and, and_false, and_self, ↓reduceIte] at *; omega)) ?_
        generalize h47 : mX m1 63 3 1000 = mw46
        have fx := (fe.X (t := 63) (k := 3) (by omega) (by omega))
        rw [h47] at fx
        exact hX2 ((d_bd_r e).trans (by rw [hs60, d_c1_60]; rw [if_neg (by omega)])) _ _ (fx.wd (Int.le_refl _) (Int.le_refl _) (by omega))
      · replace h33 : (m1 r 3) = 61 := h33
        have hs61 : s = 61 := by omega
        refine And.intro (show 0 < x by first | omega | (simp only [mS_iff, eq_self, Int.reduceEq, true_and, and_true, false_and, and_false, and_self, ↓reduceIte]; omega) | (simp only [mS_iff, eq_self, Int.reduceEq, true_and, and_true, false_and, and_false, and_self, ↓reduceIte] at *; omega)) ?_
        refine And.intro (fun h => absurd h (show ¬ (m1 x (-1) = 10) by omega)) (fun _ => And.intro (by first | omega | (simp only [mS_iff, eq_self, Int.reduceEq, true_and, and_true, false_and, and_false, and_self, ↓reduceIte]; omega) | (simp only [mS_iff, eq_self, Int.reduceEq, true_and, and_true, false_and, and_false, and_self, ↓reduceIte] at *; omega)) ?_)
        refine And.intro (by first | omega | (simp only [mS_iff, eq_self, Int.reduceEq, true_and, and_true, false_and, and_false, and_self, ↓reduceIte]; omega) | (simp only [mS_iff, eq_self, Int.reduceEq, true_and, and_true, false_and, and_false, and_self, ↓reduceIte] at *; omega)) ?_
        generalize h50 : mX m1 63 3 1000 = mw49
        have fx := (fe.X (t := 63) (k := 3) (by omega) (by omega))
        rw [h50] at fx
        exact hX2 ((d_bd_r e).trans (by rw [hs61, d_c1_61]; rw [if_neg (by omega)])) _ _ (fx.wd (Int.le_refl _) (Int.le_refl _) (by omega))
      · replace h33 : (m1 r 3) = 62 := h33
        have hs62 : s = 62 := by omega
        refine And.intro (show 0 < x by first | omega | (simp only [mS_iff, eq_self, Int.reduceEq, true_and, and_true, false_and, and_false, and_self, ↓reduceIte]; omega) | (simp only [mS_iff, eq_self, Int.reduceEq, true_and, and_true, false_and, and_false, and_self, ↓reduceIte] at *; omega)) ?_
        refine And.intro (fun h => absurd h (show ¬ (m1 x (-1) = 7) by omega)) (fun _ => And.intro (by first | omega | (simp only [mS_iff, eq_self, Int.reduceEq, true_and, and_true, false_and, and_false, and_self, ↓reduceIte]; omega) | (simp only [mS_iff, eq_self, Int.reduceEq, true_and, and_true, false_and, and_false, and_self, ↓reduceIte] at *; omega)) ?_)
        refine And.intro (by first | omega | (simp only [mS_iff, eq_self, Int.reduceEq, true_and, and_true, false_and, and_false, and_self, ↓reduceIte]; omega) | (simp only [mS_iff, eq_self, Int.reduceEq, true_and, and_true, false_and, and_false, and_self, ↓reduceIte] at *; omega)) ?_
        generalize h53 : mX m1 63 3 1000 = mw52
        have fx := (fe.X (t := 63) (k := 3) (by omega) (by omega))
        rw [h53] at fx
        exact hX2 ((d_bd_r e).trans (by rw [hs62, d_c1_62]; rw [if_neg (by omega)])) _ _ (fx.wd (Int.le_refl _) (Int.le_refl _) (by omega))
      · replace h33 : (m1 r 3) = 63 := h33
        have hs63 : s = 63 := by omega
        refine And.intro (by first | assumption | omega | (simp only [mS_iff, eq_self, Int.reduceEq, true_and, and_true, false_and, and_false, and_self, ↓reduceIte]; omega)) ?_
        refine ct_325 (by omega) xb (by omega) (fun h => absurd h (by omega)) (fun _ => And.intro (by omega) ?_)
        · exact hX2 ((d_bd_r e).trans (by rw [hs63, d_c1_63]; rw [if_neg (by omega)])) _ _ ((fe.X (by omega) (by omega)).wd (Int.le_refl _) (Int.le_refl _) (by omega))
      · replace h33 : (m1 r 3) = 145 := h33
        have hs145 : s = 145 := by omega
        refine And.intro (by first | assumption | omega | (simp only [mS_iff, eq_self, Int.reduceEq, true_and, and_true, false_and, and_false, and_self, ↓reduceIte]; omega)) ?_
        refine ct_325 (by omega) xb (by omega) (fun h => absurd h (by omega)) (fun _ => And.intro (by omega) ?_)
        · exact hX2 ((d_bd_r e).trans (by rw [hs145, d_c1_145]; rw [if_neg (by omega)])) _ _ ((fe.X (by omega) (by omega)).wd (Int.le_refl _) (Int.le_refl _) (by omega))
      · simp only [am_none] at h33
        have hs64 : s = 64 := by omega
        refine And.intro (show 0 < x by first | omega | (simp only [mS_iff, eq_self, Int.reduceEq, true_and, and_true, false_and, and_false, and_self, ↓reduceIte]; omega) | (simp only [mS_iff, eq_self, Int.reduceEq, true_and, and_true, false_and, and_false, and_self, ↓reduceIte] at *; omega)) ?_
        refine And.intro (fun h => absurd h (show ¬ (m1 x (-1) = 7) by omega)) (fun _ => And.intro (by first | omega | (simp only [mS_iff, eq_self, Int.reduceEq, true_and, and_true, false_and, and_false, and_self, ↓reduceIte]; omega) | (simp only [mS_iff, eq_self, Int.reduceEq, true_and, and_true, false_and, and_false, and_self, ↓reduceIte] at *; omega)) ?_)
        refine And.intro (by first | omega | (simp only [mS_iff, eq_self, Int.reduceEq, true_and, and_true, false_and, and_false, and_self, ↓reduceIte]; omega) | (simp only [mS_iff, eq_self, Int.reduceEq, true_and, and_true, false_and, and_false, and_self, ↓reduceIte] at *; omega)) ?_
        generalize h56 : mX m1 63 3 1000 = mw55
        have fx := (fe.X (t := 63) (k := 3) (by omega) (by omega))
        rw [h56] at fx
        exact hX2 ((d_bd_r e).trans (by rw [hs64, d_c1_64]; rw [if_neg (by omega)])) _ _ (fx.wd (Int.le_refl _) (Int.le_refl _) (by omega))
    · have hy := hA1.lay vb.1 vb.2
      rw [← xe] at hy
      have ox : m1 x (-1) = 7 := hy.2.1
      have xb : 0 < x := by have := hy.1; omega
      have o1 := hO3 hy (by omega)
      have o7 := (hG0 hy (by omega)).1
      have o8 := (hG0 hy (by omega)).2
      have o3 := hy.2.2.2.2.2.2.1
      have o4 := hy.2.2.2.2.2.2.2.1
      refine And.intro (show (m1 r (-1)) = 13 by first | assumption | omega | (simp only [mS_iff, eq_self, Int.reduceEq, true_and, and_true, false_and, and_false, and_self, ↓reduceIte]; omega) | (simp only [mS_iff, eq_self, Int.reduceEq, true_and, and_true, false_and, and_false, and_self, ↓reduceIte] at *; omega)) ?_
      refine And.intro (And.intro (fun h57 => ?_) (And.intro (fun h57 => ?_) (And.intro (fun h57 => ?_) (And.intro (fun h57 => ?_) (And.intro (fun h57 => ?_) (And.intro (fun h57 => ?_) (And.intro (fun h57 => ?_) (And.intro (fun h57 => ?_) (And.intro (fun h57 => ?_) (And.intro (fun h57 => ?_) (And.intro (fun h57 => ?_) (True.intro)))))))))))) (fun h57 => ?_)
      · replace h57 : (m1 r 3) = 51 := h57
        have hs51 : s = 51 := by omega
        refine And.intro (by first | assumption | omega | (simp only [mS_iff, eq_self, Int.reduceEq, true_and, and_true, false_and, and_false, and_self, ↓reduceIte]; omega)) ?_
        refine ct_325 (by omega) xb (by omega) (fun h => absurd h (by omega)) (fun _ => And.intro (by omega) ?_)
        · exact hX2 ((d_bd_r e).trans (by rw [hs51, d_c1_51]; rw [if_neg (by omega)])) _ _ ((fe.X (by omega) (by omega)).wd (Int.le_refl _) (Int.le_refl _) (by omega))
      · replace h57 : (m1 r 3) = 55 := h57
        have hs55 : s = 55 := by omega
        refine And.intro (hB.2.2.2.2.1) ?_
        refine And.intro (by first | assumption | omega | (simp only [mS_iff, eq_self, Int.reduceEq, true_and, and_true, false_and, and_false, and_self, ↓reduceIte]; omega)) ?_
        refine ct_325 (by omega) xb (by omega) (fun h => absurd h (by omega)) (fun _ => And.intro (by omega) ?_)
        · exact hX2 ((d_bd_r e).trans (by rw [hs55, d_c1_55]; rw [if_neg (by omega)])) _ _ ((fe.X (by omega) (by omega)).wd (Int.le_refl _) (Int.le_refl _) (by omega))
      · replace h57 : (m1 r 3) = 56 := h57
        have hs56 : s = 56 := by omega
        refine And.intro (show 0 < x by first | omega | (simp only [mS_iff, eq_self, Int.reduceEq, true_and, and_true, false_and, and_false, and_self, ↓reduceIte]; omega) | (simp only [mS_iff, eq_self, Int.reduceEq, true_and, and_true, false_and, and_false, and_self, ↓reduceIte] at *; omega)) ?_
        refine And.intro (fun _ => ?_) (fun h => absurd (ox) h)
        refine And.intro (show (m1 x (-1)) = 7 by first | assumption | omega | (simp only [mS_iff, eq_self, Int.reduceEq, true_and, and_true, false_and, and_false, and_self, ↓reduceIte]; omega) | (simp only [mS_iff, eq_self, Int.reduceEq, true_and, and_true, false_and, and_false, and_self, ↓reduceIte] at *; omega)) ?_
        refine And.intro (by first | assumption | omega | (simp only [mS_iff, eq_self, Int.reduceEq, true_and, and_true, false_and, and_false, and_self, ↓reduceIte]; omega)) ?_
        refine am_in (k := 0) rfl (by omega) (fun d hd => ?_)
        refine am_go 400 [] (am_wpc_cm _ _ _) wf_329 ?_
        refine And.intro (fun h59 => ?_) (fun h59 => ?_)
        · refine And.intro ((hG3 hy (by assumption)).2.1) ?_
          have gg := hG3 hy (by assumption)
          refine And.intro (fun h => absurd h (by have := gg.2.2.2.1; have := gg.2.2.1; unfold okGrp at this; omega)) (fun _ => ?_)
          exact hQ 3 v ((d_bd_r e).trans (by rw [hs56, d_c1_56]; rw [if_pos t0, if_neg (by have := gg.2.2.1.1; omega)])) _ _ (fe.wd (Int.le_refl _) (Int.le_refl _) (by omega)) (Or.inr (Or.inr (Or.inr ⟨rfl, vb, by rw [xe], by assumption⟩)))
        · refine And.intro (by first | omega | (simp only [mS_iff, eq_self, Int.reduceEq, true_and, and_true, false_and, and_false, and_self, ↓reduceIte]; omega) | (simp only [mS_iff, eq_self, Int.reduceEq, true_and, and_true, false_and, and_false, and_self, ↓reduceIte] at *; omega)) ?_
          generalize h61 : mX m1 62 1 1000 = mw60
          have fx := (fe.X (t := 62) (k := 1) (by omega) (by omega))
          rw [h61] at fx
          exact hX1 ((d_bd_r e).trans (by rw [hs56, d_c1_56]; rw [if_pos t0, if_pos (by omega)])) _ _ (fx.wd (Int.le_refl _) (Int.le_refl _) (by omega))
      · replace h57 : (m1 r 3) = 57 := h57
        have hs57 : s = 57 := by omega
        refine And.intro (show 0 < x by first | omega | (simp only [mS_iff, eq_self, Int.reduceEq, true_and, and_true, false_and, and_false, and_self, ↓reduceIte]; omega) | (simp only [mS_iff, eq_self, Int.reduceEq, true_and, and_true, false_and, and_false, and_self, ↓reduceIte] at *; omega)) ?_
        refine And.intro (fun h => absurd h (show ¬ (m1 x (-1) = 5) by omega)) (fun _ => And.intro (by first | omega | (simp only [mS_iff, eq_self, Int.reduceEq, true_and, and_true, false_and, and_false, and_self, ↓reduceIte]; omega) | (simp only [mS_iff, eq_self, Int.reduceEq, true_and, and_true, false_and, and_false, and_self, ↓reduceIte] at *; omega)) ?_)
        refine And.intro (by first | omega | (simp only [mS_iff, eq_self, Int.reduceEq, true_and, and_true, false_and, and_false, and_self, ↓reduceIte]; omega) | (simp only [mS_iff, eq_self, Int.reduceEq, true_and, and_true, false_and, and_false, and_self, ↓reduceIte] at *; omega)) ?_
        generalize h64 : mX m1 63 3 1000 = mw63
        have fx := (fe.X (t := 63) (k := 3) (by omega) (by omega))
        rw [h64] at fx
        exact hX2 ((d_bd_r e).trans (by rw [hs57, d_c1_57]; rw [if_neg (by omega)])) _ _ (fx.wd (Int.le_refl _) (Int.le_refl _) (by omega))
      · replace h57 : (m1 r 3) = 58 := h57
        have hs58 : s = 58 := by omega
        refine And.intro (show 0 < x by first | omega | (simp only [mS_iff, eq_self, Int.reduceEq, true_and, and_true, false_and, and_false, and_self, ↓reduceIte]; omega) | (simp only [mS_iff, eq_self, Int.reduceEq, true_and, and_true, false_and, and_false, and_self, ↓reduceIte] at *; omega)) ?_
        refine And.intro (fun h => absurd h (show ¬ (m1 x (-1) = 5) by omega)) (fun _ => And.intro (by first | omega | (simp only [mS_iff, eq_self, Int.reduceEq, true_and, and_true, false_and, and_false, and_self, ↓reduceIte]; omega) | (simp only [mS_iff, eq_self, Int.reduceEq, true_and, and_true, false_and, and_false, and_self, ↓reduceIte] at *; omega)) ?_)
        refine And.intro (by first | omega | (simp only [mS_iff, eq_self, Int.reduceEq, true_and, and_true, false_and, and_false, and_self, ↓reduceIte]; omega) | (simp only [mS_iff, eq_self, Int.reduceEq, true_and, and_true, false_and, and_false, and_self, ↓reduceIte] at *; omega)) ?_
        generalize h67 : mX m1 63 3 1000 = mw66
        have fx := (fe.X (t := 63) (k := 3) (by omega) (by omega))
        rw [h67] at fx
        exact hX2 ((d_bd_r e).trans (by rw [hs58, d_c1_58]; rw [if_neg (by omega)])) _ _ (fx.wd (Int.le_refl _) (Int.le_refl _) (by omega))
      · replace h57 : (m1 r 3) = 59 := h57
        have hs59 : s = 59 := by omega
        refine And.intro (show 0 < x by first | omega | (simp only [mS_iff, eq_self, Int.reduceEq, true_and, and_true, false_and, and_false, and_self, ↓reduceIte]; omega) | (simp only [mS_iff, eq_self, Int.reduceEq, true_and, and_true, false_and, and_false, and_self, ↓reduceIte] at *; omega)) ?_
        refine And.intro (fun _ => ?_) (fun h => absurd (show m1 x (-1) = 5 ∨ m1 x (-1) = 7 ∨ m1 x (-1) = 8 ∨ m1 x (-1) = 10 by omega) h)
        refine And.intro (by first | assumption | omega | (simp only [mS_iff, eq_self, Int.reduceEq, true_and, and_true, false_and, and_false, and_self, ↓reduceIte]; omega)) ?_
        rw [show am_dsp (Int.toNat 1001) (m1 x (-1)) = 7 by rw [ox]; rfl]
        refine am_in (k := 4) rfl (by omega) (fun d hd => ?_)
        refine am_go 400 [] (am_wpc_cm _ _ _) wf_7 ?_
        refine And.intro (show (m1 x (-1)) = 7 by first | assumption | omega | (simp only [mS_iff, eq_self, Int.reduceEq, true_and, and_true, false_and, and_false, and_self, ↓reduceIte]; omega) | (simp only [mS_iff, eq_self, Int.reduceEq, true_and, and_true, false_and, and_false, and_self, ↓reduceIte] at *; omega)) ?_
        by_cases on : m1 x 1 = 0
        · have o9 := (o1.1 on)
          refine am_in (k := 3) rfl (by omega) (fun d hd => ?_)
          refine am_go 400 [] (am_wpc_cm _ _ _) wf_173 ?_
          refine And.intro (fun h => absurd (on) h) (fun _ => ?_)
          refine And.intro (by first | omega | (simp only [mS_iff, eq_self, Int.reduceEq, true_and, and_true, false_and, and_false, and_self, ↓reduceIte]; omega) | (simp only [mS_iff, eq_self, Int.reduceEq, true_and, and_true, false_and, and_false, and_self, ↓reduceIte] at *; omega)) ?_
          generalize h70 : mX m1 62 1 1000 = mw69
          have fx := (fe.X (t := 62) (k := 1) (by omega) (by omega))
          rw [h70] at fx
          exact hX1 ((d_bd_r e).trans (by rw [hs59, d_c1_59]; rw [if_neg (by omega), if_pos t0]; unfold d_my; rw [if_pos (by omega)])) _ _ (fx.wd (Int.le_refl _) (Int.le_refl _) (by omega))
        · have oo := o1.2 on
          refine am_in (k := 3) rfl (by omega) (fun d hd => ?_)
          refine am_go 400 [] (am_wpc_cm _ _ _) wf_173 ?_
          refine And.intro (fun _ => ?_) (fun h => absurd h (on))
          refine And.intro (show m1 (m1 x 1) (-1) = 5 ∨ m1 (m1 x 1) (-1) = 7 ∨ m1 (m1 x 1) (-1) = 8 ∨ m1 (m1 x 1) (-1) = 10 by have := oo.2.1; omega) ?_
          rw [show am_dsp (Int.toNat 1001) (m1 (m1 x 1) (-1)) = 8 by rw [oo.2.1]; rfl]
          refine ct_8o (by omega) (by omega) oo.2.1 oo.2.2.2.2.1 (by have := oo.2.2.1; unfold okOrd at this; omega) oo.2.2.2.2.2 (by omega) ?_
          have tb := oo.2.2.2.2.2
          have wb := oo.2.2.1
          unfold okOrd at wb
          obtain ⟨mt, et⟩ : ∃ z, z = mS m1 (m1 (m1 x 1) 3) 0 (w (6 + 10 * v + 3)) := ⟨_, rfl⟩
          rw [← et]
          have fe : fr_E lo hi alo ahi (pc - 1) m mt := by rw [et]; exact fe.put2 ⟨tb.1, tb.2.1⟩ tb.2.2 (by omega)
          have tv : mt (m1 (m1 x 1) 3) 0 = (w (6 + 10 * v + 3)) := by rw [et, mS_iff, if_pos ⟨rfl, rfl⟩]
          have tt : mt (m1 (m1 x 1) 3) (-1) = 6 := by rw [et, mS_iff, if_neg (by omega)]; exact tb.2.2
          have hz := hb.keep (kp fe)
          have z0 := hz.1
          have z1 := hz.2.1
          have z2 := hz.2.2.1
          have z3 := hz.2.2.2.1
          have z5 := hz.2.2.2.2.1
          have z6 := hz.2.2.2.2.2
          have q1 : mt r (-1) = 13 := by rw [(kp fe r z0.1 z0.2).1]; exact tg
          have f1 := fe.1
          have f2 := fe.2.1
          refine And.intro (fun _ => And.intro (tt) ?_) (fun h => absurd h (by have := tb.1; omega))
          refine And.intro (by first | assumption | omega | (simp only [mS_iff, eq_self, Int.reduceEq, true_and, and_true, false_and, and_false, and_self, ↓reduceIte]; omega)) ?_
          refine ct_324 (by omega) z1 (by omega) ⟨by omega, z6⟩ ?_
          exact hQ 0 (mt (m1 (m1 x 1) 3) 0) ((d_bd_r e).trans (by rw [hs59, d_c1_59]; rw [if_neg (by omega), if_pos t0, tv]; unfold d_my; rw [if_neg (by omega)])) _ _ ((fe.put z5 z6 (by omega)).wd (Int.le_refl _) (Int.le_refl _) (by omega)) (Or.inl ⟨rfl, z5, by rw [mS_iff, if_neg (by omega)]; exact z6, by rw [mS_iff, if_pos ⟨rfl, rfl⟩]⟩)
      · replace h57 : (m1 r 3) = 60 := h57
        have hs60 : s = 60 := by omega
        refine And.intro (show 0 < x by first | omega | (simp only [mS_iff, eq_self, Int.reduceEq, true_and, and_true, false_and, and_false, and_self, ↓reduceIte]; omega) | (simp only [mS_iff, eq_self, Int.reduceEq, true_and, and_true, false_and, and_false, and_self, ↓reduceIte] at *; omega)) ?_
        refine And.intro (fun h => absurd h (show ¬ (m1 x (-1) = 10) by omega)) (fun _ => And.intro (by first | omega | (simp only [mS_iff, eq_self, Int.reduceEq, true_and, and_true, false_and, and_false, and_self, ↓reduceIte]; omega) | (simp only [mS_iff, eq_self, Int.reduceEq, true_and, and_true, false_and, and_false, and_self, ↓reduceIte] at *; omega)) ?_)
        refine And.intro (by first | omega | (simp only [mS_iff, eq_self, Int.reduceEq, true_and, and_true, false_and, and_false, and_self, ↓reduceIte]; omega) | (simp only [mS_iff, eq_self, Int.reduceEq, true_and, and_true, false_and, and_false, and_self, ↓reduceIte] at *; omega)) ?_
        generalize h73 : mX m1 63 3 1000 = mw72
        have fx := (fe.X (t := 63) (k := 3) (by omega) (by omega))
        rw [h73] at fx
        exact hX2 ((d_bd_r e).trans (by rw [hs60, d_c1_60]; rw [if_neg (by omega)])) _ _ (fx.wd (Int.le_refl _) (Int.le_refl _) (by omega))
      · replace h57 : (m1 r 3) = 61 := h57
        have hs61 : s = 61 := by omega
        refine And.intro (show 0 < x by first | omega | (simp only [mS_iff, eq_self, Int.reduceEq, true_and, and_true, false_and, and_false, and_self, ↓reduceIte]; omega) | (simp only [mS_iff, eq_self, Int.reduceEq, true_and, and_true, false_and, and_false, and_self, ↓reduceIte] at *; omega)) ?_
        refine And.intro (fun h => absurd h (show ¬ (m1 x (-1) = 10) by omega)) (fun _ => And.intro (by first | omega | (simp only [mS_iff, eq_self, Int.reduceEq, true_and, and_true, false_and, and_false, and_self, ↓reduceIte]; omega) | (simp only [mS_iff, eq_self, Int.reduceEq, true_and, and_true, false_and, and_false, and_self, ↓reduceIte] at *; omega)) ?_)
        refine And.intro (by first | omega | (simp only [mS_iff, eq_self, Int.reduceEq, true_and, and_true, false_and, and_false, and_self, ↓reduceIte]; omega) | (simp only [mS_iff, eq_self, Int.reduceEq, true_and, and_true, false_and, and_false, and_self, ↓reduceIte] at *; omega)) ?_
        generalize h76 : mX m1 63 3 1000 = mw75
        have fx := (fe.X (t := 63) (k := 3) (by omega) (by omega))
        rw [h76] at fx
        exact hX2 ((d_bd_r e).trans (by rw [hs61, d_c1_61]; rw [if_neg (by omega)])) _ _ (fx.wd (Int.le_refl _) (Int.le_refl _) (by omega))
      · replace h57 : (m1 r 3) = 62 := h57
        have hs62 : s = 62 := by omega
        refine And.intro (show 0 < x by first | omega | (simp only [mS_iff, eq_self, Int.reduceEq, true_and, and_true, false_and, and_false, and_self, ↓reduceIte]; omega) | (simp only [mS_iff, eq_self, Int.reduceEq, true_and, and_true, false_and, and_false, and_self, ↓reduceIte] at *; omega)) ?_
        refine And.intro (fun _ => ?_) (fun h => absurd (ox) h)
        refine And.intro (show (m1 x (-1)) = 7 by first | assumption | omega | (simp only [mS_iff, eq_self, Int.reduceEq, true_and, and_true, false_and, and_false, and_self, ↓reduceIte]; omega) | (simp only [mS_iff, eq_self, Int.reduceEq, true_and, and_true, false_and, and_false, and_self, ↓reduceIte] at *; omega)) ?_
        refine And.intro (fun h78 => ?_) (fun h78 => ?_)
        · refine And.intro ((o1.2 (by assumption)).2.1) ?_
          have oo := o1.2 (by assumption)
          refine And.intro (by first | assumption | omega | (simp only [mS_iff, eq_self, Int.reduceEq, true_and, and_true, false_and, and_false, and_self, ↓reduceIte]; omega)) ?_
          refine ct_324 (by omega) z1 (by omega) ⟨by omega, z6⟩ ?_
          exact hQ 0 (m1 (m1 x 1) 0) ((d_bd_r e).trans (by rw [hs62, d_c1_62]; rw [if_pos t0, oo.2.2.2.1]; unfold d_my; rw [if_neg (by have := oo.2.2.1.1; omega)])) _ _ ((fe.put z5 z6 (by omega)).wd (Int.le_refl _) (Int.le_refl _) (by omega)) (Or.inl ⟨rfl, z5, by rw [mS_iff, if_neg (by omega)]; exact z6, by rw [mS_iff, if_pos ⟨rfl, rfl⟩]⟩)
        · refine And.intro (by first | omega | (simp only [mS_iff, eq_self, Int.reduceEq, true_and, and_true, false_and, and_false, and_self, ↓reduceIte]; omega) | (simp only [mS_iff, eq_self, Int.reduceEq, true_and, and_true, false_and, and_false, and_self, ↓reduceIte] at *; omega)) ?_
          generalize h80 : mX m1 62 1 1000 = mw79
          have fx := (fe.X (t := 62) (k := 1) (by omega) (by omega))
          rw [h80] at fx
          exact hX1 ((d_bd_r e).trans (by rw [hs62, d_c1_62]; rw [if_pos t0]; unfold d_my; rw [if_pos (by omega)])) _ _ (fx.wd (Int.le_refl _) (Int.le_refl _) (by omega))
      · replace h57 : (m1 r 3) = 63 := h57
        have hs63 : s = 63 := by omega
        refine And.intro (by first | assumption | omega | (simp only [mS_iff, eq_self, Int.reduceEq, true_and, and_true, false_and, and_false, and_self, ↓reduceIte]; omega)) ?_
        refine ct_325 (by omega) xb (by omega) (fun h => absurd h (by omega)) (fun _ => And.intro (by omega) ?_)
        · exact hX2 ((d_bd_r e).trans (by rw [hs63, d_c1_63]; rw [if_neg (by omega)])) _ _ ((fe.X (by omega) (by omega)).wd (Int.le_refl _) (Int.le_refl _) (by omega))
      · replace h57 : (m1 r 3) = 145 := h57
        have hs145 : s = 145 := by omega
        refine And.intro (by first | assumption | omega | (simp only [mS_iff, eq_self, Int.reduceEq, true_and, and_true, false_and, and_false, and_self, ↓reduceIte]; omega)) ?_
        refine ct_325 (by omega) xb (by omega) (fun h => absurd h (by omega)) (fun _ => And.intro (by omega) ?_)
        · exact hX2 ((d_bd_r e).trans (by rw [hs145, d_c1_145]; rw [if_neg (by omega)])) _ _ ((fe.X (by omega) (by omega)).wd (Int.le_refl _) (Int.le_refl _) (by omega))
      · simp only [am_none] at h57
        have hs64 : s = 64 := by omega
        refine And.intro (show 0 < x by first | omega | (simp only [mS_iff, eq_self, Int.reduceEq, true_and, and_true, false_and, and_false, and_self, ↓reduceIte]; omega) | (simp only [mS_iff, eq_self, Int.reduceEq, true_and, and_true, false_and, and_false, and_self, ↓reduceIte] at *; omega)) ?_
        refine And.intro (fun _ => ?_) (fun h => absurd (ox) h)
        refine And.intro (by first | assumption | omega | (simp only [mS_iff, eq_self, Int.reduceEq, true_and, and_true, false_and, and_false, and_self, ↓reduceIte]; omega)) ?_
        refine am_in (k := 1) rfl (by omega) (fun d hd => ?_)
        refine am_go 400 [] (am_wpc_cm _ _ _) wf_331 ?_
        refine And.intro (show (m1 x (-1)) = 7 by first | assumption | omega | (simp only [mS_iff, eq_self, Int.reduceEq, true_and, and_true, false_and, and_false, and_self, ↓reduceIte]; omega) | (simp only [mS_iff, eq_self, Int.reduceEq, true_and, and_true, false_and, and_false, and_self, ↓reduceIte] at *; omega)) ?_
        refine And.intro (fun h82 => ?_) (fun h82 => ?_)
        · refine And.intro (fun h => absurd (rfl) h) (fun _ => ?_)
          refine And.intro (by first | omega | (simp only [mS_iff, eq_self, Int.reduceEq, true_and, and_true, false_and, and_false, and_self, ↓reduceIte]; omega) | (simp only [mS_iff, eq_self, Int.reduceEq, true_and, and_true, false_and, and_false, and_self, ↓reduceIte] at *; omega)) ?_
          generalize h84 : mX m1 62 1 1000 = mw83
          have fx := (fe.X (t := 62) (k := 1) (by omega) (by omega))
          rw [h84] at fx
          exact hX1 ((d_bd_r e).trans (by rw [hs64, d_c1_64]; rw [if_pos t0, if_neg (by omega)]; unfold d_my; rw [if_pos rfl])) _ _ (fx.wd (Int.le_refl _) (Int.le_refl _) (by omega))
        · refine And.intro (fun _ => And.intro (ox) ?_) (fun h => absurd h (by omega))
          refine And.intro (by first | assumption | omega | (simp only [mS_iff, eq_self, Int.reduceEq, true_and, and_true, false_and, and_false, and_self, ↓reduceIte]; omega)) ?_
          refine ct_324 (by omega) z1 (by omega) ⟨by omega, z6⟩ ?_
          exact hQ 0 (m1 x 4) ((d_bd_r e).trans (by rw [hs64, d_c1_64]; rw [if_pos t0, if_pos (by omega), o4]; unfold d_my; rw [if_neg (by omega)])) _ _ ((fe.put z5 z6 (by omega)).wd (Int.le_refl _) (Int.le_refl _) (by omega)) (Or.inl ⟨rfl, z5, by rw [mS_iff, if_neg (by omega)]; exact z6, by rw [mS_iff, if_pos ⟨rfl, rfl⟩]⟩)
    · have hy := hA1.lay vb.1 vb.2
      have hg := hG3 hy (by rw [← xe]; exact xn)
      rw [← xe] at hg
      have ox : m1 x (-1) = 10 := hg.2.1
      have xb : 0 < x := by have := hg.1; omega
      have o0 := hg.2.2.2.1
      have o1 := hg.2.2.2.2.1
      have o3 := hg.2.2.2.2.2.1
      refine And.intro (show (m1 r (-1)) = 13 by first | assumption | omega | (simp only [mS_iff, eq_self, Int.reduceEq, true_and, and_true, false_and, and_false, and_self, ↓reduceIte]; omega) | (simp only [mS_iff, eq_self, Int.reduceEq, true_and, and_true, false_and, and_false, and_self, ↓reduceIte] at *; omega)) ?_
      refine And.intro (And.intro (fun h85 => ?_) (And.intro (fun h85 => ?_) (And.intro (fun h85 => ?_) (And.intro (fun h85 => ?_) (And.intro (fun h85 => ?_) (And.intro (fun h85 => ?_) (And.intro (fun h85 => ?_) (And.intro (fun h85 => ?_) (And.intro (fun h85 => ?_) (And.intro (fun h85 => ?_) (And.intro (fun h85 => ?_) (True.intro)))))))))))) (fun h85 => ?_)
      · replace h85 : (m1 r 3) = 51 := h85
        have hs51 : s = 51 := by omega
        refine And.intro (by first | assumption | omega | (simp only [mS_iff, eq_self, Int.reduceEq, true_and, and_true, false_and, and_false, and_self, ↓reduceIte]; omega)) ?_
        refine ct_325 (by omega) xb (by omega) (fun h => absurd h (by omega)) (fun _ => And.intro (by omega) ?_)
        · exact hX2 ((d_bd_r e).trans (by rw [hs51, d_c1_51]; rw [if_neg (by omega)])) _ _ ((fe.X (by omega) (by omega)).wd (Int.le_refl _) (Int.le_refl _) (by omega))
      · replace h85 : (m1 r 3) = 55 := h85
        have hs55 : s = 55 := by omega
        refine And.intro (hB.2.2.2.2.1) ?_
        refine And.intro (by first | assumption | omega | (simp only [mS_iff, eq_self, Int.reduceEq, true_and, and_true, false_and, and_false, and_self, ↓reduceIte]; omega)) ?_
        refine ct_325 (by omega) xb (by omega) (fun h => absurd h (by omega)) (fun _ => And.intro (by omega) ?_)
        · exact hX2 ((d_bd_r e).trans (by rw [hs55, d_c1_55]; rw [if_neg (by omega)])) _ _ ((fe.X (by omega) (by omega)).wd (Int.le_refl _) (Int.le_refl _) (by omega))
      · replace h85 : (m1 r 3) = 56 := h85
        have hs56 : s = 56 := by omega
        refine And.intro (show 0 < x by first | omega | (simp only [mS_iff, eq_self, Int.reduceEq, true_and, and_true, false_and, and_false, and_self, ↓reduceIte]; omega) | (simp only [mS_iff, eq_self, Int.reduceEq, true_and, and_true, false_and, and_false, and_self, ↓reduceIte] at *; omega)) ?_
        refine And.intro (fun h => absurd h (show ¬ (m1 x (-1) = 7) by omega)) (fun _ => And.intro (by omega) ?_)
        refine And.intro (by first | omega | (simp only [mS_iff, eq_self, Int.reduceEq, true_and, and_true, false_and, and_false, and_self, ↓reduceIte]; omega) | (simp only [mS_iff, eq_self, Int.reduceEq, true_and, and_true, false_and, and_false, and_self, ↓reduceIte] at *; omega)) ?_
        generalize h88 : mX m1 63 3 1000 = mw87
        have fx := (fe.X (t := 63) (k := 3) (by omega) (by omega))
        rw [h88] at fx
        exact hX2 ((d_bd_r e).trans (by rw [hs56, d_c1_56]; rw [if_neg (by omega)])) _ _ (fx.wd (Int.le_refl _) (Int.le_refl _) (by omega))
      · replace h85 : (m1 r 3) = 57 := h85
        have hs57 : s = 57 := by omega
        refine And.intro (show 0 < x by first | omega | (simp only [mS_iff, eq_self, Int.reduceEq, true_and, and_true, false_and, and_false, and_self, ↓reduceIte]; omega) | (simp only [mS_iff, eq_self, Int.reduceEq, true_and, and_true, false_and, and_false, and_self, ↓reduceIte] at *; omega)) ?_
        refine And.intro (fun h => absurd h (show ¬ (m1 x (-1) = 5) by omega)) (fun _ => And.intro (by first | omega | (simp only [mS_iff, eq_self, Int.reduceEq, true_and, and_true, false_and, and_false, and_self, ↓reduceIte]; omega) | (simp only [mS_iff, eq_self, Int.reduceEq, true_and, and_true, false_and, and_false, and_self, ↓reduceIte] at *; omega)) ?_)
        refine And.intro (by first | omega | (simp only [mS_iff, eq_self, Int.reduceEq, true_and, and_true, false_and, and_false, and_self, ↓reduceIte]; omega) | (simp only [mS_iff, eq_self, Int.reduceEq, true_and, and_true, false_and, and_false, and_self, ↓reduceIte] at *; omega)) ?_
        generalize h91 : mX m1 63 3 1000 = mw90
        have fx := (fe.X (t := 63) (k := 3) (by omega) (by omega))
        rw [h91] at fx
        exact hX2 ((d_bd_r e).trans (by rw [hs57, d_c1_57]; rw [if_neg (by omega)])) _ _ (fx.wd (Int.le_refl _) (Int.le_refl _) (by omega))
      · replace h85 : (m1 r 3) = 58 := h85
        have hs58 : s = 58 := by omega
        refine And.intro (show 0 < x by first | omega | (simp only [mS_iff, eq_self, Int.reduceEq, true_and, and_true, false_and, and_false, and_self, ↓reduceIte]; omega) | (simp only [mS_iff, eq_self, Int.reduceEq, true_and, and_true, false_and, and_false, and_self, ↓reduceIte] at *; omega)) ?_
        refine And.intro (fun h => absurd h (show ¬ (m1 x (-1) = 5) by omega)) (fun _ => And.intro (by first | omega | (simp only [mS_iff, eq_self, Int.reduceEq, true_and, and_true, false_and, and_false, and_self, ↓reduceIte]; omega) | (simp only [mS_iff, eq_self, Int.reduceEq, true_and, and_true, false_and, and_false, and_self, ↓reduceIte] at *; omega)) ?_)
        refine And.intro (by first | omega | (simp only [mS_iff, eq_self, Int.reduceEq, true_and, and_true, false_and, and_false, and_self, ↓reduceIte]; omega) | (simp only [mS_iff, eq_self, Int.reduceEq, true_and, and_true, false_and, and_false, and_self, ↓reduceIte] at *; omega)) ?_
        generalize h94 : mX m1 63 3 1000 = mw93
        have fx := (fe.X (t := 63) (k := 3) (by omega) (by omega))
        rw [h94] at fx
        exact hX2 ((d_bd_r e).trans (by rw [hs58, d_c1_58]; rw [if_neg (by omega)])) _ _ (fx.wd (Int.le_refl _) (Int.le_refl _) (by omega))
      · replace h85 : (m1 r 3) = 59 := h85
        have hs59 : s = 59 := by omega
        refine And.intro (show 0 < x by first | omega | (simp only [mS_iff, eq_self, Int.reduceEq, true_and, and_true, false_and, and_false, and_self, ↓reduceIte]; omega) | (simp only [mS_iff, eq_self, Int.reduceEq, true_and, and_true, false_and, and_false, and_self, ↓reduceIte] at *; omega)) ?_
        refine And.intro (fun _ => ?_) (fun h => absurd (show m1 x (-1) = 5 ∨ m1 x (-1) = 7 ∨ m1 x (-1) = 8 ∨ m1 x (-1) = 10 by omega) h)
        refine And.intro (by first | assumption | omega | (simp only [mS_iff, eq_self, Int.reduceEq, true_and, and_true, false_and, and_false, and_self, ↓reduceIte]; omega)) ?_
        rw [show am_dsp (Int.toNat 1001) (m1 x (-1)) = 8 by rw [ox]; rfl]
        refine ct_8g (by omega) (by omega) ox o3 (by have := hg.2.2.1; unfold okGrp at this; omega) hg.2.2.2.2.2.2 (by omega) ?_
        have tb := hg.2.2.2.2.2.2
        have wb := hg.2.2.1
        unfold okGrp at wb
        obtain ⟨mt, et⟩ : ∃ z, z = mS m1 (m1 x 4) 0 (w (6 + 10 * v + 8)) := ⟨_, rfl⟩
        rw [← et]
        have fe : fr_E lo hi alo ahi (pc - 1) m mt := by rw [et]; exact fe.put2 ⟨tb.1, tb.2.1⟩ tb.2.2 (by omega)
        have tv : mt (m1 x 4) 0 = (w (6 + 10 * v + 8)) := by rw [et, mS_iff, if_pos ⟨rfl, rfl⟩]
        have tt : mt (m1 x 4) (-1) = 6 := by rw [et, mS_iff, if_neg (by omega)]; exact tb.2.2
        have hz := hb.keep (kp fe)
        have z0 := hz.1
        have z1 := hz.2.1
        have z2 := hz.2.2.1
        have z3 := hz.2.2.2.1
        have z5 := hz.2.2.2.2.1
        have z6 := hz.2.2.2.2.2
        have q1 : mt r (-1) = 13 := by rw [(kp fe r z0.1 z0.2).1]; exact tg
        have f1 := fe.1
        have f2 := fe.2.1
        refine And.intro (fun _ => And.intro (tt) ?_) (fun h => absurd h (by have := tb.1; omega))
        refine And.intro (by first | assumption | omega | (simp only [mS_iff, eq_self, Int.reduceEq, true_and, and_true, false_and, and_false, and_self, ↓reduceIte]; omega)) ?_
        refine ct_324 (by omega) z1 (by omega) ⟨by omega, z6⟩ ?_
        exact hQ 0 (mt (m1 x 4) 0) ((d_bd_r e).trans (by rw [hs59, d_c1_59]; rw [if_neg (by omega), if_neg (by omega), if_pos t0, tv]; unfold d_my; rw [if_neg (by omega)])) _ _ ((fe.put z5 z6 (by omega)).wd (Int.le_refl _) (Int.le_refl _) (by omega)) (Or.inl ⟨rfl, z5, by rw [mS_iff, if_neg (by omega)]; exact z6, by rw [mS_iff, if_pos ⟨rfl, rfl⟩]⟩)
      · replace h85 : (m1 r 3) = 60 := h85
        have hs60 : s = 60 := by omega
        refine And.intro (show 0 < x by first | omega | (simp only [mS_iff, eq_self, Int.reduceEq, true_and, and_true, false_and, and_false, and_self, ↓reduceIte]; omega) | (simp only [mS_iff, eq_self, Int.reduceEq, true_and, and_true, false_and, and_false, and_self, ↓reduceIte] at *; omega)) ?_
        refine And.intro (fun _ => ?_) (fun h => absurd (ox) h)
        refine And.intro (show (m1 x (-1)) = 10 by first | assumption | omega | (simp only [mS_iff, eq_self, Int.reduceEq, true_and, and_true, false_and, and_false, and_self, ↓reduceIte]; omega) | (simp only [mS_iff, eq_self, Int.reduceEq, true_and, and_true, false_and, and_false, and_self, ↓reduceIte] at *; omega)) ?_
        refine And.intro (by first | assumption | omega | (simp only [mS_iff, eq_self, Int.reduceEq, true_and, and_true, false_and, and_false, and_self, ↓reduceIte]; omega)) ?_
        refine ct_324 (by omega) z1 (by omega) ⟨by omega, z6⟩ ?_
        exact hQ 0 (m1 x 0) ((d_bd_r e).trans (by rw [hs60, d_c1_60]; rw [if_pos t0, o0])) _ _ ((fe.put z5 z6 (by omega)).wd (Int.le_refl _) (Int.le_refl _) (by omega)) (Or.inl ⟨rfl, z5, by rw [mS_iff, if_neg (by omega)]; exact z6, by rw [mS_iff, if_pos ⟨rfl, rfl⟩]⟩)
      · replace h85 : (m1 r 3) = 61 := h85
        have hs61 : s = 61 := by omega
        refine And.intro (show 0 < x by first | omega | (simp only [mS_iff, eq_self, Int.reduceEq, true_and, and_true, false_and, and_false, and_self, ↓reduceIte]; omega) | (simp only [mS_iff, eq_self, Int.reduceEq, true_and, and_true, false_and, and_false, and_self, ↓reduceIte] at *; omega)) ?_
        refine And.intro (fun _ => ?_) (fun h => absurd (ox) h)
        refine And.intro (show (m1 x (-1)) = 10 by first | assumption | omega | (simp only [mS_iff, eq_self, Int.reduceEq, true_and, and_true, false_and, and_false, and_self, ↓reduceIte]; omega) | (simp only [mS_iff, eq_self, Int.reduceEq, true_and, and_true, false_and, and_false, and_self, ↓reduceIte] at *; omega)) ?_
        refine And.intro (by first | assumption | omega | (simp only [mS_iff, eq_self, Int.reduceEq, true_and, and_true, false_and, and_false, and_self, ↓reduceIte]; omega)) ?_
        refine ct_324 (by omega) z1 (by omega) ⟨by omega, z6⟩ ?_
        exact hQ 0 (m1 x 1) ((d_bd_r e).trans (by rw [hs61, d_c1_61]; rw [if_pos t0, o1])) _ _ ((fe.put z5 z6 (by omega)).wd (Int.le_refl _) (Int.le_refl _) (by omega)) (Or.inl ⟨rfl, z5, by rw [mS_iff, if_neg (by omega)]; exact z6, by rw [mS_iff, if_pos ⟨rfl, rfl⟩]⟩)
      · replace h85 : (m1 r 3) = 62 := h85
        have hs62 : s = 62 := by omega
        refine And.intro (show 0 < x by first | omega | (simp only [mS_iff, eq_self, Int.reduceEq, true_and, and_true, false_and, and_false, and_self, ↓reduceIte]; omega) | (simp only [mS_iff, eq_self, Int.reduceEq, true_and, and_true, false_and, and_false, and_self, ↓reduceIte] at *; omega)) ?_
        refine And.intro (fun h => absurd h (show ¬ (m1 x (-1) = 7) by omega)) (fun _ => And.intro (by first | omega | (simp only [mS_iff, eq_self, Int.reduceEq, true_and, and_true, false_and, and_false, and_self, ↓reduceIte]; omega) | (simp only [mS_iff, eq_self, Int.reduceEq, true_and, and_true, false_and, and_false, and_self, ↓reduceIte] at *; omega)) ?_)
        refine And.intro (by first | omega | (simp only [mS_iff, eq_self, Int.reduceEq, true_and, and_true, false_and, and_false, and_self, ↓reduceIte]; omega) | (simp only [mS_iff, eq_self, Int.reduceEq, true_and, and_true, false_and, and_false, and_self, ↓reduceIte] at *; omega)) ?_
        generalize h100 : mX m1 63 3 1000 = mw99
        have fx := (fe.X (t := 63) (k := 3) (by omega) (by omega))
        rw [h100] at fx
        exact hX2 ((d_bd_r e).trans (by rw [hs62, d_c1_62]; rw [if_neg (by omega)])) _ _ (fx.wd (Int.le_refl _) (Int.le_refl _) (by omega))
      · replace h85 : (m1 r 3) = 63 := h85
        have hs63 : s = 63 := by omega
        refine And.intro (by first | assumption | omega | (simp only [mS_iff, eq_self, Int.reduceEq, true_and, and_true, false_and, and_false, and_self, ↓reduceIte]; omega)) ?_
        refine ct_325 (by omega) xb (by omega) (fun h => absurd h (by omega)) (fun _ => And.intro (by omega) ?_)
        · exact hX2 ((d_bd_r e).trans (by rw [hs63, d_c1_63]; rw [if_neg (by omega)])) _ _ ((fe.X (by omega) (by omega)).wd (Int.le_refl _) (Int.le_refl _) (by omega))
      · replace h85 : (m1 r 3) = 145 := h85
        have hs145 : s = 145 := by omega
        refine And.intro (by first | assumption | omega | (simp only [mS_iff, eq_self, Int.reduceEq, true_and, and_true, false_and, and_false, and_self, ↓reduceIte]; omega)) ?_
        refine ct_325 (by omega) xb (by omega) (fun h => absurd h (by omega)) (fun _ => And.intro (by omega) ?_)
        · exact hX2 ((d_bd_r e).trans (by rw [hs145, d_c1_145]; rw [if_neg (by omega)])) _ _ ((fe.X (by omega) (by omega)).wd (Int.le_refl _) (Int.le_refl _) (by omega))
      · simp only [am_none] at h85
        have hs64 : s = 64 := by omega
        refine And.intro (show 0 < x by first | omega | (simp only [mS_iff, eq_self, Int.reduceEq, true_and, and_true, false_and, and_false, and_self, ↓reduceIte]; omega) | (simp only [mS_iff, eq_self, Int.reduceEq, true_and, and_true, false_and, and_false, and_self, ↓reduceIte] at *; omega)) ?_
        refine And.intro (fun h => absurd h (show ¬ (m1 x (-1) = 7) by omega)) (fun _ => And.intro (by first | omega | (simp only [mS_iff, eq_self, Int.reduceEq, true_and, and_true, false_and, and_false, and_self, ↓reduceIte]; omega) | (simp only [mS_iff, eq_self, Int.reduceEq, true_and, and_true, false_and, and_false, and_self, ↓reduceIte] at *; omega)) ?_)
        refine And.intro (by first | omega | (simp only [mS_iff, eq_self, Int.reduceEq, true_and, and_true, false_and, and_false, and_self, ↓reduceIte]; omega) | (simp only [mS_iff, eq_self, Int.reduceEq, true_and, and_true, false_and, and_false, and_self, ↓reduceIte] at *; omega)) ?_
        generalize h103 : mX m1 63 3 1000 = mw102
        have fx := (fe.X (t := 63) (k := 3) (by omega) (by omega))
        rw [h103] at fx
        exact hX2 ((d_bd_r e).trans (by rw [hs64, d_c1_64]; rw [if_neg (by omega)])) _ _ (fx.wd (Int.le_refl _) (Int.le_refl _) (by omega))
  · exact hF c q (d_bd_l e) _ (fe1.wd hl.1 hl.2 (by omega)) e1 e2
