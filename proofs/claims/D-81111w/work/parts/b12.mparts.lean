/-! needs: b11 -/
/-! CONTRACTS: parts of clauses of the reference, kind by kind; by tools/genb12.py -/
set_option maxRecDepth 100000
set_option maxHeartbeats 8000000
theorem ct_303 {d : Nat} {m : aM} {Q : aO → aM → Prop} {a t s v fi : Int} {w : Int → Int} (hd : 4 ≤ d) (hf : 0 ≤ fi ∧ fi ≤ 9) (hA : mRow m a w) (ok : okRow w) (ab : m 41 61 = a) (h59 : m 41 59 = 0) (ht : 0 ≤ t ∧ t < 1260) (h57 : m 41 57 = s) (h58 : m 41 58 = v) (hv : okV w s v) (hQ : ∀ s' v', d_c1 w (m 74 t) (fi + 55) s v = .inr (s', v') → ∀ m', fr_Z m m' → m' 41 57 = s' → m' 41 58 = v' → m' 41 59 = 0 → Q (.inl none) m') (hQe : ∀ c q, d_c1 w (m 74 t) (fi + 55) s v = .inl (c, q) → ∀ m', fr_Z m m' → m' 41 59 = c → 1 ≤ c → m' 41 60 = q → Q (.inl none) m') : am_wpc am_G am_T d 303 [aR 41, aI t, aI fi] m Q := by
  have c : fi = 0 ∨ fi = 1 ∨ fi = 2 ∨ fi = 3 ∨ fi = 4 ∨ fi = 5 ∨ fi = 6 ∨ fi = 7 ∨ fi = 8 ∨ fi = 9 := by omega
  rcases c with rfl | rfl | rfl | rfl | rfl | rfl | rfl | rfl | rfl | rfl
  · exact ct_303_0 hd hA ok ab h59 ht h57 h58 hv hQ hQe
  · exact ct_303_1 hd hA ok ab h59 ht h57 h58 hv hQ hQe
  · exact ct_303_2 hd hA ok ab h59 ht h57 h58 hv hQ hQe
  · exact ct_303_3 hd hA ok ab h59 ht h57 h58 hv hQ hQe
  · exact ct_303_4 hd hA ok ab h59 ht h57 h58 hv hQ hQe
  · exact ct_303_5 hd hA ok ab h59 ht h57 h58 hv hQ hQe
  · exact ct_303_6 hd hA ok ab h59 ht h57 h58 hv hQ hQe
  · exact ct_303_7 hd hA ok ab h59 ht h57 h58 hv hQ hQe
  · exact ct_303_8 hd hA ok ab h59 ht h57 h58 hv hQ hQe
  · exact ct_303_9 hd hA ok ab h59 ht h57 h58 hv hQ hQe
theorem ct_299f {d : Nat} {m : aM} {Q : aO → aM → Prop} {t : Int} (hd : 1 ≤ d) (hf : 0 < m 41 59) (hQ : Q (.inl none) m) : am_wpc am_G am_T d 299 [aR 41, aI t] m Q := by
  refine am_in rfl hd (fun d hd => ?_)
  refine am_go 400 [] (am_wpc_cm _ _ _) wf_299 ?_
  refine And.intro (rfl) ?_
  refine And.intro (fun h => absurd h (by omega)) (fun _ => ?_)
  exact hQ
theorem mSy_num {m : aM} {lo hi t a v : Int} (h71 : m 71 t = 0) (h74 : m 74 t = a) (ht : 0 ≤ t ∧ t < 1260) (h72 : m 72 t = v) : mSy m t (d_num v) 1 := by
  intro d Q a0 w hd hA ok ab h59 hQ hQe
  obtain ⟨k, hk⟩ : ∃ k, d = k + 1 := ⟨d - 1, by omega⟩
  have fz := fr_Z.rfl m
  refine am_in (k := k) rfl (by omega) (fun d hd => ?_)
  have ab0 := ab
  have hA0 := hA
  have p74 := h74
  have p71 := h71
  refine am_go 400 [] (am_wpc_cm _ _ _) wf_299 ?_
  refine And.intro (rfl) ?_
  refine And.intro (fun _ => ?_) (fun h => absurd h (by omega))
  refine And.intro (rfl) ?_
  refine And.intro (⟨rfl, ht⟩) ?_
  refine And.intro (fun _ => ?_) (fun h => absurd h (by omega))
  refine And.intro rfl ?_
  refine And.intro (And.intro (fun h1 => ?_) (And.intro (fun h1 => absurd h1 (by omega)) (And.intro (fun h1 => absurd h1 (by omega)) (And.intro (fun h1 => absurd h1 (by omega)) (And.intro (fun h1 => absurd h1 (by omega)) (And.intro (fun h1 => absurd h1 (by omega)) (And.intro (fun h1 => absurd h1 (by omega)) (And.intro (fun h1 => absurd h1 (by omega)) (And.intro (fun h1 => absurd h1 (by omega)) (True.intro)))))))))) (fun h1 => absurd h1 (by omega))
  · replace h1 : (m 71 t) = 0 := h1
    refine And.intro (rfl) ?_
    refine And.intro (⟨rfl, ht⟩) ?_
    refine And.intro (rfl) ?_
    refine am_in (k := 0) rfl (by omega) (fun d hd => ?_)
    refine am_go 400 [] (am_wpc_cm _ _ _) wf_301 ?_
    refine And.intro (rfl) ?_
    refine And.intro (rfl) ?_
    exact hQ 0 (m 72 t) (by rw [← h72]; rfl) _ ((fz.S (by omega)).S (by omega)) (by first | assumption | omega | (simp only [mS_iff, eq_self, Int.reduceEq, true_and, and_true, false_and, and_false, and_self, ↓reduceIte] <;> first | omega | assumption | done)) (by first | assumption | omega | (simp only [mS_iff, eq_self, Int.reduceEq, true_and, and_true, false_and, and_false, and_self, ↓reduceIte] <;> first | omega | assumption | done)) (by first | assumption | omega | (simp only [mS_iff, eq_self, Int.reduceEq, true_and, and_true, false_and, and_false, and_self, ↓reduceIte] <;> first | omega | assumption | done))
theorem mSy_pl1 {m : aM} {lo hi t a : Int} (h71 : m 71 t = 1) (h74 : m 74 t = a) (ht : 0 ≤ t ∧ t < 1260)  : mSy m t (d_pl 52) 1 := by
  intro d Q a0 w hd hA ok ab h59 hQ hQe
  obtain ⟨k, hk⟩ : ∃ k, d = k + 1 := ⟨d - 1, by omega⟩
  have fz := fr_Z.rfl m
  refine am_in (k := k) rfl (by omega) (fun d hd => ?_)
  have ab0 := ab
  have hA0 := hA
  have p74 := h74
  have p71 := h71
  refine am_go 400 [] (am_wpc_cm _ _ _) wf_299 ?_
  refine And.intro (rfl) ?_
  refine And.intro (fun _ => ?_) (fun h => absurd h (by omega))
  refine And.intro (rfl) ?_
  refine And.intro (⟨rfl, ht⟩) ?_
  refine And.intro (fun _ => ?_) (fun h => absurd h (by omega))
  refine And.intro rfl ?_
  refine And.intro (And.intro (fun h1 => absurd h1 (by omega)) (And.intro (fun h1 => ?_) (And.intro (fun h1 => absurd h1 (by omega)) (And.intro (fun h1 => absurd h1 (by omega)) (And.intro (fun h1 => absurd h1 (by omega)) (And.intro (fun h1 => absurd h1 (by omega)) (And.intro (fun h1 => absurd h1 (by omega)) (And.intro (fun h1 => absurd h1 (by omega)) (And.intro (fun h1 => absurd h1 (by omega)) (True.intro)))))))))) (fun h1 => absurd h1 (by omega))
  · replace h1 : (m 71 t) = 1 := h1
    refine And.intro (rfl) ?_
    refine And.intro (rfl) ?_
    exact hQ 1 0 (rfl) _ ((fz.S (by omega)).S (by omega)) (by first | assumption | omega | (simp only [mS_iff, eq_self, Int.reduceEq, true_and, and_true, false_and, and_false, and_self, ↓reduceIte] <;> first | omega | assumption | done)) (by first | assumption | omega | (simp only [mS_iff, eq_self, Int.reduceEq, true_and, and_true, false_and, and_false, and_self, ↓reduceIte] <;> first | omega | assumption | done)) (by first | assumption | omega | (simp only [mS_iff, eq_self, Int.reduceEq, true_and, and_true, false_and, and_false, and_self, ↓reduceIte] <;> first | omega | assumption | done))
theorem mSy_pl2 {m : aM} {lo hi t a : Int} (h71 : m 71 t = 2) (h74 : m 74 t = a) (ht : 0 ≤ t ∧ t < 1260)  : mSy m t (d_pl 53) 1 := by
  intro d Q a0 w hd hA ok ab h59 hQ hQe
  obtain ⟨k, hk⟩ : ∃ k, d = k + 1 := ⟨d - 1, by omega⟩
  have fz := fr_Z.rfl m
  refine am_in (k := k) rfl (by omega) (fun d hd => ?_)
  have ab0 := ab
  have hA0 := hA
  have p74 := h74
  have p71 := h71
  refine am_go 400 [] (am_wpc_cm _ _ _) wf_299 ?_
  refine And.intro (rfl) ?_
  refine And.intro (fun _ => ?_) (fun h => absurd h (by omega))
  refine And.intro (rfl) ?_
  refine And.intro (⟨rfl, ht⟩) ?_
  refine And.intro (fun _ => ?_) (fun h => absurd h (by omega))
  refine And.intro rfl ?_
  refine And.intro (And.intro (fun h1 => absurd h1 (by omega)) (And.intro (fun h1 => absurd h1 (by omega)) (And.intro (fun h1 => ?_) (And.intro (fun h1 => absurd h1 (by omega)) (And.intro (fun h1 => absurd h1 (by omega)) (And.intro (fun h1 => absurd h1 (by omega)) (And.intro (fun h1 => absurd h1 (by omega)) (And.intro (fun h1 => absurd h1 (by omega)) (And.intro (fun h1 => absurd h1 (by omega)) (True.intro)))))))))) (fun h1 => absurd h1 (by omega))
  · replace h1 : (m 71 t) = 2 := h1
    refine And.intro (rfl) ?_
    refine And.intro (rfl) ?_
    refine ct_186 (by omega) (by rw [ab]; exact hA) (by omega) (fun v2 h3 => ?_)
    have ev := h3
    refine And.intro (rfl) ?_
    refine am_in (k := 0) rfl (by omega) (fun d hd => ?_)
    refine am_go 400 [] (am_wpc_cm _ _ _) wf_301 ?_
    refine And.intro (rfl) ?_
    refine And.intro (rfl) ?_
    exact hQ 0 v2 (by rw [ev]; rfl) _ ((fz.S (by omega)).S (by omega)) (by first | assumption | omega | (simp only [mS_iff, eq_self, Int.reduceEq, true_and, and_true, false_and, and_false, and_self, ↓reduceIte] <;> first | omega | assumption | done)) (by first | assumption | omega | (simp only [mS_iff, eq_self, Int.reduceEq, true_and, and_true, false_and, and_false, and_self, ↓reduceIte] <;> first | omega | assumption | done)) (by first | assumption | omega | (simp only [mS_iff, eq_self, Int.reduceEq, true_and, and_true, false_and, and_false, and_self, ↓reduceIte] <;> first | omega | assumption | done))
theorem mSy_pl3 {m : aM} {lo hi t a : Int} (h71 : m 71 t = 3) (h74 : m 74 t = a) (ht : 0 ≤ t ∧ t < 1260)  : mSy m t (d_pl 54) 1 := by
  intro d Q a0 w hd hA ok ab h59 hQ hQe
  obtain ⟨k, hk⟩ : ∃ k, d = k + 1 := ⟨d - 1, by omega⟩
  have fz := fr_Z.rfl m
  refine am_in (k := k) rfl (by omega) (fun d hd => ?_)
  have ab0 := ab
  have hA0 := hA
  have p74 := h74
  have p71 := h71
  refine am_go 400 [] (am_wpc_cm _ _ _) wf_299 ?_
  refine And.intro (rfl) ?_
  refine And.intro (fun _ => ?_) (fun h => absurd h (by omega))
  refine And.intro (rfl) ?_
  refine And.intro (⟨rfl, ht⟩) ?_
  refine And.intro (fun _ => ?_) (fun h => absurd h (by omega))
  refine And.intro rfl ?_
  refine And.intro (And.intro (fun h1 => absurd h1 (by omega)) (And.intro (fun h1 => absurd h1 (by omega)) (And.intro (fun h1 => absurd h1 (by omega)) (And.intro (fun h1 => ?_) (And.intro (fun h1 => absurd h1 (by omega)) (And.intro (fun h1 => absurd h1 (by omega)) (And.intro (fun h1 => absurd h1 (by omega)) (And.intro (fun h1 => absurd h1 (by omega)) (And.intro (fun h1 => absurd h1 (by omega)) (True.intro)))))))))) (fun h1 => absurd h1 (by omega))
  · replace h1 : (m 71 t) = 3 := h1
    refine And.intro (rfl) ?_
    refine And.intro (rfl) ?_
    refine ct_234 (by omega) (by rw [ab]; exact hA) ok.2.2.2.2.2.2.1 (fun l a b => (ok.2.2.2.2.2.2.2.1 l a b).1) (fun v2 h3 => ?_)
    have ev := h3
    refine And.intro (rfl) ?_
    refine am_in (k := 0) rfl (by omega) (fun d hd => ?_)
    refine am_go 400 [] (am_wpc_cm _ _ _) wf_301 ?_
    refine And.intro (rfl) ?_
    refine And.intro (rfl) ?_
    exact hQ 0 v2 (by rw [ev]; rfl) _ ((fz.S (by omega)).S (by omega)) (by first | assumption | omega | (simp only [mS_iff, eq_self, Int.reduceEq, true_and, and_true, false_and, and_false, and_self, ↓reduceIte] <;> first | omega | assumption | done)) (by first | assumption | omega | (simp only [mS_iff, eq_self, Int.reduceEq, true_and, and_true, false_and, and_false, and_self, ↓reduceIte] <;> first | omega | assumption | done)) (by first | assumption | omega | (simp only [mS_iff, eq_self, Int.reduceEq, true_and, and_true, false_and, and_false, and_self, ↓reduceIte] <;> first | omega | assumption | done))
theorem mSy_call {m : aM} {lo hi t a s p1 : Int} {f : aD} (h71 : m 71 t = 4) (h74 : m 74 t = a) (ht : 0 ≤ t ∧ t < 1260) (h72 : m 72 t = s - 55) (hs : 55 ≤ s ∧ s ≤ 64) (hc : mNd m lo hi (m 73 t) f p1) : mSy m t (d_one a s f) (p1 + 1) := by
  have hp := hc.2.1
  intro d Q a0 w hd hA ok ab h59 hQ hQe
  obtain ⟨k, hk⟩ : ∃ k, d = k + 1 := ⟨d - 1, by omega⟩
  have fz := fr_Z.rfl m
  refine am_in (k := k) rfl (by omega) (fun d hd => ?_)
  have ab0 := ab
  have hA0 := hA
  have p74 := h74
  have p71 := h71
  refine am_go 400 [] (am_wpc_cm _ _ _) wf_299 ?_
  refine And.intro (rfl) ?_
  refine And.intro (fun _ => ?_) (fun h => absurd h (by omega))
  refine And.intro (rfl) ?_
  refine And.intro (⟨rfl, ht⟩) ?_
  refine And.intro (fun _ => ?_) (fun h => absurd h (by omega))
  refine And.intro rfl ?_
  refine And.intro (And.intro (fun h1 => absurd h1 (by omega)) (And.intro (fun h1 => absurd h1 (by omega)) (And.intro (fun h1 => absurd h1 (by omega)) (And.intro (fun h1 => absurd h1 (by omega)) (And.intro (fun h1 => ?_) (And.intro (fun h1 => absurd h1 (by omega)) (And.intro (fun h1 => absurd h1 (by omega)) (And.intro (fun h1 => absurd h1 (by omega)) (And.intro (fun h1 => absurd h1 (by omega)) (True.intro)))))))))) (fun h1 => absurd h1 (by omega))
  · replace h1 : (m 71 t) = 4 := h1
    refine And.intro (rfl) ?_
    refine And.intro (⟨rfl, ht⟩) ?_
    refine And.intro (rfl) ?_
    refine (hc.2.2.2 m (fz.kp lo hi)) _ _ a0 w (by omega) (fz.row hA0) ok ((fz 41 61 (by omega)).trans ab0) (by omega) (fun s1 v1 e1 m1 fz1 g57 g58 g59 => ?_) (fun c1 q1 e1 m1 fz1 g59 g1 gq => ?_)
    · have fz := fz.trans fz1
      have h57a := g57
      have h58a := g58
      have h59 := g59
      have ab := (fz 41 61 (by omega)).trans ab0
      have hA := fz.row hA0
      have p74 : m1 74 t = a := (fz 74 t (by omega)).trans h74
      have p71 : m1 71 t = _ := (fz 71 t (by omega)).trans h71
      have p72 := fz 72 t (by omega)
      refine And.intro (rfl) ?_
      refine And.intro (fun h => absurd h (by omega)) (fun _ => ?_)
      refine And.intro (rfl) ?_
      refine And.intro (⟨rfl, ht⟩) ?_
      refine And.intro (rfl) ?_
      refine ct_303 (by omega) (by omega) hA ok ab h59 ht h57a h58a (hc.1 w ok _ _ e1) (fun s2 v2 e2 m2 fz2 g57 g58 g59 => ?_) (fun c2 q2 e2 m2 fz2 g59 g1 gq => ?_)
      · have fz := fz.trans fz2
        exact hQ s2 v2 ((d_bd_r e1).trans (by rw [← p74, show s = m1 72 t + 55 by omega]; exact e2)) _ fz g57 g58 g59
      · have fz := fz.trans fz2
        exact hQe c2 q2 ((d_bd_r e1).trans (by rw [← p74, show s = m1 72 t + 55 by omega]; exact e2)) _ fz g59 g1 gq
    · have fz := fz.trans fz1
      have h59 := g59
      have p72 := fz 72 t (by omega)
      refine And.intro (rfl) ?_
      refine And.intro (fun _ => ?_) (fun h => absurd h (by omega))
      exact hQe c1 q1 (d_bd_l e1) _ fz g59 g1 gq
theorem mSy_minus {m : aM} {lo hi t a p1 : Int} {f : aD} (h71 : m 71 t = 6) (h74 : m 74 t = a) (ht : 0 ≤ t ∧ t < 1260) (hc : mNd m lo hi (m 72 t) f p1) : mSy m t (d_one a 145 f) (p1 + 1) := by
  have hp := hc.2.1
  intro d Q a0 w hd hA ok ab h59 hQ hQe
  obtain ⟨k, hk⟩ : ∃ k, d = k + 1 := ⟨d - 1, by omega⟩
  have fz := fr_Z.rfl m
  refine am_in (k := k) rfl (by omega) (fun d hd => ?_)
  have ab0 := ab
  have hA0 := hA
  have p74 := h74
  have p71 := h71
  refine am_go 400 [] (am_wpc_cm _ _ _) wf_299 ?_
  refine And.intro (rfl) ?_
  refine And.intro (fun _ => ?_) (fun h => absurd h (by omega))
  refine And.intro (rfl) ?_
  refine And.intro (⟨rfl, ht⟩) ?_
  refine And.intro (fun _ => ?_) (fun h => absurd h (by omega))
  refine And.intro rfl ?_
  refine And.intro (And.intro (fun h1 => absurd h1 (by omega)) (And.intro (fun h1 => absurd h1 (by omega)) (And.intro (fun h1 => absurd h1 (by omega)) (And.intro (fun h1 => absurd h1 (by omega)) (And.intro (fun h1 => absurd h1 (by omega)) (And.intro (fun h1 => absurd h1 (by omega)) (And.intro (fun h1 => ?_) (And.intro (fun h1 => absurd h1 (by omega)) (And.intro (fun h1 => absurd h1 (by omega)) (True.intro)))))))))) (fun h1 => absurd h1 (by omega))
  · replace h1 : (m 71 t) = 6 := h1
    refine And.intro (rfl) ?_
    refine And.intro (⟨rfl, ht⟩) ?_
    refine And.intro (rfl) ?_
    refine (hc.2.2.2 m (fz.kp lo hi)) _ _ a0 w (by omega) (fz.row hA0) ok ((fz 41 61 (by omega)).trans ab0) (by omega) (fun s1 v1 e1 m1 fz1 g57 g58 g59 => ?_) (fun c1 q1 e1 m1 fz1 g59 g1 gq => ?_)
    · have fz := fz.trans fz1
      have h57a := g57
      have h58a := g58
      have h59 := g59
      have ab := (fz 41 61 (by omega)).trans ab0
      have hA := fz.row hA0
      have p74 : m1 74 t = a := (fz 74 t (by omega)).trans h74
      have p71 : m1 71 t = _ := (fz 71 t (by omega)).trans h71
      refine And.intro (rfl) ?_
      refine am_in (k := 1) rfl (by omega) (fun d hd => ?_)
      refine am_go 400 [] (am_wpc_cm _ _ _) wf_305 ?_
      refine And.intro (rfl) ?_
      refine And.intro (fun h => absurd h (by omega)) (fun _ => ?_)
      refine And.intro (rfl) ?_
      refine And.intro (fun h2 => ?_) (fun h2 => ?_)
      · refine And.intro (rfl) ?_
        refine And.intro (rfl) ?_
        exact hQ 0 (am_lneg (m1 41 58)) ((d_bd_r e1).trans (by rw [d_c1_145, if_pos (by omega), ← h58a])) _ (fz.S (by omega)) (by first | assumption | omega | (simp only [mS_iff, eq_self, Int.reduceEq, true_and, and_true, false_and, and_false, and_self, ↓reduceIte] <;> first | omega | assumption | done)) (by first | assumption | omega | (simp only [mS_iff, eq_self, Int.reduceEq, true_and, and_true, false_and, and_false, and_self, ↓reduceIte] <;> first | omega | assumption | done)) (by first | assumption | omega | (simp only [mS_iff, eq_self, Int.reduceEq, true_and, and_true, false_and, and_false, and_self, ↓reduceIte] <;> first | omega | assumption | done))
      · refine And.intro (rfl) ?_
        refine am_in (k := 0) rfl (by omega) (fun d hd => ?_)
        refine am_go 400 [] (am_wpc_cm _ _ _) wf_302 ?_
        refine And.intro (rfl) ?_
        refine And.intro (fun h => absurd h (by omega)) (fun _ => ?_)
        refine And.intro (rfl) ?_
        refine And.intro (rfl) ?_
        refine And.intro (⟨rfl, ht⟩) ?_
        refine And.intro (rfl) ?_
        refine And.intro (rfl) ?_
        refine And.intro (rfl) ?_
        exact hQe 2 a ((d_bd_r e1).trans (by rw [d_c1_145, if_neg (by omega)])) _ (((fz.S (by omega)).S (by omega)).S (by omega)) (by first | assumption | omega | (simp only [mS_iff, eq_self, Int.reduceEq, true_and, and_true, false_and, and_false, and_self, ↓reduceIte] <;> first | omega | assumption | done)) (by omega) (by first | assumption | omega | (simp only [mS_iff, eq_self, Int.reduceEq, true_and, and_true, false_and, and_false, and_self, ↓reduceIte] <;> first | omega | assumption | done))
    · have fz := fz.trans fz1
      have h59 := g59
      refine And.intro (rfl) ?_
      refine am_in (k := 1) rfl (by omega) (fun d hd => ?_)
      refine am_go 400 [] (am_wpc_cm _ _ _) wf_305 ?_
      refine And.intro (rfl) ?_
      refine And.intro (fun _ => ?_) (fun h => absurd h (by omega))
      refine And.intro (rfl) ?_
      refine And.intro (rfl) ?_
      exact hQe c1 q1 (d_bd_l e1) _ (fz.S (by omega)) (by first | assumption | omega | (simp only [mS_iff, eq_self, Int.reduceEq, true_and, and_true, false_and, and_false, and_self, ↓reduceIte] <;> first | omega | assumption | done)) g1 (by first | assumption | omega | (simp only [mS_iff, eq_self, Int.reduceEq, true_and, and_true, false_and, and_false, and_self, ↓reduceIte] <;> first | omega | assumption | done))
theorem mSy_not {m : aM} {lo hi t a p1 : Int} {f : aD} (h71 : m 71 t = 8) (h74 : m 74 t = a) (ht : 0 ≤ t ∧ t < 1260) (hc : mNd m lo hi (m 72 t) f p1) : mSy m t (d_one a 51 f) (p1 + 1) := by
  have hp := hc.2.1
  intro d Q a0 w hd hA ok ab h59 hQ hQe
  obtain ⟨k, hk⟩ : ∃ k, d = k + 1 := ⟨d - 1, by omega⟩
  have fz := fr_Z.rfl m
  refine am_in (k := k) rfl (by omega) (fun d hd => ?_)
  have ab0 := ab
  have hA0 := hA
  have p74 := h74
  have p71 := h71
  refine am_go 400 [] (am_wpc_cm _ _ _) wf_299 ?_
  refine And.intro (rfl) ?_
  refine And.intro (fun _ => ?_) (fun h => absurd h (by omega))
  refine And.intro (rfl) ?_
  refine And.intro (⟨rfl, ht⟩) ?_
  refine And.intro (fun _ => ?_) (fun h => absurd h (by omega))
  refine And.intro rfl ?_
  refine And.intro (And.intro (fun h1 => absurd h1 (by omega)) (And.intro (fun h1 => absurd h1 (by omega)) (And.intro (fun h1 => absurd h1 (by omega)) (And.intro (fun h1 => absurd h1 (by omega)) (And.intro (fun h1 => absurd h1 (by omega)) (And.intro (fun h1 => absurd h1 (by omega)) (And.intro (fun h1 => absurd h1 (by omega)) (And.intro (fun h1 => absurd h1 (by omega)) (And.intro (fun h1 => ?_) (True.intro)))))))))) (fun h1 => absurd h1 (by omega))
  · replace h1 : (m 71 t) = 8 := h1
    refine And.intro (rfl) ?_
    refine And.intro (⟨rfl, ht⟩) ?_
    refine And.intro (rfl) ?_
    refine (hc.2.2.2 m (fz.kp lo hi)) _ _ a0 w (by omega) (fz.row hA0) ok ((fz 41 61 (by omega)).trans ab0) (by omega) (fun s1 v1 e1 m1 fz1 g57 g58 g59 => ?_) (fun c1 q1 e1 m1 fz1 g59 g1 gq => ?_)
    · have fz := fz.trans fz1
      have h57a := g57
      have h58a := g58
      have h59 := g59
      have ab := (fz 41 61 (by omega)).trans ab0
      have hA := fz.row hA0
      have p74 : m1 74 t = a := (fz 74 t (by omega)).trans h74
      have p71 : m1 71 t = _ := (fz 71 t (by omega)).trans h71
      refine And.intro (rfl) ?_
      refine am_in (k := 1) rfl (by omega) (fun d hd => ?_)
      refine am_go 400 [] (am_wpc_cm _ _ _) wf_305 ?_
      refine And.intro (rfl) ?_
      refine And.intro (fun h => absurd h (by omega)) (fun _ => ?_)
      refine And.intro (rfl) ?_
      refine And.intro (fun h2 => ?_) (fun h2 => ?_)
      · refine And.intro (rfl) ?_
        refine And.intro (fun h3 => ?_) (fun h3 => ?_)
        · replace h3 := am_lc_ne.mp h3
          refine And.intro (rfl) ?_
          exact hQ 0 0 ((d_bd_r e1).trans (by rw [d_c1_51, if_pos (by omega)]; rw [if_neg (by omega)])) _ (fz.S (by omega)) (by first | assumption | omega | (simp only [mS_iff, eq_self, Int.reduceEq, true_and, and_true, false_and, and_false, and_self, ↓reduceIte] <;> first | omega | assumption | done)) (by first | assumption | omega | (simp only [mS_iff, eq_self, Int.reduceEq, true_and, and_true, false_and, and_false, and_self, ↓reduceIte] <;> first | omega | assumption | done)) (by first | assumption | omega | (simp only [mS_iff, eq_self, Int.reduceEq, true_and, and_true, false_and, and_false, and_self, ↓reduceIte] <;> first | omega | assumption | done))
        · replace h3 := am_lc_eq.mp h3
          refine And.intro (rfl) ?_
          exact hQ 0 1 ((d_bd_r e1).trans (by rw [d_c1_51, if_pos (by omega)]; rw [if_pos (by omega)])) _ (fz.S (by omega)) (by first | assumption | omega | (simp only [mS_iff, eq_self, Int.reduceEq, true_and, and_true, false_and, and_false, and_self, ↓reduceIte] <;> first | omega | assumption | done)) (by first | assumption | omega | (simp only [mS_iff, eq_self, Int.reduceEq, true_and, and_true, false_and, and_false, and_self, ↓reduceIte] <;> first | omega | assumption | done)) (by first | assumption | omega | (simp only [mS_iff, eq_self, Int.reduceEq, true_and, and_true, false_and, and_false, and_self, ↓reduceIte] <;> first | omega | assumption | done))
      · refine And.intro (rfl) ?_
        refine am_in (k := 0) rfl (by omega) (fun d hd => ?_)
        refine am_go 400 [] (am_wpc_cm _ _ _) wf_302 ?_
        refine And.intro (rfl) ?_
        refine And.intro (fun h => absurd h (by omega)) (fun _ => ?_)
        refine And.intro (rfl) ?_
        refine And.intro (rfl) ?_
        refine And.intro (⟨rfl, ht⟩) ?_
        refine And.intro (rfl) ?_
        refine And.intro (rfl) ?_
        refine And.intro (fun h4 => ?_) (fun h4 => ?_)
        · replace h4 := am_lc_ne.mp h4
          refine And.intro (rfl) ?_
          exact hQe 2 a ((d_bd_r e1).trans (by rw [d_c1_51, if_neg (by omega)])) _ (((fz.S (by omega)).S (by omega)).S (by omega)) (by first | assumption | omega | (simp only [mS_iff, eq_self, Int.reduceEq, true_and, and_true, false_and, and_false, and_self, ↓reduceIte] <;> first | omega | assumption | done)) (by omega) (by first | assumption | omega | (simp only [mS_iff, eq_self, Int.reduceEq, true_and, and_true, false_and, and_false, and_self, ↓reduceIte] <;> first | omega | assumption | done))
        · replace h4 := am_lc_eq.mp h4
          refine And.intro (rfl) ?_
          exact hQe 2 a ((d_bd_r e1).trans (by rw [d_c1_51, if_neg (by omega)])) _ (((fz.S (by omega)).S (by omega)).S (by omega)) (by first | assumption | omega | (simp only [mS_iff, eq_self, Int.reduceEq, true_and, and_true, false_and, and_false, and_self, ↓reduceIte] <;> first | omega | assumption | done)) (by omega) (by first | assumption | omega | (simp only [mS_iff, eq_self, Int.reduceEq, true_and, and_true, false_and, and_false, and_self, ↓reduceIte] <;> first | omega | assumption | done))
    · have fz := fz.trans fz1
      have h59 := g59
      refine And.intro (rfl) ?_
      refine am_in (k := 1) rfl (by omega) (fun d hd => ?_)
      refine am_go 400 [] (am_wpc_cm _ _ _) wf_305 ?_
      refine And.intro (rfl) ?_
      refine And.intro (fun _ => ?_) (fun h => absurd h (by omega))
      refine And.intro (rfl) ?_
      refine And.intro (fun h5 => ?_) (fun h5 => ?_)
      · replace h5 := am_lc_ne.mp h5
        refine And.intro (rfl) ?_
        exact hQe c1 q1 (d_bd_l e1) _ (fz.S (by omega)) (by first | assumption | omega | (simp only [mS_iff, eq_self, Int.reduceEq, true_and, and_true, false_and, and_false, and_self, ↓reduceIte] <;> first | omega | assumption | done)) g1 (by first | assumption | omega | (simp only [mS_iff, eq_self, Int.reduceEq, true_and, and_true, false_and, and_false, and_self, ↓reduceIte] <;> first | omega | assumption | done))
      · replace h5 := am_lc_eq.mp h5
        refine And.intro (rfl) ?_
        exact hQe c1 q1 (d_bd_l e1) _ (fz.S (by omega)) (by first | assumption | omega | (simp only [mS_iff, eq_self, Int.reduceEq, true_and, and_true, false_and, and_false, and_self, ↓reduceIte] <;> first | omega | assumption | done)) g1 (by first | assumption | omega | (simp only [mS_iff, eq_self, Int.reduceEq, true_and, and_true, false_and, and_false, and_self, ↓reduceIte] <;> first | omega | assumption | done))
theorem mSy_try {m : aM} {lo hi t a p1 p2 : Int} {f g : aD} (h71 : m 71 t = 5) (h74 : m 74 t = a) (ht : 0 ≤ t ∧ t < 1260) (hc : mNd m lo hi (m 72 t) f p1) (hc2 : mNd m lo hi (m 73 t) g p2) : mSy m t (d_try f g) (p1 + p2 + 1) := by
  have hp := hc.2.1
  have hp2 := hc2.2.1
  intro d Q a0 w hd hA ok ab h59 hQ hQe
  obtain ⟨k, hk⟩ : ∃ k, d = k + 1 := ⟨d - 1, by omega⟩
  have fz := fr_Z.rfl m
  refine am_in (k := k) rfl (by omega) (fun d hd => ?_)
  have ab0 := ab
  have hA0 := hA
  have p74 := h74
  have p71 := h71
  refine am_go 400 [] (am_wpc_cm _ _ _) wf_299 ?_
  refine And.intro (rfl) ?_
  refine And.intro (fun _ => ?_) (fun h => absurd h (by omega))
  refine And.intro (rfl) ?_
  refine And.intro (⟨rfl, ht⟩) ?_
  refine And.intro (fun _ => ?_) (fun h => absurd h (by omega))
  refine And.intro rfl ?_
  refine And.intro (And.intro (fun h1 => absurd h1 (by omega)) (And.intro (fun h1 => absurd h1 (by omega)) (And.intro (fun h1 => absurd h1 (by omega)) (And.intro (fun h1 => absurd h1 (by omega)) (And.intro (fun h1 => absurd h1 (by omega)) (And.intro (fun h1 => ?_) (And.intro (fun h1 => absurd h1 (by omega)) (And.intro (fun h1 => absurd h1 (by omega)) (And.intro (fun h1 => absurd h1 (by omega)) (True.intro)))))))))) (fun h1 => absurd h1 (by omega))
  · replace h1 : (m 71 t) = 5 := h1
    refine And.intro (rfl) ?_
    refine And.intro (⟨rfl, ht⟩) ?_
    refine And.intro (rfl) ?_
    refine (hc.2.2.2 m (fz.kp lo hi)) _ _ a0 w (by omega) (fz.row hA0) ok ((fz 41 61 (by omega)).trans ab0) (by omega) (fun s1 v1 e1 m1 fz1 g57 g58 g59 => ?_) (fun c1 q1 e1 m1 fz1 g59 g1 gq => ?_)
    · have fz := fz.trans fz1
      have h57a := g57
      have h58a := g58
      have h59 := g59
      have ab := (fz 41 61 (by omega)).trans ab0
      have hA := fz.row hA0
      have p74 : m1 74 t = a := (fz 74 t (by omega)).trans h74
      have p71 : m1 71 t = _ := (fz 71 t (by omega)).trans h71
      refine And.intro (rfl) ?_
      refine And.intro (fun _ => ?_) (fun h => absurd h (by omega))
      exact hQ s1 v1 (d_try_r e1) _ fz g57 g58 g59
    · have fz := fz.trans fz1
      have h59 := g59
      refine And.intro (rfl) ?_
      refine And.intro (fun h => absurd h (by omega)) (fun _ => ?_)
      refine And.intro (rfl) ?_
      obtain ⟨mt, et⟩ : ∃ z, z = (mS m1 41 59 0) := ⟨_, rfl⟩
      rw [← et]
      have fz : fr_Z m mt := by rw [et]; exact fz.S (by omega)
      have h59 : mt 41 59 = 0 := by rw [et, mS_iff, if_pos ⟨rfl, rfl⟩]
      refine And.intro (rfl) ?_
      refine And.intro (⟨rfl, ht⟩) ?_
      rw [show mt 73 t = m 73 t from fz 73 t (by omega)]
      refine And.intro (rfl) ?_
      refine (hc2.2.2.2 mt (fz.kp lo hi)) _ _ a0 w (by omega) (fz.row hA0) ok ((fz 41 61 (by omega)).trans ab0) (by omega) (fun s2 v2 e2 m2 fz2 g57 g58 g59 => ?_) (fun c2 q2 e2 m2 fz2 g59 g1 gq => ?_)
      · have fz := fz.trans fz2
        have h57b := g57
        have h58b := g58
        have h59 := g59
        have ab := (fz 41 61 (by omega)).trans ab0
        have hA := fz.row hA0
        have p74 : m2 74 t = a := (fz 74 t (by omega)).trans h74
        have p71 : m2 71 t = _ := (fz 71 t (by omega)).trans h71
        exact hQ s2 v2 ((d_try_l e1).trans e2) _ fz g57 g58 g59
      · have fz := fz.trans fz2
        have h59 := g59
        exact hQe c2 q2 ((d_try_l e1).trans e2) _ fz g59 g1 gq
theorem mSy_or {m : aM} {lo hi t a p1 p2 : Int} {f g : aD} (h71 : m 71 t = 9) (h74 : m 74 t = a) (ht : 0 ≤ t ∧ t < 1260) (hc : mNd m lo hi (m 72 t) f p1) (hc2 : mNd m lo hi (m 73 t) g p2) : mSy m t (d_two a 0 f g) (p1 + p2 + 1) := by
  have hp := hc.2.1
  have hp2 := hc2.2.1
  intro d Q a0 w hd hA ok ab h59 hQ hQe
  obtain ⟨k, hk⟩ : ∃ k, d = k + 1 := ⟨d - 1, by omega⟩
  have fz := fr_Z.rfl m
  refine am_in (k := k) rfl (by omega) (fun d hd => ?_)
  have ab0 := ab
  have hA0 := hA
  have p74 := h74
  have p71 := h71
  refine am_go 400 [] (am_wpc_cm _ _ _) wf_299 ?_
  refine And.intro (rfl) ?_
  refine And.intro (fun _ => ?_) (fun h => absurd h (by omega))
  refine And.intro (rfl) ?_
  refine And.intro (⟨rfl, ht⟩) ?_
  refine And.intro (fun _ => ?_) (fun h => absurd h (by omega))
  refine And.intro rfl ?_
  refine And.intro (And.intro (fun h1 => absurd h1 (by omega)) (And.intro (fun h1 => absurd h1 (by omega)) (And.intro (fun h1 => absurd h1 (by omega)) (And.intro (fun h1 => absurd h1 (by omega)) (And.intro (fun h1 => absurd h1 (by omega)) (And.intro (fun h1 => absurd h1 (by omega)) (And.intro (fun h1 => absurd h1 (by omega)) (And.intro (fun h1 => absurd h1 (by omega)) (And.intro (fun h1 => absurd h1 (by omega)) (True.intro)))))))))) (fun h1 => ?_)
  · refine And.intro (rfl) ?_
    refine And.intro (⟨rfl, ht⟩) ?_
    refine And.intro (rfl) ?_
    refine (hc.2.2.2 m (fz.kp lo hi)) _ _ a0 w (by omega) (fz.row hA0) ok ((fz 41 61 (by omega)).trans ab0) (by omega) (fun s1 v1 e1 m1 fz1 g57 g58 g59 => ?_) (fun c1 q1 e1 m1 fz1 g59 g1 gq => ?_)
    · have fz := fz.trans fz1
      have h57a := g57
      have h58a := g58
      have h59 := g59
      have ab := (fz 41 61 (by omega)).trans ab0
      have hA := fz.row hA0
      have p74 : m1 74 t = a := (fz 74 t (by omega)).trans h74
      have p71 : m1 71 t = _ := (fz 71 t (by omega)).trans h71
      refine And.intro (rfl) ?_
      refine am_in (k := 1) rfl (by omega) (fun d hd => ?_)
      refine am_go 400 [] (am_wpc_cm _ _ _) wf_305 ?_
      refine And.intro (rfl) ?_
      refine And.intro (fun h => absurd h (by omega)) (fun _ => ?_)
      refine And.intro (rfl) ?_
      refine And.intro (fun h2 => ?_) (fun h2 => ?_)
      · refine And.intro (rfl) ?_
        refine And.intro (fun h => absurd h (by first | omega | (simp only [mS_iff, eq_self, Int.reduceEq, true_and, and_true, false_and, and_false, and_self, ↓reduceIte]; first | omega | decide))) (fun _ => ?_)
        refine And.intro (rfl) ?_
        refine And.intro (fun h3 => ?_) (fun h3 => ?_)
        · replace h3 := am_lc_eq.mp h3
          refine And.intro (fun h4 => ?_) (fun h4 => ?_)
          · refine And.intro (fun h => absurd h (by decide)) (fun _ => ?_)
            refine And.intro (rfl) ?_
            refine And.intro (⟨rfl, ht⟩) ?_
            rw [show m1 73 t = m 73 t from fz 73 t (by omega)]
            refine And.intro (rfl) ?_
            refine (hc2.2.2.2 m1 (fz.kp lo hi)) _ _ a0 w (by omega) (fz.row hA0) ok ((fz 41 61 (by omega)).trans ab0) (by omega) (fun s2 v2 e2 m2 fz2 g57 g58 g59 => ?_) (fun c2 q2 e2 m2 fz2 g59 g1 gq => ?_)
            · have fz := fz.trans fz2
              have h57b := g57
              have h58b := g58
              have h59 := g59
              have ab := (fz 41 61 (by omega)).trans ab0
              have hA := fz.row hA0
              have p74 : m2 74 t = a := (fz 74 t (by omega)).trans h74
              have p71 : m2 71 t = _ := (fz 71 t (by omega)).trans h71
              refine And.intro (rfl) ?_
              refine am_in (k := 1) rfl (by omega) (fun d hd => ?_)
              refine am_go 400 [] (am_wpc_cm _ _ _) wf_305 ?_
              refine And.intro (rfl) ?_
              refine And.intro (fun h => absurd h (by omega)) (fun _ => ?_)
              refine And.intro (rfl) ?_
              refine And.intro (fun h5 => ?_) (fun h5 => ?_)
              · refine And.intro (rfl) ?_
                refine And.intro (fun h6 => ?_) (fun h6 => ?_)
                · replace h6 := am_lc_eq.mp h6
                  refine And.intro (rfl) ?_
                  exact hQ 0 0 ((d2_o2 (by omega) e1 (by omega) (by omega)).trans ((d_bd_r e2).trans (by rw [if_pos (by omega), d_tw_0 (v := v2) (by omega)]))) _ (fz.S (by omega)) (by first | assumption | omega | (simp only [mS_iff, eq_self, Int.reduceEq, true_and, and_true, false_and, and_false, and_self, ↓reduceIte] <;> first | omega | assumption | done)) (by first | assumption | omega | (simp only [mS_iff, eq_self, Int.reduceEq, true_and, and_true, false_and, and_false, and_self, ↓reduceIte] <;> first | omega | assumption | done)) (by first | assumption | omega | (simp only [mS_iff, eq_self, Int.reduceEq, true_and, and_true, false_and, and_false, and_self, ↓reduceIte] <;> first | omega | assumption | done))
                · replace h6 := am_lc_ne.mp h6
                  refine And.intro (rfl) ?_
                  exact hQ 0 1 ((d2_o2 (by omega) e1 (by omega) (by omega)).trans ((d_bd_r e2).trans (by rw [if_pos (by omega), d_tw_1 (v := v2) (by omega)]))) _ (fz.S (by omega)) (by first | assumption | omega | (simp only [mS_iff, eq_self, Int.reduceEq, true_and, and_true, false_and, and_false, and_self, ↓reduceIte] <;> first | omega | assumption | done)) (by first | assumption | omega | (simp only [mS_iff, eq_self, Int.reduceEq, true_and, and_true, false_and, and_false, and_self, ↓reduceIte] <;> first | omega | assumption | done)) (by first | assumption | omega | (simp only [mS_iff, eq_self, Int.reduceEq, true_and, and_true, false_and, and_false, and_self, ↓reduceIte] <;> first | omega | assumption | done))
              · refine And.intro (rfl) ?_
                refine am_in (k := 0) rfl (by omega) (fun d hd => ?_)
                refine am_go 400 [] (am_wpc_cm _ _ _) wf_302 ?_
                refine And.intro (rfl) ?_
                refine And.intro (fun h => absurd h (by omega)) (fun _ => ?_)
                refine And.intro (rfl) ?_
                refine And.intro (rfl) ?_
                refine And.intro (⟨rfl, ht⟩) ?_
                refine And.intro (rfl) ?_
                refine And.intro (rfl) ?_
                refine And.intro (fun h7 => ?_) (fun h7 => ?_)
                · replace h7 := am_lc_eq.mp h7
                  refine And.intro (rfl) ?_
                  exact hQe 2 a ((d2_o2 (by omega) e1 (by omega) (by omega)).trans ((d_bd_r e2).trans (by rw [if_neg (by omega)]))) _ (((fz.S (by omega)).S (by omega)).S (by omega)) (by first | assumption | omega | (simp only [mS_iff, eq_self, Int.reduceEq, true_and, and_true, false_and, and_false, and_self, ↓reduceIte] <;> first | omega | assumption | done)) (by omega) (by first | assumption | omega | (simp only [mS_iff, eq_self, Int.reduceEq, true_and, and_true, false_and, and_false, and_self, ↓reduceIte] <;> first | omega | assumption | done))
                · replace h7 := am_lc_ne.mp h7
                  refine And.intro (rfl) ?_
                  exact hQe 2 a ((d2_o2 (by omega) e1 (by omega) (by omega)).trans ((d_bd_r e2).trans (by rw [if_neg (by omega)]))) _ (((fz.S (by omega)).S (by omega)).S (by omega)) (by first | assumption | omega | (simp only [mS_iff, eq_self, Int.reduceEq, true_and, and_true, false_and, and_false, and_self, ↓reduceIte] <;> first | omega | assumption | done)) (by omega) (by first | assumption | omega | (simp only [mS_iff, eq_self, Int.reduceEq, true_and, and_true, false_and, and_false, and_self, ↓reduceIte] <;> first | omega | assumption | done))
            · have fz := fz.trans fz2
              have h59 := g59
              refine And.intro (rfl) ?_
              refine am_in (k := 1) rfl (by omega) (fun d hd => ?_)
              refine am_go 400 [] (am_wpc_cm _ _ _) wf_305 ?_
              refine And.intro (rfl) ?_
              refine And.intro (fun _ => ?_) (fun h => absurd h (by omega))
              refine And.intro (rfl) ?_
              refine And.intro (fun h8 => ?_) (fun h8 => ?_)
              · replace h8 := am_lc_eq.mp h8
                refine And.intro (rfl) ?_
                exact hQe c2 q2 ((d2_o2 (by omega) e1 (by omega) (by omega)).trans (d_bd_l e2)) _ (fz.S (by omega)) (by first | assumption | omega | (simp only [mS_iff, eq_self, Int.reduceEq, true_and, and_true, false_and, and_false, and_self, ↓reduceIte] <;> first | omega | assumption | done)) g1 (by first | assumption | omega | (simp only [mS_iff, eq_self, Int.reduceEq, true_and, and_true, false_and, and_false, and_self, ↓reduceIte] <;> first | omega | assumption | done))
              · replace h8 := am_lc_ne.mp h8
                refine And.intro (rfl) ?_
                exact hQe c2 q2 ((d2_o2 (by omega) e1 (by omega) (by omega)).trans (d_bd_l e2)) _ (fz.S (by omega)) (by first | assumption | omega | (simp only [mS_iff, eq_self, Int.reduceEq, true_and, and_true, false_and, and_false, and_self, ↓reduceIte] <;> first | omega | assumption | done)) g1 (by first | assumption | omega | (simp only [mS_iff, eq_self, Int.reduceEq, true_and, and_true, false_and, and_false, and_self, ↓reduceIte] <;> first | omega | assumption | done))
          · refine And.intro (fun _ => ?_) (fun h => absurd h (by decide))
            refine And.intro (rfl) ?_
            refine And.intro (fun h9 => ?_) (fun h9 => ?_)
            · replace h9 := am_lc_eq.mp h9
              refine And.intro (rfl) ?_
              exact hQ 0 0 ((d2_o1 (by omega) e1 (by omega) (by omega)).trans (by rw [d_tw_0 (v := v1) (by omega)])) _ (fz.S (by omega)) (by first | assumption | omega | (simp only [mS_iff, eq_self, Int.reduceEq, true_and, and_true, false_and, and_false, and_self, ↓reduceIte] <;> first | omega | assumption | done)) (by first | assumption | omega | (simp only [mS_iff, eq_self, Int.reduceEq, true_and, and_true, false_and, and_false, and_self, ↓reduceIte] <;> first | omega | assumption | done)) (by first | assumption | omega | (simp only [mS_iff, eq_self, Int.reduceEq, true_and, and_true, false_and, and_false, and_self, ↓reduceIte] <;> first | omega | assumption | done))
            · replace h9 := am_lc_ne.mp h9
              refine And.intro (rfl) ?_
              exact hQ 0 1 ((d2_o1 (by omega) e1 (by omega) (by omega)).trans (by rw [d_tw_1 (v := v1) (by omega)])) _ (fz.S (by omega)) (by first | assumption | omega | (simp only [mS_iff, eq_self, Int.reduceEq, true_and, and_true, false_and, and_false, and_self, ↓reduceIte] <;> first | omega | assumption | done)) (by first | assumption | omega | (simp only [mS_iff, eq_self, Int.reduceEq, true_and, and_true, false_and, and_false, and_self, ↓reduceIte] <;> first | omega | assumption | done)) (by first | assumption | omega | (simp only [mS_iff, eq_self, Int.reduceEq, true_and, and_true, false_and, and_false, and_self, ↓reduceIte] <;> first | omega | assumption | done))
        · replace h3 := am_lc_ne.mp h3
          refine And.intro (fun h10 => ?_) (fun h10 => ?_)
          · refine And.intro (fun _ => ?_) (fun h => absurd h (by decide))
            refine And.intro (rfl) ?_
            refine And.intro (fun h11 => ?_) (fun h11 => ?_)
            · replace h11 := am_lc_eq.mp h11
              refine And.intro (rfl) ?_
              exact hQ 0 0 ((d2_o1 (by omega) e1 (by omega) (by omega)).trans (by rw [d_tw_0 (v := v1) (by omega)])) _ (fz.S (by omega)) (by first | assumption | omega | (simp only [mS_iff, eq_self, Int.reduceEq, true_and, and_true, false_and, and_false, and_self, ↓reduceIte] <;> first | omega | assumption | done)) (by first | assumption | omega | (simp only [mS_iff, eq_self, Int.reduceEq, true_and, and_true, false_and, and_false, and_self, ↓reduceIte] <;> first | omega | assumption | done)) (by first | assumption | omega | (simp only [mS_iff, eq_self, Int.reduceEq, true_and, and_true, false_and, and_false, and_self, ↓reduceIte] <;> first | omega | assumption | done))
            · replace h11 := am_lc_ne.mp h11
              refine And.intro (rfl) ?_
              exact hQ 0 1 ((d2_o1 (by omega) e1 (by omega) (by omega)).trans (by rw [d_tw_1 (v := v1) (by omega)])) _ (fz.S (by omega)) (by first | assumption | omega | (simp only [mS_iff, eq_self, Int.reduceEq, true_and, and_true, false_and, and_false, and_self, ↓reduceIte] <;> first | omega | assumption | done)) (by first | assumption | omega | (simp only [mS_iff, eq_self, Int.reduceEq, true_and, and_true, false_and, and_false, and_self, ↓reduceIte] <;> first | omega | assumption | done)) (by first | assumption | omega | (simp only [mS_iff, eq_self, Int.reduceEq, true_and, and_true, false_and, and_false, and_self, ↓reduceIte] <;> first | omega | assumption | done))
          · refine And.intro (fun h => absurd h (by decide)) (fun _ => ?_)
            refine And.intro (rfl) ?_
            refine And.intro (⟨rfl, ht⟩) ?_
            rw [show m1 73 t = m 73 t from fz 73 t (by omega)]
            refine And.intro (rfl) ?_
            refine (hc2.2.2.2 m1 (fz.kp lo hi)) _ _ a0 w (by omega) (fz.row hA0) ok ((fz 41 61 (by omega)).trans ab0) (by omega) (fun s2 v2 e2 m2 fz2 g57 g58 g59 => ?_) (fun c2 q2 e2 m2 fz2 g59 g1 gq => ?_)
            · have fz := fz.trans fz2
              have h57b := g57
              have h58b := g58
              have h59 := g59
              have ab := (fz 41 61 (by omega)).trans ab0
              have hA := fz.row hA0
              have p74 : m2 74 t = a := (fz 74 t (by omega)).trans h74
              have p71 : m2 71 t = _ := (fz 71 t (by omega)).trans h71
              refine And.intro (rfl) ?_
              refine am_in (k := 1) rfl (by omega) (fun d hd => ?_)
              refine am_go 400 [] (am_wpc_cm _ _ _) wf_305 ?_
              refine And.intro (rfl) ?_
              refine And.intro (fun h => absurd h (by omega)) (fun _ => ?_)
              refine And.intro (rfl) ?_
              refine And.intro (fun h12 => ?_) (fun h12 => ?_)
              · refine And.intro (rfl) ?_
                refine And.intro (fun h13 => ?_) (fun h13 => ?_)
                · replace h13 := am_lc_eq.mp h13
                  refine And.intro (rfl) ?_
                  exact hQ 0 0 ((d2_o2 (by omega) e1 (by omega) (by omega)).trans ((d_bd_r e2).trans (by rw [if_pos (by omega), d_tw_0 (v := v2) (by omega)]))) _ (fz.S (by omega)) (by first | assumption | omega | (simp only [mS_iff, eq_self, Int.reduceEq, true_and, and_true, false_and, and_false, and_self, ↓reduceIte] <;> first | omega | assumption | done)) (by first | assumption | omega | (simp only [mS_iff, eq_self, Int.reduceEq, true_and, and_true, false_and, and_false, and_self, ↓reduceIte] <;> first | omega | assumption | done)) (by first | assumption | omega | (simp only [mS_iff, eq_self, Int.reduceEq, true_and, and_true, false_and, and_false, and_self, ↓reduceIte] <;> first | omega | assumption | done))
                · replace h13 := am_lc_ne.mp h13
                  refine And.intro (rfl) ?_
                  exact hQ 0 1 ((d2_o2 (by omega) e1 (by omega) (by omega)).trans ((d_bd_r e2).trans (by rw [if_pos (by omega), d_tw_1 (v := v2) (by omega)]))) _ (fz.S (by omega)) (by first | assumption | omega | (simp only [mS_iff, eq_self, Int.reduceEq, true_and, and_true, false_and, and_false, and_self, ↓reduceIte] <;> first | omega | assumption | done)) (by first | assumption | omega | (simp only [mS_iff, eq_self, Int.reduceEq, true_and, and_true, false_and, and_false, and_self, ↓reduceIte] <;> first | omega | assumption | done)) (by first | assumption | omega | (simp only [mS_iff, eq_self, Int.reduceEq, true_and, and_true, false_and, and_false, and_self, ↓reduceIte] <;> first | omega | assumption | done))
              · refine And.intro (rfl) ?_
                refine am_in (k := 0) rfl (by omega) (fun d hd => ?_)
                refine am_go 400 [] (am_wpc_cm _ _ _) wf_302 ?_
                refine And.intro (rfl) ?_
                refine And.intro (fun h => absurd h (by omega)) (fun _ => ?_)
                refine And.intro (rfl) ?_
                refine And.intro (rfl) ?_
                refine And.intro (⟨rfl, ht⟩) ?_
                refine And.intro (rfl) ?_
                refine And.intro (rfl) ?_
                refine And.intro (fun h14 => ?_) (fun h14 => ?_)
                · replace h14 := am_lc_eq.mp h14
                  refine And.intro (rfl) ?_
                  exact hQe 2 a ((d2_o2 (by omega) e1 (by omega) (by omega)).trans ((d_bd_r e2).trans (by rw [if_neg (by omega)]))) _ (((fz.S (by omega)).S (by omega)).S (by omega)) (by first | assumption | omega | (simp only [mS_iff, eq_self, Int.reduceEq, true_and, and_true, false_and, and_false, and_self, ↓reduceIte] <;> first | omega | assumption | done)) (by omega) (by first | assumption | omega | (simp only [mS_iff, eq_self, Int.reduceEq, true_and, and_true, false_and, and_false, and_self, ↓reduceIte] <;> first | omega | assumption | done))
                · replace h14 := am_lc_ne.mp h14
                  refine And.intro (rfl) ?_
                  exact hQe 2 a ((d2_o2 (by omega) e1 (by omega) (by omega)).trans ((d_bd_r e2).trans (by rw [if_neg (by omega)]))) _ (((fz.S (by omega)).S (by omega)).S (by omega)) (by first | assumption | omega | (simp only [mS_iff, eq_self, Int.reduceEq, true_and, and_true, false_and, and_false, and_self, ↓reduceIte] <;> first | omega | assumption | done)) (by omega) (by first | assumption | omega | (simp only [mS_iff, eq_self, Int.reduceEq, true_and, and_true, false_and, and_false, and_self, ↓reduceIte] <;> first | omega | assumption | done))
            · have fz := fz.trans fz2
              have h59 := g59
              refine And.intro (rfl) ?_
              refine am_in (k := 1) rfl (by omega) (fun d hd => ?_)
              refine am_go 400 [] (am_wpc_cm _ _ _) wf_305 ?_
              refine And.intro (rfl) ?_
              refine And.intro (fun _ => ?_) (fun h => absurd h (by omega))
              refine And.intro (rfl) ?_
              refine And.intro (fun h15 => ?_) (fun h15 => ?_)
              · replace h15 := am_lc_eq.mp h15
                refine And.intro (rfl) ?_
                exact hQe c2 q2 ((d2_o2 (by omega) e1 (by omega) (by omega)).trans (d_bd_l e2)) _ (fz.S (by omega)) (by first | assumption | omega | (simp only [mS_iff, eq_self, Int.reduceEq, true_and, and_true, false_and, and_false, and_self, ↓reduceIte] <;> first | omega | assumption | done)) g1 (by first | assumption | omega | (simp only [mS_iff, eq_self, Int.reduceEq, true_and, and_true, false_and, and_false, and_self, ↓reduceIte] <;> first | omega | assumption | done))
              · replace h15 := am_lc_ne.mp h15
                refine And.intro (rfl) ?_
                exact hQe c2 q2 ((d2_o2 (by omega) e1 (by omega) (by omega)).trans (d_bd_l e2)) _ (fz.S (by omega)) (by first | assumption | omega | (simp only [mS_iff, eq_self, Int.reduceEq, true_and, and_true, false_and, and_false, and_self, ↓reduceIte] <;> first | omega | assumption | done)) g1 (by first | assumption | omega | (simp only [mS_iff, eq_self, Int.reduceEq, true_and, and_true, false_and, and_false, and_self, ↓reduceIte] <;> first | omega | assumption | done))
      · refine And.intro (rfl) ?_
        refine am_in (k := 0) rfl (by omega) (fun d hd => ?_)
        refine am_go 400 [] (am_wpc_cm _ _ _) wf_302 ?_
        refine And.intro (rfl) ?_
        refine And.intro (fun h => absurd h (by omega)) (fun _ => ?_)
        refine And.intro (rfl) ?_
        refine And.intro (rfl) ?_
        refine And.intro (⟨rfl, ht⟩) ?_
        refine And.intro (rfl) ?_
        refine And.intro (rfl) ?_
        refine And.intro (fun _ => ?_) (fun h => absurd h (by first | omega | (simp only [mS_iff, eq_self, Int.reduceEq, true_and, and_true, false_and, and_false, and_self, ↓reduceIte]; first | omega | decide)))
        refine And.intro (rfl) ?_
        refine And.intro (fun h16 => ?_) (fun h16 => ?_)
        · replace h16 := am_lc_eq.mp h16
          refine And.intro (rfl) ?_
          exact hQe 2 a (d2_o0 (by omega) e1 (by omega)) _ (((fz.S (by omega)).S (by omega)).S (by omega)) (by first | assumption | omega | (simp only [mS_iff, eq_self, Int.reduceEq, true_and, and_true, false_and, and_false, and_self, ↓reduceIte] <;> first | omega | assumption | done)) (by omega) (by first | assumption | omega | (simp only [mS_iff, eq_self, Int.reduceEq, true_and, and_true, false_and, and_false, and_self, ↓reduceIte] <;> first | omega | assumption | done))
        · replace h16 := am_lc_ne.mp h16
          refine And.intro (rfl) ?_
          exact hQe 2 a (d2_o0 (by omega) e1 (by omega)) _ (((fz.S (by omega)).S (by omega)).S (by omega)) (by first | assumption | omega | (simp only [mS_iff, eq_self, Int.reduceEq, true_and, and_true, false_and, and_false, and_self, ↓reduceIte] <;> first | omega | assumption | done)) (by omega) (by first | assumption | omega | (simp only [mS_iff, eq_self, Int.reduceEq, true_and, and_true, false_and, and_false, and_self, ↓reduceIte] <;> first | omega | assumption | done))
    · have fz := fz.trans fz1
      have h59 := g59
      refine And.intro (rfl) ?_
      refine am_in (k := 1) rfl (by omega) (fun d hd => ?_)
      refine am_go 400 [] (am_wpc_cm _ _ _) wf_305 ?_
      refine And.intro (rfl) ?_
      refine And.intro (fun _ => ?_) (fun h => absurd h (by omega))
      refine And.intro (rfl) ?_
      refine And.intro (fun _ => ?_) (fun h => absurd h (by first | omega | (simp only [mS_iff, eq_self, Int.reduceEq, true_and, and_true, false_and, and_false, and_self, ↓reduceIte]; first | omega | decide)))
      refine And.intro (rfl) ?_
      refine And.intro (fun h17 => ?_) (fun h17 => ?_)
      · replace h17 := am_lc_eq.mp h17
        refine And.intro (rfl) ?_
        exact hQe c1 q1 (d2_l e1) _ (fz.S (by omega)) (by first | assumption | omega | (simp only [mS_iff, eq_self, Int.reduceEq, true_and, and_true, false_and, and_false, and_self, ↓reduceIte] <;> first | omega | assumption | done)) g1 (by first | assumption | omega | (simp only [mS_iff, eq_self, Int.reduceEq, true_and, and_true, false_and, and_false, and_self, ↓reduceIte] <;> first | omega | assumption | done))
      · replace h17 := am_lc_ne.mp h17
        refine And.intro (rfl) ?_
        exact hQe c1 q1 (d2_l e1) _ (fz.S (by omega)) (by first | assumption | omega | (simp only [mS_iff, eq_self, Int.reduceEq, true_and, and_true, false_and, and_false, and_self, ↓reduceIte] <;> first | omega | assumption | done)) g1 (by first | assumption | omega | (simp only [mS_iff, eq_self, Int.reduceEq, true_and, and_true, false_and, and_false, and_self, ↓reduceIte] <;> first | omega | assumption | done))
theorem mSy_and {m : aM} {lo hi t a p1 p2 : Int} {f g : aD} (h71 : m 71 t = 10) (h74 : m 74 t = a) (ht : 0 ≤ t ∧ t < 1260) (hc : mNd m lo hi (m 72 t) f p1) (hc2 : mNd m lo hi (m 73 t) g p2) : mSy m t (d_two a 34 f g) (p1 + p2 + 1) := by
  have hp := hc.2.1
  have hp2 := hc2.2.1
  intro d Q a0 w hd hA ok ab h59 hQ hQe
  obtain ⟨k, hk⟩ : ∃ k, d = k + 1 := ⟨d - 1, by omega⟩
  have fz := fr_Z.rfl m
  refine am_in (k := k) rfl (by omega) (fun d hd => ?_)
  have ab0 := ab
  have hA0 := hA
  have p74 := h74
  have p71 := h71
  refine am_go 400 [] (am_wpc_cm _ _ _) wf_299 ?_
  refine And.intro (rfl) ?_
  refine And.intro (fun _ => ?_) (fun h => absurd h (by omega))
  refine And.intro (rfl) ?_
  refine And.intro (⟨rfl, ht⟩) ?_
  refine And.intro (fun _ => ?_) (fun h => absurd h (by omega))
  refine And.intro rfl ?_
  refine And.intro (And.intro (fun h1 => absurd h1 (by omega)) (And.intro (fun h1 => absurd h1 (by omega)) (And.intro (fun h1 => absurd h1 (by omega)) (And.intro (fun h1 => absurd h1 (by omega)) (And.intro (fun h1 => absurd h1 (by omega)) (And.intro (fun h1 => absurd h1 (by omega)) (And.intro (fun h1 => absurd h1 (by omega)) (And.intro (fun h1 => absurd h1 (by omega)) (And.intro (fun h1 => absurd h1 (by omega)) (True.intro)))))))))) (fun h1 => ?_)
  · refine And.intro (rfl) ?_
    refine And.intro (⟨rfl, ht⟩) ?_
    refine And.intro (rfl) ?_
    refine (hc.2.2.2 m (fz.kp lo hi)) _ _ a0 w (by omega) (fz.row hA0) ok ((fz 41 61 (by omega)).trans ab0) (by omega) (fun s1 v1 e1 m1 fz1 g57 g58 g59 => ?_) (fun c1 q1 e1 m1 fz1 g59 g1 gq => ?_)
    · have fz := fz.trans fz1
      have h57a := g57
      have h58a := g58
      have h59 := g59
      have ab := (fz 41 61 (by omega)).trans ab0
      have hA := fz.row hA0
      have p74 : m1 74 t = a := (fz 74 t (by omega)).trans h74
      have p71 : m1 71 t = _ := (fz 71 t (by omega)).trans h71
      refine And.intro (rfl) ?_
      refine am_in (k := 1) rfl (by omega) (fun d hd => ?_)
      refine am_go 400 [] (am_wpc_cm _ _ _) wf_305 ?_
      refine And.intro (rfl) ?_
      refine And.intro (fun h => absurd h (by omega)) (fun _ => ?_)
      refine And.intro (rfl) ?_
      refine And.intro (fun h2 => ?_) (fun h2 => ?_)
      · refine And.intro (rfl) ?_
        refine And.intro (fun h => absurd h (by first | omega | (simp only [mS_iff, eq_self, Int.reduceEq, true_and, and_true, false_and, and_false, and_self, ↓reduceIte]; first | omega | decide))) (fun _ => ?_)
        refine And.intro (rfl) ?_
        refine And.intro (fun h3 => ?_) (fun h3 => ?_)
        · replace h3 := am_lc_eq.mp h3
          refine And.intro (fun h4 => ?_) (fun h4 => ?_)
          · refine And.intro (fun h => absurd h (by decide)) (fun _ => ?_)
            refine And.intro (rfl) ?_
            refine And.intro (⟨rfl, ht⟩) ?_
            rw [show m1 73 t = m 73 t from fz 73 t (by omega)]
            refine And.intro (rfl) ?_
            refine (hc2.2.2.2 m1 (fz.kp lo hi)) _ _ a0 w (by omega) (fz.row hA0) ok ((fz 41 61 (by omega)).trans ab0) (by omega) (fun s2 v2 e2 m2 fz2 g57 g58 g59 => ?_) (fun c2 q2 e2 m2 fz2 g59 g1 gq => ?_)
            · have fz := fz.trans fz2
              have h57b := g57
              have h58b := g58
              have h59 := g59
              have ab := (fz 41 61 (by omega)).trans ab0
              have hA := fz.row hA0
              have p74 : m2 74 t = a := (fz 74 t (by omega)).trans h74
              have p71 : m2 71 t = _ := (fz 71 t (by omega)).trans h71
              refine And.intro (rfl) ?_
              refine am_in (k := 1) rfl (by omega) (fun d hd => ?_)
              refine am_go 400 [] (am_wpc_cm _ _ _) wf_305 ?_
              refine And.intro (rfl) ?_
              refine And.intro (fun h => absurd h (by omega)) (fun _ => ?_)
              refine And.intro (rfl) ?_
              refine And.intro (fun h5 => ?_) (fun h5 => ?_)
              · refine And.intro (rfl) ?_
                refine And.intro (fun h6 => ?_) (fun h6 => ?_)
                · replace h6 := am_lc_eq.mp h6
                  refine And.intro (rfl) ?_
                  exact hQ 0 0 ((d2_o2 (by omega) e1 (by omega) (by omega)).trans ((d_bd_r e2).trans (by rw [if_pos (by omega), d_tw_0 (v := v2) (by omega)]))) _ (fz.S (by omega)) (by first | assumption | omega | (simp only [mS_iff, eq_self, Int.reduceEq, true_and, and_true, false_and, and_false, and_self, ↓reduceIte] <;> first | omega | assumption | done)) (by first | assumption | omega | (simp only [mS_iff, eq_self, Int.reduceEq, true_and, and_true, false_and, and_false, and_self, ↓reduceIte] <;> first | omega | assumption | done)) (by first | assumption | omega | (simp only [mS_iff, eq_self, Int.reduceEq, true_and, and_true, false_and, and_false, and_self, ↓reduceIte] <;> first | omega | assumption | done))
                · replace h6 := am_lc_ne.mp h6
                  refine And.intro (rfl) ?_
                  exact hQ 0 1 ((d2_o2 (by omega) e1 (by omega) (by omega)).trans ((d_bd_r e2).trans (by rw [if_pos (by omega), d_tw_1 (v := v2) (by omega)]))) _ (fz.S (by omega)) (by first | assumption | omega | (simp only [mS_iff, eq_self, Int.reduceEq, true_and, and_true, false_and, and_false, and_self, ↓reduceIte] <;> first | omega | assumption | done)) (by first | assumption | omega | (simp only [mS_iff, eq_self, Int.reduceEq, true_and, and_true, false_and, and_false, and_self, ↓reduceIte] <;> first | omega | assumption | done)) (by first | assumption | omega | (simp only [mS_iff, eq_self, Int.reduceEq, true_and, and_true, false_and, and_false, and_self, ↓reduceIte] <;> first | omega | assumption | done))
              · refine And.intro (rfl) ?_
                refine am_in (k := 0) rfl (by omega) (fun d hd => ?_)
                refine am_go 400 [] (am_wpc_cm _ _ _) wf_302 ?_
                refine And.intro (rfl) ?_
                refine And.intro (fun h => absurd h (by omega)) (fun _ => ?_)
                refine And.intro (rfl) ?_
                refine And.intro (rfl) ?_
                refine And.intro (⟨rfl, ht⟩) ?_
                refine And.intro (rfl) ?_
                refine And.intro (rfl) ?_
                refine And.intro (fun h7 => ?_) (fun h7 => ?_)
                · replace h7 := am_lc_eq.mp h7
                  refine And.intro (rfl) ?_
                  exact hQe 2 a ((d2_o2 (by omega) e1 (by omega) (by omega)).trans ((d_bd_r e2).trans (by rw [if_neg (by omega)]))) _ (((fz.S (by omega)).S (by omega)).S (by omega)) (by first | assumption | omega | (simp only [mS_iff, eq_self, Int.reduceEq, true_and, and_true, false_and, and_false, and_self, ↓reduceIte] <;> first | omega | assumption | done)) (by omega) (by first | assumption | omega | (simp only [mS_iff, eq_self, Int.reduceEq, true_and, and_true, false_and, and_false, and_self, ↓reduceIte] <;> first | omega | assumption | done))
                · replace h7 := am_lc_ne.mp h7
                  refine And.intro (rfl) ?_
                  exact hQe 2 a ((d2_o2 (by omega) e1 (by omega) (by omega)).trans ((d_bd_r e2).trans (by rw [if_neg (by omega)]))) _ (((fz.S (by omega)).S (by omega)).S (by omega)) (by first | assumption | omega | (simp only [mS_iff, eq_self, Int.reduceEq, true_and, and_true, false_and, and_false, and_self, ↓reduceIte] <;> first | omega | assumption | done)) (by omega) (by first | assumption | omega | (simp only [mS_iff, eq_self, Int.reduceEq, true_and, and_true, false_and, and_false, and_self, ↓reduceIte] <;> first | omega | assumption | done))
            · have fz := fz.trans fz2
              have h59 := g59
              refine And.intro (rfl) ?_
              refine am_in (k := 1) rfl (by omega) (fun d hd => ?_)
              refine am_go 400 [] (am_wpc_cm _ _ _) wf_305 ?_
              refine And.intro (rfl) ?_
              refine And.intro (fun _ => ?_) (fun h => absurd h (by omega))
              refine And.intro (rfl) ?_
              refine And.intro (fun h8 => ?_) (fun h8 => ?_)
              · replace h8 := am_lc_eq.mp h8
                refine And.intro (rfl) ?_
                exact hQe c2 q2 ((d2_o2 (by omega) e1 (by omega) (by omega)).trans (d_bd_l e2)) _ (fz.S (by omega)) (by first | assumption | omega | (simp only [mS_iff, eq_self, Int.reduceEq, true_and, and_true, false_and, and_false, and_self, ↓reduceIte] <;> first | omega | assumption | done)) g1 (by first | assumption | omega | (simp only [mS_iff, eq_self, Int.reduceEq, true_and, and_true, false_and, and_false, and_self, ↓reduceIte] <;> first | omega | assumption | done))
              · replace h8 := am_lc_ne.mp h8
                refine And.intro (rfl) ?_
                exact hQe c2 q2 ((d2_o2 (by omega) e1 (by omega) (by omega)).trans (d_bd_l e2)) _ (fz.S (by omega)) (by first | assumption | omega | (simp only [mS_iff, eq_self, Int.reduceEq, true_and, and_true, false_and, and_false, and_self, ↓reduceIte] <;> first | omega | assumption | done)) g1 (by first | assumption | omega | (simp only [mS_iff, eq_self, Int.reduceEq, true_and, and_true, false_and, and_false, and_self, ↓reduceIte] <;> first | omega | assumption | done))
          · refine And.intro (fun _ => ?_) (fun h => absurd h (by decide))
            refine And.intro (rfl) ?_
            refine And.intro (fun h9 => ?_) (fun h9 => ?_)
            · replace h9 := am_lc_eq.mp h9
              refine And.intro (rfl) ?_
              exact hQ 0 0 ((d2_o1 (by omega) e1 (by omega) (by omega)).trans (by rw [d_tw_0 (v := v1) (by omega)])) _ (fz.S (by omega)) (by first | assumption | omega | (simp only [mS_iff, eq_self, Int.reduceEq, true_and, and_true, false_and, and_false, and_self, ↓reduceIte] <;> first | omega | assumption | done)) (by first | assumption | omega | (simp only [mS_iff, eq_self, Int.reduceEq, true_and, and_true, false_and, and_false, and_self, ↓reduceIte] <;> first | omega | assumption | done)) (by first | assumption | omega | (simp only [mS_iff, eq_self, Int.reduceEq, true_and, and_true, false_and, and_false, and_self, ↓reduceIte] <;> first | omega | assumption | done))
            · replace h9 := am_lc_ne.mp h9
              refine And.intro (rfl) ?_
              exact hQ 0 1 ((d2_o1 (by omega) e1 (by omega) (by omega)).trans (by rw [d_tw_1 (v := v1) (by omega)])) _ (fz.S (by omega)) (by first | assumption | omega | (simp only [mS_iff, eq_self, Int.reduceEq, true_and, and_true, false_and, and_false, and_self, ↓reduceIte] <;> first | omega | assumption | done)) (by first | assumption | omega | (simp only [mS_iff, eq_self, Int.reduceEq, true_and, and_true, false_and, and_false, and_self, ↓reduceIte] <;> first | omega | assumption | done)) (by first | assumption | omega | (simp only [mS_iff, eq_self, Int.reduceEq, true_and, and_true, false_and, and_false, and_self, ↓reduceIte] <;> first | omega | assumption | done))
        · replace h3 := am_lc_ne.mp h3
          refine And.intro (fun h10 => ?_) (fun h10 => ?_)
          · refine And.intro (fun _ => ?_) (fun h => absurd h (by decide))
            refine And.intro (rfl) ?_
            refine And.intro (fun h11 => ?_) (fun h11 => ?_)
            · replace h11 := am_lc_eq.mp h11
              refine And.intro (rfl) ?_
              exact hQ 0 0 ((d2_o1 (by omega) e1 (by omega) (by omega)).trans (by rw [d_tw_0 (v := v1) (by omega)])) _ (fz.S (by omega)) (by first | assumption | omega | (simp only [mS_iff, eq_self, Int.reduceEq, true_and, and_true, false_and, and_false, and_self, ↓reduceIte] <;> first | omega | assumption | done)) (by first | assumption | omega | (simp only [mS_iff, eq_self, Int.reduceEq, true_and, and_true, false_and, and_false, and_self, ↓reduceIte] <;> first | omega | assumption | done)) (by first | assumption | omega | (simp only [mS_iff, eq_self, Int.reduceEq, true_and, and_true, false_and, and_false, and_self, ↓reduceIte] <;> first | omega | assumption | done))
            · replace h11 := am_lc_ne.mp h11
              refine And.intro (rfl) ?_
              exact hQ 0 1 ((d2_o1 (by omega) e1 (by omega) (by omega)).trans (by rw [d_tw_1 (v := v1) (by omega)])) _ (fz.S (by omega)) (by first | assumption | omega | (simp only [mS_iff, eq_self, Int.reduceEq, true_and, and_true, false_and, and_false, and_self, ↓reduceIte] <;> first | omega | assumption | done)) (by first | assumption | omega | (simp only [mS_iff, eq_self, Int.reduceEq, true_and, and_true, false_and, and_false, and_self, ↓reduceIte] <;> first | omega | assumption | done)) (by first | assumption | omega | (simp only [mS_iff, eq_self, Int.reduceEq, true_and, and_true, false_and, and_false, and_self, ↓reduceIte] <;> first | omega | assumption | done))
          · refine And.intro (fun h => absurd h (by decide)) (fun _ => ?_)
            refine And.intro (rfl) ?_
            refine And.intro (⟨rfl, ht⟩) ?_
            rw [show m1 73 t = m 73 t from fz 73 t (by omega)]
            refine And.intro (rfl) ?_
            refine (hc2.2.2.2 m1 (fz.kp lo hi)) _ _ a0 w (by omega) (fz.row hA0) ok ((fz 41 61 (by omega)).trans ab0) (by omega) (fun s2 v2 e2 m2 fz2 g57 g58 g59 => ?_) (fun c2 q2 e2 m2 fz2 g59 g1 gq => ?_)
            · have fz := fz.trans fz2
              have h57b := g57
              have h58b := g58
              have h59 := g59
              have ab := (fz 41 61 (by omega)).trans ab0
              have hA := fz.row hA0
              have p74 : m2 74 t = a := (fz 74 t (by omega)).trans h74
              have p71 : m2 71 t = _ := (fz 71 t (by omega)).trans h71
              refine And.intro (rfl) ?_
              refine am_in (k := 1) rfl (by omega) (fun d hd => ?_)
              refine am_go 400 [] (am_wpc_cm _ _ _) wf_305 ?_
              refine And.intro (rfl) ?_
              refine And.intro (fun h => absurd h (by omega)) (fun _ => ?_)
              refine And.intro (rfl) ?_
              refine And.intro (fun h12 => ?_) (fun h12 => ?_)
              · refine And.intro (rfl) ?_
                refine And.intro (fun h13 => ?_) (fun h13 => ?_)
                · replace h13 := am_lc_eq.mp h13
                  refine And.intro (rfl) ?_
                  exact hQ 0 0 ((d2_o2 (by omega) e1 (by omega) (by omega)).trans ((d_bd_r e2).trans (by rw [if_pos (by omega), d_tw_0 (v := v2) (by omega)]))) _ (fz.S (by omega)) (by first | assumption | omega | (simp only [mS_iff, eq_self, Int.reduceEq, true_and, and_true, false_and, and_false, and_self, ↓reduceIte] <;> first | omega | assumption | done)) (by first | assumption | omega | (simp only [mS_iff, eq_self, Int.reduceEq, true_and, and_true, false_and, and_false, and_self, ↓reduceIte] <;> first | omega | assumption | done)) (by first | assumption | omega | (simp only [mS_iff, eq_self, Int.reduceEq, true_and, and_true, false_and, and_false, and_self, ↓reduceIte] <;> first | omega | assumption | done))
                · replace h13 := am_lc_ne.mp h13
                  refine And.intro (rfl) ?_
                  exact hQ 0 1 ((d2_o2 (by omega) e1 (by omega) (by omega)).trans ((d_bd_r e2).trans (by rw [if_pos (by omega), d_tw_1 (v := v2) (by omega)]))) _ (fz.S (by omega)) (by first | assumption | omega | (simp only [mS_iff, eq_self, Int.reduceEq, true_and, and_true, false_and, and_false, and_self, ↓reduceIte] <;> first | omega | assumption | done)) (by first | assumption | omega | (simp only [mS_iff, eq_self, Int.reduceEq, true_and, and_true, false_and, and_false, and_self, ↓reduceIte] <;> first | omega | assumption | done)) (by first | assumption | omega | (simp only [mS_iff, eq_self, Int.reduceEq, true_and, and_true, false_and, and_false, and_self, ↓reduceIte] <;> first | omega | assumption | done))
              · refine And.intro (rfl) ?_
                refine am_in (k := 0) rfl (by omega) (fun d hd => ?_)
                refine am_go 400 [] (am_wpc_cm _ _ _) wf_302 ?_
                refine And.intro (rfl) ?_
                refine And.intro (fun h => absurd h (by omega)) (fun _ => ?_)
                refine And.intro (rfl) ?_
                refine And.intro (rfl) ?_
                refine And.intro (⟨rfl, ht⟩) ?_
                refine And.intro (rfl) ?_
                refine And.intro (rfl) ?_
                refine And.intro (fun h14 => ?_) (fun h14 => ?_)
                · replace h14 := am_lc_eq.mp h14
                  refine And.intro (rfl) ?_
                  exact hQe 2 a ((d2_o2 (by omega) e1 (by omega) (by omega)).trans ((d_bd_r e2).trans (by rw [if_neg (by omega)]))) _ (((fz.S (by omega)).S (by omega)).S (by omega)) (by first | assumption | omega | (simp only [mS_iff, eq_self, Int.reduceEq, true_and, and_true, false_and, and_false, and_self, ↓reduceIte] <;> first | omega | assumption | done)) (by omega) (by first | assumption | omega | (simp only [mS_iff, eq_self, Int.reduceEq, true_and, and_true, false_and, and_false, and_self, ↓reduceIte] <;> first | omega | assumption | done))
                · replace h14 := am_lc_ne.mp h14
                  refine And.intro (rfl) ?_
                  exact hQe 2 a ((d2_o2 (by omega) e1 (by omega) (by omega)).trans ((d_bd_r e2).trans (by rw [if_neg (by omega)]))) _ (((fz.S (by omega)).S (by omega)).S (by omega)) (by first | assumption | omega | (simp only [mS_iff, eq_self, Int.reduceEq, true_and, and_true, false_and, and_false, and_self, ↓reduceIte] <;> first | omega | assumption | done)) (by omega) (by first | assumption | omega | (simp only [mS_iff, eq_self, Int.reduceEq, true_and, and_true, false_and, and_false, and_self, ↓reduceIte] <;> first | omega | assumption | done))
            · have fz := fz.trans fz2
              have h59 := g59
              refine And.intro (rfl) ?_
              refine am_in (k := 1) rfl (by omega) (fun d hd => ?_)
              refine am_go 400 [] (am_wpc_cm _ _ _) wf_305 ?_
              refine And.intro (rfl) ?_
              refine And.intro (fun _ => ?_) (fun h => absurd h (by omega))
              refine And.intro (rfl) ?_
              refine And.intro (fun h15 => ?_) (fun h15 => ?_)
              · replace h15 := am_lc_eq.mp h15
                refine And.intro (rfl) ?_
                exact hQe c2 q2 ((d2_o2 (by omega) e1 (by omega) (by omega)).trans (d_bd_l e2)) _ (fz.S (by omega)) (by first | assumption | omega | (simp only [mS_iff, eq_self, Int.reduceEq, true_and, and_true, false_and, and_false, and_self, ↓reduceIte] <;> first | omega | assumption | done)) g1 (by first | assumption | omega | (simp only [mS_iff, eq_self, Int.reduceEq, true_and, and_true, false_and, and_false, and_self, ↓reduceIte] <;> first | omega | assumption | done))
              · replace h15 := am_lc_ne.mp h15
                refine And.intro (rfl) ?_
                exact hQe c2 q2 ((d2_o2 (by omega) e1 (by omega) (by omega)).trans (d_bd_l e2)) _ (fz.S (by omega)) (by first | assumption | omega | (simp only [mS_iff, eq_self, Int.reduceEq, true_and, and_true, false_and, and_false, and_self, ↓reduceIte] <;> first | omega | assumption | done)) g1 (by first | assumption | omega | (simp only [mS_iff, eq_self, Int.reduceEq, true_and, and_true, false_and, and_false, and_self, ↓reduceIte] <;> first | omega | assumption | done))
      · refine And.intro (rfl) ?_
        refine am_in (k := 0) rfl (by omega) (fun d hd => ?_)
        refine am_go 400 [] (am_wpc_cm _ _ _) wf_302 ?_
        refine And.intro (rfl) ?_
        refine And.intro (fun h => absurd h (by omega)) (fun _ => ?_)
        refine And.intro (rfl) ?_
        refine And.intro (rfl) ?_
        refine And.intro (⟨rfl, ht⟩) ?_
        refine And.intro (rfl) ?_
        refine And.intro (rfl) ?_
        refine And.intro (fun _ => ?_) (fun h => absurd h (by first | omega | (simp only [mS_iff, eq_self, Int.reduceEq, true_and, and_true, false_and, and_false, and_self, ↓reduceIte]; first | omega | decide)))
        refine And.intro (rfl) ?_
        refine And.intro (fun h16 => ?_) (fun h16 => ?_)
        · replace h16 := am_lc_eq.mp h16
          refine And.intro (rfl) ?_
          exact hQe 2 a (d2_o0 (by omega) e1 (by omega)) _ (((fz.S (by omega)).S (by omega)).S (by omega)) (by first | assumption | omega | (simp only [mS_iff, eq_self, Int.reduceEq, true_and, and_true, false_and, and_false, and_self, ↓reduceIte] <;> first | omega | assumption | done)) (by omega) (by first | assumption | omega | (simp only [mS_iff, eq_self, Int.reduceEq, true_and, and_true, false_and, and_false, and_self, ↓reduceIte] <;> first | omega | assumption | done))
        · replace h16 := am_lc_ne.mp h16
          refine And.intro (rfl) ?_
          exact hQe 2 a (d2_o0 (by omega) e1 (by omega)) _ (((fz.S (by omega)).S (by omega)).S (by omega)) (by first | assumption | omega | (simp only [mS_iff, eq_self, Int.reduceEq, true_and, and_true, false_and, and_false, and_self, ↓reduceIte] <;> first | omega | assumption | done)) (by omega) (by first | assumption | omega | (simp only [mS_iff, eq_self, Int.reduceEq, true_and, and_true, false_and, and_false, and_self, ↓reduceIte] <;> first | omega | assumption | done))
    · have fz := fz.trans fz1
      have h59 := g59
      refine And.intro (rfl) ?_
      refine am_in (k := 1) rfl (by omega) (fun d hd => ?_)
      refine am_go 400 [] (am_wpc_cm _ _ _) wf_305 ?_
      refine And.intro (rfl) ?_
      refine And.intro (fun _ => ?_) (fun h => absurd h (by omega))
      refine And.intro (rfl) ?_
      refine And.intro (fun _ => ?_) (fun h => absurd h (by first | omega | (simp only [mS_iff, eq_self, Int.reduceEq, true_and, and_true, false_and, and_false, and_self, ↓reduceIte]; first | omega | decide)))
      refine And.intro (rfl) ?_
      refine And.intro (fun h17 => ?_) (fun h17 => ?_)
      · replace h17 := am_lc_eq.mp h17
        refine And.intro (rfl) ?_
        exact hQe c1 q1 (d2_l e1) _ (fz.S (by omega)) (by first | assumption | omega | (simp only [mS_iff, eq_self, Int.reduceEq, true_and, and_true, false_and, and_false, and_self, ↓reduceIte] <;> first | omega | assumption | done)) g1 (by first | assumption | omega | (simp only [mS_iff, eq_self, Int.reduceEq, true_and, and_true, false_and, and_false, and_self, ↓reduceIte] <;> first | omega | assumption | done))
      · replace h17 := am_lc_ne.mp h17
        refine And.intro (rfl) ?_
        exact hQe c1 q1 (d2_l e1) _ (fz.S (by omega)) (by first | assumption | omega | (simp only [mS_iff, eq_self, Int.reduceEq, true_and, and_true, false_and, and_false, and_self, ↓reduceIte] <;> first | omega | assumption | done)) g1 (by first | assumption | omega | (simp only [mS_iff, eq_self, Int.reduceEq, true_and, and_true, false_and, and_false, and_self, ↓reduceIte] <;> first | omega | assumption | done))
theorem mSy_sign {m : aM} {lo hi t a s p1 p2 : Int} {f g : aD} (h71 : m 71 t = s) (h74 : m 74 t = a) (ht : 0 ≤ t ∧ t < 1260) (hs : s = 161 ∨ s = 160 ∨ s = 143 ∨ s = 145 ∨ s = 142 ∨ s = 147) (hc : mNd m lo hi (m 72 t) f p1) (hc2 : mNd m lo hi (m 73 t) g p2) : mSy m t (d_two a s f g) (p1 + p2 + 1) := by
  have hp := hc.2.1
  have hp2 := hc2.2.1
  intro d Q a0 w hd hA ok ab h59 hQ hQe
  obtain ⟨k, hk⟩ : ∃ k, d = k + 1 := ⟨d - 1, by omega⟩
  have fz := fr_Z.rfl m
  refine am_in (k := k) rfl (by omega) (fun d hd => ?_)
  have ab0 := ab
  have hA0 := hA
  have p74 := h74
  have p71 := h71
  refine am_go 400 [] (am_wpc_cm _ _ _) wf_299 ?_
  refine And.intro (rfl) ?_
  refine And.intro (fun _ => ?_) (fun h => absurd h (by omega))
  refine And.intro (rfl) ?_
  refine And.intro (⟨rfl, ht⟩) ?_
  refine And.intro (fun h => absurd h (by omega)) (fun _ => ?_)
  refine And.intro (show -2147483648 ≤ (m 71 t) - 100 ∧ (m 71 t) - 100 ≤ 2147483647 by first | omega | (simp only [mS_iff, eq_self, Int.reduceEq, true_and, and_true, false_and, and_false, and_self, ↓reduceIte]; omega) | (simp only [mS_iff, eq_self, Int.reduceEq, true_and, and_true, false_and, and_false, and_self, ↓reduceIte] at *; omega)) ?_
  refine And.intro (rfl) ?_
  refine am_in (k := k - 1) rfl (by omega) (fun d hd => ?_)
  refine am_go 400 [] (am_wpc_cm _ _ _) wf_300 ?_
  refine And.intro (rfl) ?_
  refine And.intro (⟨rfl, ht⟩) ?_
  refine And.intro (rfl) ?_
  refine (hc.2.2.2 m (fz.kp lo hi)) _ _ a0 w (by omega) (fz.row hA0) ok ((fz 41 61 (by omega)).trans ab0) (by omega) (fun s1 v1 e1 m1 fz1 g57 g58 g59 => ?_) (fun c1 q1 e1 m1 fz1 g59 g1 gq => ?_)
  · have fz := fz.trans fz1
    have h57a := g57
    have h58a := g58
    have h59 := g59
    have ab := (fz 41 61 (by omega)).trans ab0
    have hA := fz.row hA0
    have p74 : m1 74 t = a := (fz 74 t (by omega)).trans h74
    have p71 : m1 71 t = _ := (fz 71 t (by omega)).trans h71
    refine And.intro (rfl) ?_
    refine And.intro (rfl) ?_
    refine And.intro (rfl) ?_
    refine And.intro (⟨rfl, ht⟩) ?_
    rw [show m1 73 t = m 73 t from fz 73 t (by omega)]
    refine And.intro (rfl) ?_
    refine (hc2.2.2.2 m1 (fz.kp lo hi)) _ _ a0 w (by omega) (fz.row hA0) ok ((fz 41 61 (by omega)).trans ab0) (by omega) (fun s2 v2 e2 m2 fz2 g57 g58 g59 => ?_) (fun c2 q2 e2 m2 fz2 g59 g1 gq => ?_)
    · have fz := fz.trans fz2
      have h57b := g57
      have h58b := g58
      have h59 := g59
      have ab := (fz 41 61 (by omega)).trans ab0
      have hA := fz.row hA0
      have p74 : m2 74 t = a := (fz 74 t (by omega)).trans h74
      have p71 : m2 71 t = _ := (fz 71 t (by omega)).trans h71
      refine And.intro (rfl) ?_
      refine And.intro (fun _ => ?_) (fun h => absurd h (by omega))
      refine And.intro (fun h1 => ?_) (fun h1 => ?_)
      · refine And.intro (fun h2 => ?_) (fun h2 => ?_)
        · refine And.intro (rfl) ?_
          refine am_in (k := 0) rfl (by omega) (fun d hd => ?_)
          refine am_go 400 [] (am_wpc_cm _ _ _) wf_302 ?_
          refine And.intro (rfl) ?_
          refine And.intro (fun h => absurd h (by omega)) (fun _ => ?_)
          refine And.intro (rfl) ?_
          refine And.intro (rfl) ?_
          refine And.intro (⟨rfl, ht⟩) ?_
          refine And.intro (rfl) ?_
          exact hQe 2 a ((d2_a (by omega) e1).trans ((d_bd_r e2).trans (by rw [if_neg (by omega), if_neg (by omega)]))) _ ((fz.S (by omega)).S (by omega)) (by first | assumption | omega | (simp only [mS_iff, eq_self, Int.reduceEq, true_and, and_true, false_and, and_false, and_self, ↓reduceIte] <;> first | omega | assumption | done)) (by omega) (by first | assumption | omega | (simp only [mS_iff, eq_self, Int.reduceEq, true_and, and_true, false_and, and_false, and_self, ↓reduceIte] <;> first | omega | assumption | done))
        · refine And.intro (rfl) ?_
          refine And.intro (fun h3 => ?_) (fun h3 => ?_)
          · refine And.intro (rfl) ?_
            refine And.intro (fun h4 => ?_) (fun h4 => ?_)
            · refine And.intro (fun h5 => ?_) (fun h5 => ?_)
              · refine And.intro (fun h6 => ?_) (fun h6 => ?_)
                · refine And.intro (fun h7 => ?_) (fun h7 => ?_)
                  · refine And.intro (fun h8 => ?_) (fun h8 => ?_)
                    · skip
                      refine And.intro (fun _ => ?_) (fun h => absurd h (by omega))
                      refine And.intro (rfl) ?_
                      refine am_in (k := 0) rfl (by omega) (fun d hd => ?_)
                      refine am_go 400 [] (am_wpc_cm _ _ _) wf_301 ?_
                      refine And.intro (rfl) ?_
                      refine And.intro (rfl) ?_
                      exact hQ 0 (am_ldiv (m1 41 58) (m2 41 58)) ((d2_a (by omega) e1).trans ((d_bd_r e2).trans (by rw [if_neg (by omega), if_pos (by omega)]; rw [show s = 147 by omega, d_c2_147]; rw [if_neg (by omega), ← h58a, ← h58b]))) _ ((fz.S (by omega)).S (by omega)) (by first | assumption | omega | (simp only [mS_iff, eq_self, Int.reduceEq, true_and, and_true, false_and, and_false, and_self, ↓reduceIte] <;> first | omega | assumption | done)) (by first | assumption | omega | (simp only [mS_iff, eq_self, Int.reduceEq, true_and, and_true, false_and, and_false, and_self, ↓reduceIte] <;> first | omega | assumption | done)) (by first | assumption | omega | (simp only [mS_iff, eq_self, Int.reduceEq, true_and, and_true, false_and, and_false, and_self, ↓reduceIte] <;> first | omega | assumption | done))
                    · skip
                      refine And.intro (rfl) ?_
                      refine am_in (k := 0) rfl (by omega) (fun d hd => ?_)
                      refine am_go 400 [] (am_wpc_cm _ _ _) wf_301 ?_
                      refine And.intro (rfl) ?_
                      refine And.intro (rfl) ?_
                      exact hQ 0 (am_lmul (m1 41 58) (m2 41 58)) ((d2_a (by omega) e1).trans ((d_bd_r e2).trans (by rw [if_neg (by omega), if_pos (by omega)]; rw [show s = 142 by omega, d_c2_142]; rw [← h58a, ← h58b]))) _ ((fz.S (by omega)).S (by omega)) (by first | assumption | omega | (simp only [mS_iff, eq_self, Int.reduceEq, true_and, and_true, false_and, and_false, and_self, ↓reduceIte] <;> first | omega | assumption | done)) (by first | assumption | omega | (simp only [mS_iff, eq_self, Int.reduceEq, true_and, and_true, false_and, and_false, and_self, ↓reduceIte] <;> first | omega | assumption | done)) (by first | assumption | omega | (simp only [mS_iff, eq_self, Int.reduceEq, true_and, and_true, false_and, and_false, and_self, ↓reduceIte] <;> first | omega | assumption | done))
                  · skip
                    refine And.intro (rfl) ?_
                    refine am_in (k := 0) rfl (by omega) (fun d hd => ?_)
                    refine am_go 400 [] (am_wpc_cm _ _ _) wf_301 ?_
                    refine And.intro (rfl) ?_
                    refine And.intro (rfl) ?_
                    exact hQ 0 (am_lsub (m1 41 58) (m2 41 58)) ((d2_a (by omega) e1).trans ((d_bd_r e2).trans (by rw [if_neg (by omega), if_pos (by omega)]; rw [show s = 145 by omega, d_c2_145]; rw [← h58a, ← h58b]))) _ ((fz.S (by omega)).S (by omega)) (by first | assumption | omega | (simp only [mS_iff, eq_self, Int.reduceEq, true_and, and_true, false_and, and_false, and_self, ↓reduceIte] <;> first | omega | assumption | done)) (by first | assumption | omega | (simp only [mS_iff, eq_self, Int.reduceEq, true_and, and_true, false_and, and_false, and_self, ↓reduceIte] <;> first | omega | assumption | done)) (by first | assumption | omega | (simp only [mS_iff, eq_self, Int.reduceEq, true_and, and_true, false_and, and_false, and_self, ↓reduceIte] <;> first | omega | assumption | done))
                · skip
                  refine And.intro (rfl) ?_
                  refine am_in (k := 0) rfl (by omega) (fun d hd => ?_)
                  refine am_go 400 [] (am_wpc_cm _ _ _) wf_301 ?_
                  refine And.intro (rfl) ?_
                  refine And.intro (rfl) ?_
                  exact hQ 0 (am_ladd (m1 41 58) (m2 41 58)) ((d2_a (by omega) e1).trans ((d_bd_r e2).trans (by rw [if_neg (by omega), if_pos (by omega)]; rw [show s = 143 by omega, d_c2_143]; rw [← h58a, ← h58b]))) _ ((fz.S (by omega)).S (by omega)) (by first | assumption | omega | (simp only [mS_iff, eq_self, Int.reduceEq, true_and, and_true, false_and, and_false, and_self, ↓reduceIte] <;> first | omega | assumption | done)) (by first | assumption | omega | (simp only [mS_iff, eq_self, Int.reduceEq, true_and, and_true, false_and, and_false, and_self, ↓reduceIte] <;> first | omega | assumption | done)) (by first | assumption | omega | (simp only [mS_iff, eq_self, Int.reduceEq, true_and, and_true, false_and, and_false, and_self, ↓reduceIte] <;> first | omega | assumption | done))
              · skip
                refine And.intro (fun h9 => ?_) (fun h9 => ?_)
                · replace h9 := am_lc_ge.mp h9
                  refine And.intro (rfl) ?_
                  refine am_in (k := 0) rfl (by omega) (fun d hd => ?_)
                  refine am_go 400 [] (am_wpc_cm _ _ _) wf_301 ?_
                  refine And.intro (rfl) ?_
                  refine And.intro (rfl) ?_
                  exact hQ 0 0 ((d2_a (by omega) e1).trans ((d_bd_r e2).trans (by rw [if_neg (by omega), if_pos (by omega)]; rw [show s = 160 by omega, d_c2_160]; rw [if_neg (by omega)]))) _ ((fz.S (by omega)).S (by omega)) (by first | assumption | omega | (simp only [mS_iff, eq_self, Int.reduceEq, true_and, and_true, false_and, and_false, and_self, ↓reduceIte] <;> first | omega | assumption | done)) (by first | assumption | omega | (simp only [mS_iff, eq_self, Int.reduceEq, true_and, and_true, false_and, and_false, and_self, ↓reduceIte] <;> first | omega | assumption | done)) (by first | assumption | omega | (simp only [mS_iff, eq_self, Int.reduceEq, true_and, and_true, false_and, and_false, and_self, ↓reduceIte] <;> first | omega | assumption | done))
                · replace h9 := am_lc_lt.mp h9
                  refine And.intro (rfl) ?_
                  refine am_in (k := 0) rfl (by omega) (fun d hd => ?_)
                  refine am_go 400 [] (am_wpc_cm _ _ _) wf_301 ?_
                  refine And.intro (rfl) ?_
                  refine And.intro (rfl) ?_
                  exact hQ 0 1 ((d2_a (by omega) e1).trans ((d_bd_r e2).trans (by rw [if_neg (by omega), if_pos (by omega)]; rw [show s = 160 by omega, d_c2_160]; rw [if_pos (by omega)]))) _ ((fz.S (by omega)).S (by omega)) (by first | assumption | omega | (simp only [mS_iff, eq_self, Int.reduceEq, true_and, and_true, false_and, and_false, and_self, ↓reduceIte] <;> first | omega | assumption | done)) (by first | assumption | omega | (simp only [mS_iff, eq_self, Int.reduceEq, true_and, and_true, false_and, and_false, and_self, ↓reduceIte] <;> first | omega | assumption | done)) (by first | assumption | omega | (simp only [mS_iff, eq_self, Int.reduceEq, true_and, and_true, false_and, and_false, and_self, ↓reduceIte] <;> first | omega | assumption | done))
            · refine And.intro (fun h10 => ?_) (fun h10 => ?_)
              · replace h10 := am_lc_ne.mp h10
                refine And.intro (fun h11 => ?_) (fun h11 => ?_)
                · refine And.intro (fun h12 => ?_) (fun h12 => ?_)
                  · refine And.intro (fun h13 => ?_) (fun h13 => ?_)
                    · refine And.intro (fun h14 => ?_) (fun h14 => ?_)
                      · skip
                        refine And.intro (fun _ => ?_) (fun h => absurd h (by omega))
                        refine And.intro (rfl) ?_
                        refine am_in (k := 0) rfl (by omega) (fun d hd => ?_)
                        refine am_go 400 [] (am_wpc_cm _ _ _) wf_301 ?_
                        refine And.intro (rfl) ?_
                        refine And.intro (rfl) ?_
                        exact hQ 0 (am_ldiv (m1 41 58) (m2 41 58)) ((d2_a (by omega) e1).trans ((d_bd_r e2).trans (by rw [if_neg (by omega), if_pos (by omega)]; rw [show s = 147 by omega, d_c2_147]; rw [if_neg (by omega), ← h58a, ← h58b]))) _ ((fz.S (by omega)).S (by omega)) (by first | assumption | omega | (simp only [mS_iff, eq_self, Int.reduceEq, true_and, and_true, false_and, and_false, and_self, ↓reduceIte] <;> first | omega | assumption | done)) (by first | assumption | omega | (simp only [mS_iff, eq_self, Int.reduceEq, true_and, and_true, false_and, and_false, and_self, ↓reduceIte] <;> first | omega | assumption | done)) (by first | assumption | omega | (simp only [mS_iff, eq_self, Int.reduceEq, true_and, and_true, false_and, and_false, and_self, ↓reduceIte] <;> first | omega | assumption | done))
                      · skip
                        refine And.intro (rfl) ?_
                        refine am_in (k := 0) rfl (by omega) (fun d hd => ?_)
                        refine am_go 400 [] (am_wpc_cm _ _ _) wf_301 ?_
                        refine And.intro (rfl) ?_
                        refine And.intro (rfl) ?_
                        exact hQ 0 (am_lmul (m1 41 58) (m2 41 58)) ((d2_a (by omega) e1).trans ((d_bd_r e2).trans (by rw [if_neg (by omega), if_pos (by omega)]; rw [show s = 142 by omega, d_c2_142]; rw [← h58a, ← h58b]))) _ ((fz.S (by omega)).S (by omega)) (by first | assumption | omega | (simp only [mS_iff, eq_self, Int.reduceEq, true_and, and_true, false_and, and_false, and_self, ↓reduceIte] <;> first | omega | assumption | done)) (by first | assumption | omega | (simp only [mS_iff, eq_self, Int.reduceEq, true_and, and_true, false_and, and_false, and_self, ↓reduceIte] <;> first | omega | assumption | done)) (by first | assumption | omega | (simp only [mS_iff, eq_self, Int.reduceEq, true_and, and_true, false_and, and_false, and_self, ↓reduceIte] <;> first | omega | assumption | done))
                    · skip
                      refine And.intro (rfl) ?_
                      refine am_in (k := 0) rfl (by omega) (fun d hd => ?_)
                      refine am_go 400 [] (am_wpc_cm _ _ _) wf_301 ?_
                      refine And.intro (rfl) ?_
                      refine And.intro (rfl) ?_
                      exact hQ 0 (am_lsub (m1 41 58) (m2 41 58)) ((d2_a (by omega) e1).trans ((d_bd_r e2).trans (by rw [if_neg (by omega), if_pos (by omega)]; rw [show s = 145 by omega, d_c2_145]; rw [← h58a, ← h58b]))) _ ((fz.S (by omega)).S (by omega)) (by first | assumption | omega | (simp only [mS_iff, eq_self, Int.reduceEq, true_and, and_true, false_and, and_false, and_self, ↓reduceIte] <;> first | omega | assumption | done)) (by first | assumption | omega | (simp only [mS_iff, eq_self, Int.reduceEq, true_and, and_true, false_and, and_false, and_self, ↓reduceIte] <;> first | omega | assumption | done)) (by first | assumption | omega | (simp only [mS_iff, eq_self, Int.reduceEq, true_and, and_true, false_and, and_false, and_self, ↓reduceIte] <;> first | omega | assumption | done))
                  · skip
                    refine And.intro (rfl) ?_
                    refine am_in (k := 0) rfl (by omega) (fun d hd => ?_)
                    refine am_go 400 [] (am_wpc_cm _ _ _) wf_301 ?_
                    refine And.intro (rfl) ?_
                    refine And.intro (rfl) ?_
                    exact hQ 0 (am_ladd (m1 41 58) (m2 41 58)) ((d2_a (by omega) e1).trans ((d_bd_r e2).trans (by rw [if_neg (by omega), if_pos (by omega)]; rw [show s = 143 by omega, d_c2_143]; rw [← h58a, ← h58b]))) _ ((fz.S (by omega)).S (by omega)) (by first | assumption | omega | (simp only [mS_iff, eq_self, Int.reduceEq, true_and, and_true, false_and, and_false, and_self, ↓reduceIte] <;> first | omega | assumption | done)) (by first | assumption | omega | (simp only [mS_iff, eq_self, Int.reduceEq, true_and, and_true, false_and, and_false, and_self, ↓reduceIte] <;> first | omega | assumption | done)) (by first | assumption | omega | (simp only [mS_iff, eq_self, Int.reduceEq, true_and, and_true, false_and, and_false, and_self, ↓reduceIte] <;> first | omega | assumption | done))
                · skip
                  refine And.intro (fun h15 => ?_) (fun h15 => ?_)
                  · replace h15 := am_lc_ge.mp h15
                    refine And.intro (rfl) ?_
                    refine am_in (k := 0) rfl (by omega) (fun d hd => ?_)
                    refine am_go 400 [] (am_wpc_cm _ _ _) wf_301 ?_
                    refine And.intro (rfl) ?_
                    refine And.intro (rfl) ?_
                    exact hQ 0 0 ((d2_a (by omega) e1).trans ((d_bd_r e2).trans (by rw [if_neg (by omega), if_pos (by omega)]; rw [show s = 160 by omega, d_c2_160]; rw [if_neg (by omega)]))) _ ((fz.S (by omega)).S (by omega)) (by first | assumption | omega | (simp only [mS_iff, eq_self, Int.reduceEq, true_and, and_true, false_and, and_false, and_self, ↓reduceIte] <;> first | omega | assumption | done)) (by first | assumption | omega | (simp only [mS_iff, eq_self, Int.reduceEq, true_and, and_true, false_and, and_false, and_self, ↓reduceIte] <;> first | omega | assumption | done)) (by first | assumption | omega | (simp only [mS_iff, eq_self, Int.reduceEq, true_and, and_true, false_and, and_false, and_self, ↓reduceIte] <;> first | omega | assumption | done))
                  · replace h15 := am_lc_lt.mp h15
                    refine And.intro (rfl) ?_
                    refine am_in (k := 0) rfl (by omega) (fun d hd => ?_)
                    refine am_go 400 [] (am_wpc_cm _ _ _) wf_301 ?_
                    refine And.intro (rfl) ?_
                    refine And.intro (rfl) ?_
                    exact hQ 0 1 ((d2_a (by omega) e1).trans ((d_bd_r e2).trans (by rw [if_neg (by omega), if_pos (by omega)]; rw [show s = 160 by omega, d_c2_160]; rw [if_pos (by omega)]))) _ ((fz.S (by omega)).S (by omega)) (by first | assumption | omega | (simp only [mS_iff, eq_self, Int.reduceEq, true_and, and_true, false_and, and_false, and_self, ↓reduceIte] <;> first | omega | assumption | done)) (by first | assumption | omega | (simp only [mS_iff, eq_self, Int.reduceEq, true_and, and_true, false_and, and_false, and_self, ↓reduceIte] <;> first | omega | assumption | done)) (by first | assumption | omega | (simp only [mS_iff, eq_self, Int.reduceEq, true_and, and_true, false_and, and_false, and_self, ↓reduceIte] <;> first | omega | assumption | done))
              · replace h10 := am_lc_eq.mp h10
                refine And.intro (rfl) ?_
                refine am_in (k := 0) rfl (by omega) (fun d hd => ?_)
                refine am_go 400 [] (am_wpc_cm _ _ _) wf_302 ?_
                refine And.intro (rfl) ?_
                refine And.intro (fun h => absurd h (by omega)) (fun _ => ?_)
                refine And.intro (rfl) ?_
                refine And.intro (rfl) ?_
                refine And.intro (⟨rfl, ht⟩) ?_
                refine And.intro (rfl) ?_
                exact hQe 4 a ((d2_a (by omega) e1).trans ((d_bd_r e2).trans (by rw [if_neg (by omega), if_pos (by omega)]; rw [show s = 147 by omega, d_c2_147, if_pos (by omega)]))) _ ((fz.S (by omega)).S (by omega)) (by first | assumption | omega | (simp only [mS_iff, eq_self, Int.reduceEq, true_and, and_true, false_and, and_false, and_self, ↓reduceIte] <;> first | omega | assumption | done)) (by omega) (by first | assumption | omega | (simp only [mS_iff, eq_self, Int.reduceEq, true_and, and_true, false_and, and_false, and_self, ↓reduceIte] <;> first | omega | assumption | done))
          · refine And.intro (rfl) ?_
            refine am_in (k := 0) rfl (by omega) (fun d hd => ?_)
            refine am_go 400 [] (am_wpc_cm _ _ _) wf_302 ?_
            refine And.intro (rfl) ?_
            refine And.intro (fun h => absurd h (by omega)) (fun _ => ?_)
            refine And.intro (rfl) ?_
            refine And.intro (rfl) ?_
            refine And.intro (⟨rfl, ht⟩) ?_
            refine And.intro (rfl) ?_
            exact hQe 2 a ((d2_a (by omega) e1).trans ((d_bd_r e2).trans (by rw [if_neg (by omega), if_neg (by omega)]))) _ ((fz.S (by omega)).S (by omega)) (by first | assumption | omega | (simp only [mS_iff, eq_self, Int.reduceEq, true_and, and_true, false_and, and_false, and_self, ↓reduceIte] <;> first | omega | assumption | done)) (by omega) (by first | assumption | omega | (simp only [mS_iff, eq_self, Int.reduceEq, true_and, and_true, false_and, and_false, and_self, ↓reduceIte] <;> first | omega | assumption | done))
      · skip
        refine And.intro (rfl) ?_
        refine And.intro (fun h16 => ?_) (fun h16 => ?_)
        · refine And.intro (rfl) ?_
          refine am_in (k := 0) rfl (by omega) (fun d hd => ?_)
          refine am_go 400 [] (am_wpc_cm _ _ _) wf_301 ?_
          refine And.intro (rfl) ?_
          refine And.intro (rfl) ?_
          exact hQ 0 0 ((d2_a (by omega) e1).trans ((d_bd_r e2).trans (by rw [if_pos (by omega)]; rw [if_neg (by omega)]))) _ ((fz.S (by omega)).S (by omega)) (by first | assumption | omega | (simp only [mS_iff, eq_self, Int.reduceEq, true_and, and_true, false_and, and_false, and_self, ↓reduceIte] <;> first | omega | assumption | done)) (by first | assumption | omega | (simp only [mS_iff, eq_self, Int.reduceEq, true_and, and_true, false_and, and_false, and_self, ↓reduceIte] <;> first | omega | assumption | done)) (by first | assumption | omega | (simp only [mS_iff, eq_self, Int.reduceEq, true_and, and_true, false_and, and_false, and_self, ↓reduceIte] <;> first | omega | assumption | done))
        · refine And.intro (rfl) ?_
          refine And.intro (fun h17 => ?_) (fun h17 => ?_)
          · replace h17 := am_lc_ne.mp h17
            refine And.intro (rfl) ?_
            refine am_in (k := 0) rfl (by omega) (fun d hd => ?_)
            refine am_go 400 [] (am_wpc_cm _ _ _) wf_301 ?_
            refine And.intro (rfl) ?_
            refine And.intro (rfl) ?_
            exact hQ 0 0 ((d2_a (by omega) e1).trans ((d_bd_r e2).trans (by rw [if_pos (by omega)]; rw [if_neg (by omega)]))) _ ((fz.S (by omega)).S (by omega)) (by first | assumption | omega | (simp only [mS_iff, eq_self, Int.reduceEq, true_and, and_true, false_and, and_false, and_self, ↓reduceIte] <;> first | omega | assumption | done)) (by first | assumption | omega | (simp only [mS_iff, eq_self, Int.reduceEq, true_and, and_true, false_and, and_false, and_self, ↓reduceIte] <;> first | omega | assumption | done)) (by first | assumption | omega | (simp only [mS_iff, eq_self, Int.reduceEq, true_and, and_true, false_and, and_false, and_self, ↓reduceIte] <;> first | omega | assumption | done))
          · replace h17 := am_lc_eq.mp h17
            refine And.intro (rfl) ?_
            refine am_in (k := 0) rfl (by omega) (fun d hd => ?_)
            refine am_go 400 [] (am_wpc_cm _ _ _) wf_301 ?_
            refine And.intro (rfl) ?_
            refine And.intro (rfl) ?_
            exact hQ 0 1 ((d2_a (by omega) e1).trans ((d_bd_r e2).trans (by rw [if_pos (by omega)]; rw [if_pos (by omega)]))) _ ((fz.S (by omega)).S (by omega)) (by first | assumption | omega | (simp only [mS_iff, eq_self, Int.reduceEq, true_and, and_true, false_and, and_false, and_self, ↓reduceIte] <;> first | omega | assumption | done)) (by first | assumption | omega | (simp only [mS_iff, eq_self, Int.reduceEq, true_and, and_true, false_and, and_false, and_self, ↓reduceIte] <;> first | omega | assumption | done)) (by first | assumption | omega | (simp only [mS_iff, eq_self, Int.reduceEq, true_and, and_true, false_and, and_false, and_self, ↓reduceIte] <;> first | omega | assumption | done))
    · have fz := fz.trans fz2
      have h59 := g59
      refine And.intro (rfl) ?_
      refine And.intro (fun h => absurd h (by omega)) (fun _ => ?_)
      exact hQe c2 q2 ((d2_a (by omega) e1).trans (d_bd_l e2)) _ fz (by first | assumption | omega | (simp only [mS_iff, eq_self, Int.reduceEq, true_and, and_true, false_and, and_false, and_self, ↓reduceIte] <;> first | omega | assumption | done)) g1 (by first | assumption | omega | (simp only [mS_iff, eq_self, Int.reduceEq, true_and, and_true, false_and, and_false, and_self, ↓reduceIte] <;> first | omega | assumption | done))
  · have fz := fz.trans fz1
    have h59 := g59
    refine And.intro (rfl) ?_
    refine And.intro (rfl) ?_
    refine And.intro (rfl) ?_
    refine And.intro (⟨rfl, ht⟩) ?_
    skip
    refine And.intro (rfl) ?_
    refine ct_299f (by omega) (by omega) ?_
    refine And.intro (rfl) ?_
    refine And.intro (fun h => absurd h (by omega)) (fun _ => ?_)
    exact hQe c1 q1 (d2_l e1) _ fz (by first | assumption | omega | (simp only [mS_iff, eq_self, Int.reduceEq, true_and, and_true, false_and, and_false, and_self, ↓reduceIte] <;> first | omega | assumption | done)) g1 (by first | assumption | omega | (simp only [mS_iff, eq_self, Int.reduceEq, true_and, and_true, false_and, and_false, and_self, ↓reduceIte] <;> first | omega | assumption | done))
theorem mNd_num {m : aM} {lo hi t a v : Int} (hl : 0 ≤ lo ∧ lo ≤ t ∧ t < hi ∧ hi ≤ 1260) (h71 : m 71 t = 0) (h74 : m 74 t = a) (h72 : m 72 t = v) : mNd m lo hi t (d_num v) 1 := by
  refine ⟨okD_num v, Int.le_refl _, hl, fun m2 k => ?_⟩
  have r71 := (k 71 t (by omega) (by omega) (by omega) (by omega)).trans h71
  have r72 := k 72 t (by omega) (by omega) (by omega) (by omega)
  have r73 := k 73 t (by omega) (by omega) (by omega) (by omega)
  have r74 := (k 74 t (by omega) (by omega) (by omega) (by omega)).trans h74
  exact mSy_num (lo := lo) (hi := hi) r71 r74 (by omega) (r72.trans h72)
theorem mNd_pl1 {m : aM} {lo hi t a : Int} (hl : 0 ≤ lo ∧ lo ≤ t ∧ t < hi ∧ hi ≤ 1260) (h71 : m 71 t = 1) (h74 : m 74 t = a)  : mNd m lo hi t (d_pl 52) 1 := by
  refine ⟨okD_pl, Int.le_refl _, hl, fun m2 k => ?_⟩
  have r71 := (k 71 t (by omega) (by omega) (by omega) (by omega)).trans h71
  have r72 := k 72 t (by omega) (by omega) (by omega) (by omega)
  have r73 := k 73 t (by omega) (by omega) (by omega) (by omega)
  have r74 := (k 74 t (by omega) (by omega) (by omega) (by omega)).trans h74
  exact mSy_pl1 (lo := lo) (hi := hi) r71 r74 (by omega)
theorem mNd_pl2 {m : aM} {lo hi t a : Int} (hl : 0 ≤ lo ∧ lo ≤ t ∧ t < hi ∧ hi ≤ 1260) (h71 : m 71 t = 2) (h74 : m 74 t = a)  : mNd m lo hi t (d_pl 53) 1 := by
  refine ⟨okD_pl, Int.le_refl _, hl, fun m2 k => ?_⟩
  have r71 := (k 71 t (by omega) (by omega) (by omega) (by omega)).trans h71
  have r72 := k 72 t (by omega) (by omega) (by omega) (by omega)
  have r73 := k 73 t (by omega) (by omega) (by omega) (by omega)
  have r74 := (k 74 t (by omega) (by omega) (by omega) (by omega)).trans h74
  exact mSy_pl2 (lo := lo) (hi := hi) r71 r74 (by omega)
theorem mNd_pl3 {m : aM} {lo hi t a : Int} (hl : 0 ≤ lo ∧ lo ≤ t ∧ t < hi ∧ hi ≤ 1260) (h71 : m 71 t = 3) (h74 : m 74 t = a)  : mNd m lo hi t (d_pl 54) 1 := by
  refine ⟨okD_pl, Int.le_refl _, hl, fun m2 k => ?_⟩
  have r71 := (k 71 t (by omega) (by omega) (by omega) (by omega)).trans h71
  have r72 := k 72 t (by omega) (by omega) (by omega) (by omega)
  have r73 := k 73 t (by omega) (by omega) (by omega) (by omega)
  have r74 := (k 74 t (by omega) (by omega) (by omega) (by omega)).trans h74
  exact mSy_pl3 (lo := lo) (hi := hi) r71 r74 (by omega)
theorem mNd_call {m : aM} {lo hi t a s t1 hi1 p1 : Int} {f : aD} (hl : 0 ≤ lo ∧ lo ≤ t ∧ t < hi ∧ hi ≤ 1260) (h71 : m 71 t = 4) (h74 : m 74 t = a) (h72 : m 72 t = s - 55) (hs : 55 ≤ s ∧ s ≤ 64) (h73 : m 73 t = t1) (hc : mNd m lo hi1 t1 f p1) (hi1l : hi1 ≤ hi) : mNd m lo hi t (d_one a s f) (p1 + 1) := by
  refine ⟨okD_one hc.1, by have := hc.2.1; omega, hl, fun m2 k => ?_⟩
  have r71 := (k 71 t (by omega) (by omega) (by omega) (by omega)).trans h71
  have r72 := k 72 t (by omega) (by omega) (by omega) (by omega)
  have r73 := k 73 t (by omega) (by omega) (by omega) (by omega)
  have r74 := (k 74 t (by omega) (by omega) (by omega) (by omega)).trans h74
  exact mSy_call (lo := lo) (hi := hi) r71 r74 (by omega) (r72.trans h72) hs (by rw [r73, h73]; exact (hc.hi hi1l (by omega)).keep k)
theorem mNd_minus {m : aM} {lo hi t a t1 hi1 p1 : Int} {f : aD} (hl : 0 ≤ lo ∧ lo ≤ t ∧ t < hi ∧ hi ≤ 1260) (h71 : m 71 t = 6) (h74 : m 74 t = a) (h72 : m 72 t = t1) (hc : mNd m lo hi1 t1 f p1) (hi1l : hi1 ≤ hi) : mNd m lo hi t (d_one a 145 f) (p1 + 1) := by
  refine ⟨okD_one hc.1, by have := hc.2.1; omega, hl, fun m2 k => ?_⟩
  have r71 := (k 71 t (by omega) (by omega) (by omega) (by omega)).trans h71
  have r72 := k 72 t (by omega) (by omega) (by omega) (by omega)
  have r73 := k 73 t (by omega) (by omega) (by omega) (by omega)
  have r74 := (k 74 t (by omega) (by omega) (by omega) (by omega)).trans h74
  exact mSy_minus (lo := lo) (hi := hi) r71 r74 (by omega) (by rw [r72, h72]; exact (hc.hi hi1l (by omega)).keep k)
theorem mNd_not {m : aM} {lo hi t a t1 hi1 p1 : Int} {f : aD} (hl : 0 ≤ lo ∧ lo ≤ t ∧ t < hi ∧ hi ≤ 1260) (h71 : m 71 t = 8) (h74 : m 74 t = a) (h72 : m 72 t = t1) (hc : mNd m lo hi1 t1 f p1) (hi1l : hi1 ≤ hi) : mNd m lo hi t (d_one a 51 f) (p1 + 1) := by
  refine ⟨okD_one hc.1, by have := hc.2.1; omega, hl, fun m2 k => ?_⟩
  have r71 := (k 71 t (by omega) (by omega) (by omega) (by omega)).trans h71
  have r72 := k 72 t (by omega) (by omega) (by omega) (by omega)
  have r73 := k 73 t (by omega) (by omega) (by omega) (by omega)
  have r74 := (k 74 t (by omega) (by omega) (by omega) (by omega)).trans h74
  exact mSy_not (lo := lo) (hi := hi) r71 r74 (by omega) (by rw [r72, h72]; exact (hc.hi hi1l (by omega)).keep k)
theorem mNd_try {m : aM} {lo hi t a t1 t2 hi1 hi2 p1 p2 : Int} {f g : aD} (hl : 0 ≤ lo ∧ lo ≤ t ∧ t < hi ∧ hi ≤ 1260) (h71 : m 71 t = 5) (h74 : m 74 t = a) (h72 : m 72 t = t1) (h73 : m 73 t = t2) (hc : mNd m lo hi1 t1 f p1) (hc2 : mNd m lo hi2 t2 g p2) (hi1l : hi1 ≤ hi) (hi2l : hi2 ≤ hi) : mNd m lo hi t (d_try f g) (p1 + p2 + 1) := by
  refine ⟨okD_try hc.1 hc2.1, by have := hc.2.1; have := hc2.2.1; omega, hl, fun m2 k => ?_⟩
  have r71 := (k 71 t (by omega) (by omega) (by omega) (by omega)).trans h71
  have r72 := k 72 t (by omega) (by omega) (by omega) (by omega)
  have r73 := k 73 t (by omega) (by omega) (by omega) (by omega)
  have r74 := (k 74 t (by omega) (by omega) (by omega) (by omega)).trans h74
  exact mSy_try (lo := lo) (hi := hi) r71 r74 (by omega) (by rw [r72, h72]; exact (hc.hi hi1l (by omega)).keep k) (by rw [r73, h73]; exact (hc2.hi hi2l (by omega)).keep k)
theorem mNd_or {m : aM} {lo hi t a t1 t2 hi1 hi2 p1 p2 : Int} {f g : aD} (hl : 0 ≤ lo ∧ lo ≤ t ∧ t < hi ∧ hi ≤ 1260) (h71 : m 71 t = 9) (h74 : m 74 t = a) (h72 : m 72 t = t1) (h73 : m 73 t = t2) (hc : mNd m lo hi1 t1 f p1) (hc2 : mNd m lo hi2 t2 g p2) (hi1l : hi1 ≤ hi) (hi2l : hi2 ≤ hi) : mNd m lo hi t (d_two a 0 f g) (p1 + p2 + 1) := by
  refine ⟨okD_two, by have := hc.2.1; have := hc2.2.1; omega, hl, fun m2 k => ?_⟩
  have r71 := (k 71 t (by omega) (by omega) (by omega) (by omega)).trans h71
  have r72 := k 72 t (by omega) (by omega) (by omega) (by omega)
  have r73 := k 73 t (by omega) (by omega) (by omega) (by omega)
  have r74 := (k 74 t (by omega) (by omega) (by omega) (by omega)).trans h74
  exact mSy_or (lo := lo) (hi := hi) r71 r74 (by omega) (by rw [r72, h72]; exact (hc.hi hi1l (by omega)).keep k) (by rw [r73, h73]; exact (hc2.hi hi2l (by omega)).keep k)
theorem mNd_and {m : aM} {lo hi t a t1 t2 hi1 hi2 p1 p2 : Int} {f g : aD} (hl : 0 ≤ lo ∧ lo ≤ t ∧ t < hi ∧ hi ≤ 1260) (h71 : m 71 t = 10) (h74 : m 74 t = a) (h72 : m 72 t = t1) (h73 : m 73 t = t2) (hc : mNd m lo hi1 t1 f p1) (hc2 : mNd m lo hi2 t2 g p2) (hi1l : hi1 ≤ hi) (hi2l : hi2 ≤ hi) : mNd m lo hi t (d_two a 34 f g) (p1 + p2 + 1) := by
  refine ⟨okD_two, by have := hc.2.1; have := hc2.2.1; omega, hl, fun m2 k => ?_⟩
  have r71 := (k 71 t (by omega) (by omega) (by omega) (by omega)).trans h71
  have r72 := k 72 t (by omega) (by omega) (by omega) (by omega)
  have r73 := k 73 t (by omega) (by omega) (by omega) (by omega)
  have r74 := (k 74 t (by omega) (by omega) (by omega) (by omega)).trans h74
  exact mSy_and (lo := lo) (hi := hi) r71 r74 (by omega) (by rw [r72, h72]; exact (hc.hi hi1l (by omega)).keep k) (by rw [r73, h73]; exact (hc2.hi hi2l (by omega)).keep k)
theorem mNd_sign {m : aM} {lo hi t a s t1 t2 hi1 hi2 p1 p2 : Int} {f g : aD} (hl : 0 ≤ lo ∧ lo ≤ t ∧ t < hi ∧ hi ≤ 1260) (h71 : m 71 t = s) (h74 : m 74 t = a) (hs : s = 161 ∨ s = 160 ∨ s = 143 ∨ s = 145 ∨ s = 142 ∨ s = 147) (h72 : m 72 t = t1) (h73 : m 73 t = t2) (hc : mNd m lo hi1 t1 f p1) (hc2 : mNd m lo hi2 t2 g p2) (hi1l : hi1 ≤ hi) (hi2l : hi2 ≤ hi) : mNd m lo hi t (d_two a s f g) (p1 + p2 + 1) := by
  refine ⟨okD_two, by have := hc.2.1; have := hc2.2.1; omega, hl, fun m2 k => ?_⟩
  have r71 := (k 71 t (by omega) (by omega) (by omega) (by omega)).trans h71
  have r72 := k 72 t (by omega) (by omega) (by omega) (by omega)
  have r73 := k 73 t (by omega) (by omega) (by omega) (by omega)
  have r74 := (k 74 t (by omega) (by omega) (by omega) (by omega)).trans h74
  exact mSy_sign (lo := lo) (hi := hi) r71 r74 (by omega) hs (by rw [r72, h72]; exact (hc.hi hi1l (by omega)).keep k) (by rw [r73, h73]; exact (hc2.hi hi2l (by omega)).keep k)
