/-! needs: b04 -/
/-! CONTRACTS: work of try and of nodes with two below; by tools/genb5.py -/
set_option maxRecDepth 100000
set_option maxHeartbeats 8000000
theorem hRm.go {m m1 : aM} {lo hi alo ahi p lo2 hi2 c p2 : Int} (h : hRm m lo hi alo ahi p) (f : fr_E lo hi alo ahi c m m1) (hl : lo ≤ lo2 ∧ hi2 ≤ hi) (hp : 1 ≤ p2) (hc : c + p2 ≤ p) (h7 : 77 ≤ m 0 0 ∧ 29 ≤ alo) : hRm m1 lo2 hi2 alo ahi p2 := by
  obtain ⟨R1, R2, R3, R4, R5, R6, R7, R8⟩ := h
  have f1 := f.1
  have f2 := f.2.1
  exact ⟨by omega, by omega, by rw [f.tag (by omega) (by omega) (by omega)]; exact R3, hp, by omega, by omega, by omega, fun i a b => by rw [f.2.2.1 (-4) i (by omega) (by omega) (by omega) (by omega) (by omega)]; exact R8 i a b⟩
theorem hVl.wd {m : aM} {lo hi ar x s v lo' hi' : Int} {w : Int → Int} (h : hVl m lo hi ar w x s v) (a : lo' ≤ lo) (b : hi ≤ hi') : hVl m lo' hi' ar w x s v := by
  rcases h with ⟨h1, h2, h3⟩ | h
  · exact Or.inl ⟨h1, by omega, h3⟩
  · exact Or.inr h
theorem hVl.mv {m m2 : aM} {lo hi ar x s v lo2 hi2 alo ahi c : Int} {w : Int → Int} (h : hVl m lo hi ar w x s v) (f : fr_E lo2 hi2 alo ahi c m m2) (hA : hArms m alo ahi ar w) (hd : hi < lo2 ∨ hi2 < lo) (ha : hi < alo ∨ ahi < lo) (h7 : 77 ≤ lo ∧ hi ≤ m 0 0) : hVl m2 lo hi ar w x s v := by
  have k := f.kp (a := alo) (b := ahi) (by have := hA.basic; omega) hA.1.2
  have b := hA.basic
  have e1 : m2 ar = m ar := (k ar b.2.2.1 b.2.2.2.1).2 (by have := b.2.2.2.2.1; omega)
  have e2 : m2 (m ar 1) = m (m ar 1) := (k _ b.2.2.2.2.2.1.1 b.2.2.2.2.2.1.2).2 (by have := b.2.2.2.2.2.2.1; omega)
  rcases h with ⟨h1, h2, h3, h4⟩ | ⟨h1, h2, h3⟩ | ⟨h1, h2, h3⟩ | ⟨h1, h2, h3, h4⟩
  · exact Or.inl ⟨h1, h2, by rw [f.tag (by omega) (by omega) (by omega)]; exact h3, by rw [f.2.2.1 x 0 (by omega) (by omega) (by omega) (by omega) (by omega)]; exact h4⟩
  · exact Or.inr (Or.inl ⟨h1, h2, by rw [e1]; exact h3⟩)
  · exact Or.inr (Or.inr (Or.inl ⟨h1, h2, by rw [e1, e2]; exact h3⟩))
  · have y := hA.lay h2.1 h2.2
    have e3 : m2 (m (m ar 1) v) = m (m (m ar 1) v) := (k _ y.1.1 y.1.2).2 (by have := y.2.1; omega)
    exact Or.inr (Or.inr (Or.inr ⟨h1, h2, by rw [e1, e2, e3]; exact h3, h4⟩))
theorem hVl.tag {m : aM} {lo hi ar x s v alo ahi : Int} {w : Int → Int} (h : hVl m lo hi ar w x s v) (hA : hArms m alo ahi ar w) (h7 : 77 ≤ lo) : 0 < x ∧ (m x (-1) = 5 ∨ m x (-1) = 6 ∨ m x (-1) = 7 ∨ m x (-1) = 10) ∧ (s = 0 → m x (-1) = 6 ∧ m x 0 = v) ∧ (s ≠ 0 → m x (-1) ≠ 6) := by
  have b := hA.basic
  rcases h with ⟨h1, h2, h3, h4⟩ | ⟨h1, h2, h3⟩ | ⟨h1, h2, h3⟩ | ⟨h1, h2, h3, h4⟩
  · exact ⟨by omega, by omega, fun _ => ⟨h3, h4⟩, fun n => absurd h1 n⟩
  · have y := hA.fld
    rw [← h3] at y
    have y1 := y.1
    have y2 := y.2.1
    exact ⟨by omega, by omega, fun _ => by omega, fun _ => by omega⟩
  · have y := hA.lay h2.1 h2.2
    rw [← h3] at y
    have y1 := y.1
    have y2 := y.2.1
    exact ⟨by omega, by omega, fun _ => by omega, fun _ => by omega⟩
  · have y := hG3 (hA.lay h2.1 h2.2) (by rw [← h3]; exact h4)
    rw [← h3] at y
    have y1 := y.1
    have y2 := y.2.1
    exact ⟨by omega, by omega, fun _ => by omega, fun _ => by omega⟩
theorem hVl.tag2 {m : aM} {lo hi ar x s v alo ahi : Int} {w : Int → Int} (h : hVl m lo hi ar w x s v) (hA : hArms m alo ahi ar w) : (s = 1 → m x (-1) = 5) ∧ (s = 2 → m x (-1) = 7) ∧ (s = 3 → m x (-1) = 10) ∧ (0 ≤ s ∧ s ≤ 3) ∧ (s = 0 → m x (-1) = 6) := by
  rcases h with ⟨h1, h2, h3, h4⟩ | ⟨h1, h2, h3⟩ | ⟨h1, h2, h3⟩ | ⟨h1, h2, h3, h4⟩
  · exact ⟨by omega, by omega, by omega, by omega, fun _ => h3⟩
  · have y := hA.fld.2.1
    rw [← h3] at y
    exact ⟨by omega, by omega, by omega, by omega, by omega⟩
  · have y := (hA.lay h2.1 h2.2).2.1
    rw [← h3] at y
    exact ⟨by omega, by omega, by omega, by omega, by omega⟩
  · have y := (hG3 (hA.lay h2.1 h2.2) (by rw [← h3]; exact h4)).2.1
    rw [← h3] at y
    exact ⟨by omega, by omega, by omega, by omega, by omega⟩
theorem hVl.eq {m : aM} {lo hi ar x s v lo2 hi2 y u z alo ahi : Int} {w : Int → Int} (h : hVl m lo hi ar w x s v) (g : hVl m lo2 hi2 ar w y u z) (hA : hArms m alo ahi ar w) (n : s ≠ 0 ∨ u ≠ 0) : x = y ↔ (s = u ∧ v = z) := by
  have a := h.tag2 hA
  have b := g.tag2 hA
  constructor
  · intro e
    rw [e] at a
    have su : s = u := by omega
    refine ⟨su, ?_⟩
    subst su
    rcases h with ⟨h1, h2⟩ | ⟨h1, h2, h3⟩ | ⟨h1, h2, h3⟩ | ⟨h1, h2, h3, h4⟩
    · omega
    · rcases g with ⟨g1, g2⟩ | ⟨g1, g2, g3⟩ | ⟨g1, g2, g3⟩ | ⟨g1, g2, g3, g4⟩
      · omega
      · omega
      · omega
      · omega
    · rcases g with ⟨g1, g2⟩ | ⟨g1, g2, g3⟩ | ⟨g1, g2, g3⟩ | ⟨g1, g2, g3, g4⟩
      · omega
      · omega
      · refine Classical.byContradiction fun k => ?_
        exact (hA.inj h2.1 h2.2 g2.1 g2.2 k).1 (by rw [← h3, ← g3]; exact e)
      · omega
    · rcases g with ⟨g1, g2⟩ | ⟨g1, g2, g3⟩ | ⟨g1, g2, g3⟩ | ⟨g1, g2, g3, g4⟩
      · omega
      · omega
      · omega
      · refine Classical.byContradiction fun k => ?_
        exact (hA.inj h2.1 h2.2 g2.1 g2.2 k).2.2 (by rw [← h3]; exact h4) (by rw [← h3, ← g3]; exact e)
  · rintro ⟨e1, e2⟩
    subst e1 e2
    rcases h with ⟨h1, h2⟩ | ⟨h1, h2, h3⟩ | ⟨h1, h2, h3⟩ | ⟨h1, h2, h3, h4⟩
    · omega
    · rcases g with ⟨g1, g2⟩ | ⟨g1, g2, g3⟩ | ⟨g1, g2, g3⟩ | ⟨g1, g2, g3, g4⟩
      · omega
      · rw [h3, g3]
      · omega
      · omega
    · rcases g with ⟨g1, g2⟩ | ⟨g1, g2, g3⟩ | ⟨g1, g2, g3⟩ | ⟨g1, g2, g3, g4⟩
      · omega
      · omega
      · rw [h3, g3]
      · omega
    · rcases g with ⟨g1, g2⟩ | ⟨g1, g2, g3⟩ | ⟨g1, g2, g3⟩ | ⟨g1, g2, g3, g4⟩
      · omega
      · omega
      · omega
      · rw [h3, g3]
theorem d2_l {a s : Int} {f g : aD} {w : Int → Int} {e : Int × Int} (h : f w = .inl e) : d_two a s f g w = .inl e := d_bd_l h
theorem d2_o0 {a s t v : Int} {f g : aD} {w : Int → Int} (hs : s = 0 ∨ s = 34) (h : f w = .inr (t, v)) (n : t ≠ 0) : d_two a s f g w = .inl (2, a) := (d_bd_r h).trans (by rw [if_pos hs, if_neg n])
theorem d2_o1 {a s t v : Int} {f g : aD} {w : Int → Int} (hs : s = 0 ∨ s = 34) (h : f w = .inr (t, v)) (n : t = 0) (k : (v ≠ 0 ∧ s = 0) ∨ (v = 0 ∧ s = 34)) : d_two a s f g w = .inr (0, d_tw v) := (d_bd_r h).trans (by rw [if_pos hs, if_pos n, if_pos k])
theorem d2_o2 {a s t v : Int} {f g : aD} {w : Int → Int} (hs : s = 0 ∨ s = 34) (h : f w = .inr (t, v)) (n : t = 0) (k : ¬ ((v ≠ 0 ∧ s = 0) ∨ (v = 0 ∧ s = 34))) : d_two a s f g w = d_bd (g w) (fun t v => if t = 0 then .inr (0, d_tw v) else .inl (2, a)) := (d_bd_r h).trans (by rw [if_pos hs, if_pos n, if_neg k])
theorem d2_a {a s t v : Int} {f g : aD} {w : Int → Int} (hs : ¬ (s = 0 ∨ s = 34)) (h : f w = .inr (t, v)) : d_two a s f g w = d_bd (g w) (fun u x => if s = 161 then .inr (0, if t = u ∧ v = x then 1 else 0) else if t = 0 ∧ u = 0 then d_c2 a s v x else .inl (2, a)) := (d_bd_r h).trans (by rw [if_neg hs])
theorem d_tw_0 {v : Int} (h : v = 0) : d_tw v = 0 := if_pos h
theorem d_tw_1 {v : Int} (h : v ≠ 0) : d_tw v = 1 := if_neg h
theorem d_c2_160 (a x y : Int) : d_c2 a 160 x y = .inr (0, if x < y then 1 else 0) := by unfold d_c2; simp
theorem d_c2_143 (a x y : Int) : d_c2 a 143 x y = .inr (0, am_ladd x y) := by unfold d_c2; simp
theorem d_c2_145 (a x y : Int) : d_c2 a 145 x y = .inr (0, am_lsub x y) := by unfold d_c2; simp
theorem d_c2_142 (a x y : Int) : d_c2 a 142 x y = .inr (0, am_lmul x y) := by unfold d_c2; simp
theorem d_c2_147 (a x y : Int) : d_c2 a 147 x y = if y = 0 then .inl (4, a) else .inr (0, am_ldiv x y) := by unfold d_c2; simp
theorem hWk_try {m : aM} {lo hi r a r1 lo1 hi1 p1 r2 lo2 hi2 p2 : Int} {f g : aD} (hb : hNb m lo hi r a) (tg : m r (-1) = 16) (ho : m r 3 = r1) (ho2 : m r 4 = r2) (hc : hNd m lo1 hi1 r1 f p1) (hc2 : hNd m lo2 hi2 r2 g p2) (hl : lo ≤ lo1 ∧ hi1 ≤ hi) (hl2 : lo ≤ lo2 ∧ hi2 ≤ hi) : hWk m lo hi r a (d_try f g) (p1 + p2 + 1) := by
  intro d Q ar alo ahi w hd hA hR hQ hX1 hX2 hX3 hX4 hF
  obtain ⟨R1, R2, R3, R4, R5, R6, R7, R8⟩ := id hR
  obtain ⟨k, hk⟩ : ∃ k, d = k + 1 := ⟨d - 1, by omega⟩
  have hA0 := hA.basic
  have kp : ∀ {m' : aM} {c : Int}, fr_E lo hi alo ahi c m m' → hKeep m m' lo hi := fun h => h.kp (by omega) R1.2
  have fe := fr_E.rfl lo hi alo ahi m
  have hz := hb
  have z0 := hz.1
  have z1 := hz.2.1
  have z2 := hz.2.2.1
  have z3 := hz.2.2.2.1
  have z5 := hz.2.2.2.2.1
  have z6 := hz.2.2.2.2.2
  rw [tg]
  have hp1 := hc.2.2.1
  have hp2 := hc2.2.2.1
  show am_wpc am_G am_T d 4 _ _ _
  refine am_in (k := k) rfl (by omega) (fun d hd => ?_)
  refine am_go 400 [] (am_wpc_cm _ _ _) wf_4 ?_
  refine And.intro (tg) ?_
  rw [ho]
  refine And.intro (hc.2.1) ?_
  refine hc.2.2.2 m (hKeep.rfl m _ _) _ _ ar alo ahi w (by omega) hA (hR.go (fr_E.rfl lo hi alo ahi m) hl hp1 (by omega) (by omega)) (fun t v e m1 x fe1 hv => ?_) (fun c q e m1 fe1 e1 e2 => ?_)
  · exact hQ _ _ (d_try_r e) _ _ (fe1.wd hl.1 hl.2 (by omega)) (hv.wd hl.1 hl.2)
  · have fe := fe1.wd hl.1 hl.2 (Int.le_refl _)
    have hz := hb.keep (kp fe)
    have z0 := hz.1
    have z1 := hz.2.1
    have z2 := hz.2.2.1
    have z3 := hz.2.2.2.1
    have z5 := hz.2.2.2.2.1
    have z6 := hz.2.2.2.2.2
    have q1 : m1 r (-1) = 16 := by rw [(kp fe r z0.1 z0.2).1]; exact tg
    have hA1 := fe.arms hA
    have q4 : m1 r 4 = r2 := by rw [(kp fe r z0.1 z0.2).2 (by omega)]; exact ho2
    refine And.intro (q1) ?_
    rw [q4]
    refine And.intro ((hc2.keep ((kp fe).sub hl2.1 hl2.2)).2.1) ?_
    refine (hc2.keep ((kp fe).sub hl2.1 hl2.2)).2.2.2 m1 (hKeep.rfl m1 _ _) _ _ ar alo ahi w (by omega) hA1 (hR.go fe hl2 hp2 (by omega) (by omega)) (fun t v e3 m2 y fe2 hv => ?_) (fun c q e3 m2 fe2 e1 e2 => ?_)
    · exact hQ _ _ ((d_try_l e).trans e3) _ _ ((fe.trans (fe2.wd hl2.1 hl2.2 (Int.le_refl _))).wd (Int.le_refl _) (Int.le_refl _) (by omega)) (hv.wd hl2.1 hl2.2)
    · exact hF c q ((d_try_l e).trans e3) _ ((fe.trans (fe2.wd hl2.1 hl2.2 (Int.le_refl _))).wd (Int.le_refl _) (Int.le_refl _) (by omega)) e1 e2
theorem hWk_two {m : aM} {lo hi r a s r1 lo1 hi1 p1 r2 lo2 hi2 p2 : Int} {f g : aD} (hb : hNb m lo hi r a) (tg : m r (-1) = 17) (hs : m r 3 = s) (ho : m r 4 = r1) (ho2 : m r 5 = r2) (hc : hNd m lo1 hi1 r1 f p1) (hc2 : hNd m lo2 hi2 r2 g p2) (hl : lo ≤ lo1 ∧ hi1 ≤ hi) (hl2 : lo ≤ lo2 ∧ hi2 ≤ hi) (hlt : hi1 < lo2) (hss : s = 0 ∨ s = 34 ∨ s = 161 ∨ s = 160 ∨ s = 143 ∨ s = 145 ∨ s = 142 ∨ s = 147) : hWk m lo hi r a (d_two a s f g) (p1 + p2 + 1) := by
  intro d Q ar alo ahi w hd hA hR hQ hX1 hX2 hX3 hX4 hF
  obtain ⟨R1, R2, R3, R4, R5, R6, R7, R8⟩ := id hR
  obtain ⟨k, hk⟩ : ∃ k, d = k + 1 := ⟨d - 1, by omega⟩
  have hA0 := hA.basic
  have kp : ∀ {m' : aM} {c : Int}, fr_E lo hi alo ahi c m m' → hKeep m m' lo hi := fun h => h.kp (by omega) R1.2
  have fe := fr_E.rfl lo hi alo ahi m
  have hz := hb
  have z0 := hz.1
  have z1 := hz.2.1
  have z2 := hz.2.2.1
  have z3 := hz.2.2.2.1
  have z5 := hz.2.2.2.2.1
  have z6 := hz.2.2.2.2.2
  rw [tg]
  have hp1 := hc.2.2.1
  have hp2 := hc2.2.2.1
  show am_wpc am_G am_T d 5 _ _ _
  refine am_in (k := k) rfl (by omega) (fun d hd => ?_)
  refine am_go 400 [] (am_wpc_cm _ _ _) wf_5 ?_
  refine And.intro (tg) ?_
  rw [ho]
  refine And.intro (hc.2.1) ?_
  refine hc.2.2.2 m (hKeep.rfl m _ _) _ _ ar alo ahi w (by omega) hA (hR.go (fr_E.rfl lo hi alo ahi m) hl hp1 (by omega) (by omega)) (fun t v e m1 x fe1 hv => ?_) (fun c q e m1 fe1 e1 e2 => ?_)
  · have fe := fe1.wd hl.1 hl.2 (Int.le_refl _)
    have hz := hb.keep (kp fe)
    have z0 := hz.1
    have z1 := hz.2.1
    have z2 := hz.2.2.1
    have z3 := hz.2.2.2.1
    have z5 := hz.2.2.2.2.1
    have z6 := hz.2.2.2.2.2
    have q3 : m1 r 3 = s := by rw [(kp fe r z0.1 z0.2).2 (by omega)]; exact hs
    have q5 : m1 r 5 = r2 := by rw [(kp fe r z0.1 z0.2).2 (by omega)]; exact ho2
    have q1 : m1 r (-1) = 17 := by rw [(kp fe r z0.1 z0.2).1]; exact tg
    have hA1 := fe.arms hA
    have xt := hv.tag hA1 (by omega)
    have xb := xt.1
    have f1 := fe.1
    have f2 := fe.2.1
    refine And.intro (show (m1 r (-1)) = 17 by first | assumption | omega | (simp only [mS_iff, eq_self, Int.reduceEq, true_and, and_true, false_and, and_false, and_self, ↓reduceIte]; omega) | (simp only [mS_iff, eq_self, Int.reduceEq, true_and, and_true, false_and, and_false, and_self, ↓reduceIte] at *; omega)) ?_
    refine And.intro (fun h1 => ?_) (fun h1 => ?_)
    · by_cases t0 : t = 0
      · have xv := xt.2.2.1 t0
        refine And.intro (by first | assumption | omega | (simp only [mS_iff, eq_self, Int.reduceEq, true_and, and_true, false_and, and_false, and_self, ↓reduceIte]; omega)) ?_
        refine ct_325 (by omega) xb xt.2.1 (fun _ => ?_) (fun h => absurd (xv.1) h)
        refine And.intro (fun h2 => ?_) (fun h2 => ?_)
        · replace h2 := am_lc_eq.mp h2
          refine And.intro (show (m1 r (-1)) = 17 by first | assumption | omega | (simp only [mS_iff, eq_self, Int.reduceEq, true_and, and_true, false_and, and_false, and_self, ↓reduceIte]; omega) | (simp only [mS_iff, eq_self, Int.reduceEq, true_and, and_true, false_and, and_false, and_self, ↓reduceIte] at *; omega)) ?_
          refine And.intro (fun h3 => ?_) (fun h3 => ?_)
          · refine And.intro (fun h => absurd h (by decide)) (fun _ => ?_)
            refine And.intro (by first | assumption | omega | (simp only [mS_iff, eq_self, Int.reduceEq, true_and, and_true, false_and, and_false, and_self, ↓reduceIte]; omega)) ?_
            refine ct_326 (by omega) z1 (by omega) ⟨by omega, z6⟩ (by omega) ?_
            exact hQ 0 0 ((d2_o1 (by omega) e t0 (by omega)).trans (by rw [d_tw_0 (v := v) (by omega)])) _ _ ((fe.put z5 z6 (by omega)).wd (Int.le_refl _) (Int.le_refl _) (by omega)) (Or.inl ⟨rfl, z5, by rw [mS_iff, if_neg (by omega)]; exact z6, by rw [mS_iff, if_pos ⟨rfl, rfl⟩]⟩)
          · refine And.intro (fun _ => ?_) (fun h => absurd h (by decide))
            skip
            refine And.intro (show (m1 r (-1)) = 17 by first | assumption | omega | (simp only [mS_iff, eq_self, Int.reduceEq, true_and, and_true, false_and, and_false, and_self, ↓reduceIte]; omega) | (simp only [mS_iff, eq_self, Int.reduceEq, true_and, and_true, false_and, and_false, and_self, ↓reduceIte] at *; omega)) ?_
            rw [q5]
            refine And.intro ((hc2.keep ((kp fe).sub hl2.1 hl2.2)).2.1) ?_
            refine (hc2.keep ((kp fe).sub hl2.1 hl2.2)).2.2.2 m1 (hKeep.rfl m1 _ _) _ _ ar alo ahi w (by omega) hA1 (hR.go fe hl2 hp2 (by omega) (by omega)) (fun u z e3 m2 y fe2 hw => ?_) (fun c q e3 m2 fe2 e1 e2 => ?_)
            · have feo := fe
              have fe := feo.trans (fe2.wd hl2.1 hl2.2 (Int.le_refl _))
              have hz := hb.keep (kp fe)
              have z0 := hz.1
              have z1 := hz.2.1
              have z2 := hz.2.2.1
              have z3 := hz.2.2.2.1
              have z5 := hz.2.2.2.2.1
              have z6 := hz.2.2.2.2.2
              have q3 : m2 r 3 = s := by rw [(kp fe r z0.1 z0.2).2 (by omega)]; exact hs
              have q1 : m2 r (-1) = 17 := by rw [(kp fe r z0.1 z0.2).1]; exact tg
              have hA2 := fe.arms hA
              have hv := hv.mv fe2 hA1 (Or.inl hlt) (by omega) (by omega)
              have xt := hv.tag hA2 (by omega)
              have yt := hw.tag hA2 (by omega)
              have yb := yt.1
              have f1 := fe.1
              have f2 := fe.2.1
              by_cases u0 : u = 0
              · have yv := yt.2.2.1 u0
                refine And.intro (by first | assumption | omega | (simp only [mS_iff, eq_self, Int.reduceEq, true_and, and_true, false_and, and_false, and_self, ↓reduceIte]; omega)) ?_
                refine ct_325 (by omega) yb yt.2.1 (fun _ => ?_) (fun h => absurd (yv.1) h)
                refine And.intro (fun h4 => ?_) (fun h4 => ?_)
                · replace h4 := am_lc_eq.mp h4
                  refine And.intro (by first | assumption | omega | (simp only [mS_iff, eq_self, Int.reduceEq, true_and, and_true, false_and, and_false, and_self, ↓reduceIte]; omega)) ?_
                  refine ct_326 (by omega) z1 (by omega) ⟨by omega, z6⟩ (by omega) ?_
                  exact hQ 0 0 ((d2_o2 (by omega) e t0 (by omega)).trans ((d_bd_r e3).trans (by rw [if_pos u0, d_tw_0 (v := z) (by omega)]))) _ _ ((fe.put z5 z6 (by omega)).wd (Int.le_refl _) (Int.le_refl _) (by omega)) (Or.inl ⟨rfl, z5, by rw [mS_iff, if_neg (by omega)]; exact z6, by rw [mS_iff, if_pos ⟨rfl, rfl⟩]⟩)
                · replace h4 := am_lc_ne.mp h4
                  refine And.intro (by first | assumption | omega | (simp only [mS_iff, eq_self, Int.reduceEq, true_and, and_true, false_and, and_false, and_self, ↓reduceIte]; omega)) ?_
                  refine ct_326 (by omega) z1 (by omega) ⟨by omega, z6⟩ (by omega) ?_
                  exact hQ 0 1 ((d2_o2 (by omega) e t0 (by omega)).trans ((d_bd_r e3).trans (by rw [if_pos u0, d_tw_1 (v := z) (by omega)]))) _ _ ((fe.put z5 z6 (by omega)).wd (Int.le_refl _) (Int.le_refl _) (by omega)) (Or.inl ⟨rfl, z5, by rw [mS_iff, if_neg (by omega)]; exact z6, by rw [mS_iff, if_pos ⟨rfl, rfl⟩]⟩)
              · have yn := yt.2.2.2 u0
                refine And.intro (by first | assumption | omega | (simp only [mS_iff, eq_self, Int.reduceEq, true_and, and_true, false_and, and_false, and_self, ↓reduceIte]; omega)) ?_
                refine ct_325 (by omega) yb yt.2.1 (fun h => absurd h (yt.2.2.2 u0)) (fun _ => And.intro (by omega) ?_)
                · exact hX2 ((d2_o2 (by omega) e t0 (by omega)).trans ((d_bd_r e3).trans (by rw [if_neg u0]))) _ _ ((fe.X (by omega) (by omega)).wd (Int.le_refl _) (Int.le_refl _) (by omega))
            · exact hF c q ((d2_o2 (by omega) e t0 (by omega)).trans (d_bd_l e3)) _ ((fe.trans (fe2.wd hl2.1 hl2.2 (Int.le_refl _))).wd (Int.le_refl _) (Int.le_refl _) (by omega)) e1 e2
        · replace h2 := am_lc_ne.mp h2
          refine And.intro (show (m1 r (-1)) = 17 by first | assumption | omega | (simp only [mS_iff, eq_self, Int.reduceEq, true_and, and_true, false_and, and_false, and_self, ↓reduceIte]; omega) | (simp only [mS_iff, eq_self, Int.reduceEq, true_and, and_true, false_and, and_false, and_self, ↓reduceIte] at *; omega)) ?_
          refine And.intro (fun h5 => ?_) (fun h5 => ?_)
          · refine And.intro (fun _ => ?_) (fun h => absurd h (by decide))
            skip
            refine And.intro (show (m1 r (-1)) = 17 by first | assumption | omega | (simp only [mS_iff, eq_self, Int.reduceEq, true_and, and_true, false_and, and_false, and_self, ↓reduceIte]; omega) | (simp only [mS_iff, eq_self, Int.reduceEq, true_and, and_true, false_and, and_false, and_self, ↓reduceIte] at *; omega)) ?_
            rw [q5]
            refine And.intro ((hc2.keep ((kp fe).sub hl2.1 hl2.2)).2.1) ?_
            refine (hc2.keep ((kp fe).sub hl2.1 hl2.2)).2.2.2 m1 (hKeep.rfl m1 _ _) _ _ ar alo ahi w (by omega) hA1 (hR.go fe hl2 hp2 (by omega) (by omega)) (fun u z e3 m2 y fe2 hw => ?_) (fun c q e3 m2 fe2 e1 e2 => ?_)
            · have feo := fe
              have fe := feo.trans (fe2.wd hl2.1 hl2.2 (Int.le_refl _))
              have hz := hb.keep (kp fe)
              have z0 := hz.1
              have z1 := hz.2.1
              have z2 := hz.2.2.1
              have z3 := hz.2.2.2.1
              have z5 := hz.2.2.2.2.1
              have z6 := hz.2.2.2.2.2
              have q3 : m2 r 3 = s := by rw [(kp fe r z0.1 z0.2).2 (by omega)]; exact hs
              have q1 : m2 r (-1) = 17 := by rw [(kp fe r z0.1 z0.2).1]; exact tg
              have hA2 := fe.arms hA
              have hv := hv.mv fe2 hA1 (Or.inl hlt) (by omega) (by omega)
              have xt := hv.tag hA2 (by omega)
              have yt := hw.tag hA2 (by omega)
              have yb := yt.1
              have f1 := fe.1
              have f2 := fe.2.1
              by_cases u0 : u = 0
              · have yv := yt.2.2.1 u0
                refine And.intro (by first | assumption | omega | (simp only [mS_iff, eq_self, Int.reduceEq, true_and, and_true, false_and, and_false, and_self, ↓reduceIte]; omega)) ?_
                refine ct_325 (by omega) yb yt.2.1 (fun _ => ?_) (fun h => absurd (yv.1) h)
                refine And.intro (fun h6 => ?_) (fun h6 => ?_)
                · replace h6 := am_lc_eq.mp h6
                  refine And.intro (by first | assumption | omega | (simp only [mS_iff, eq_self, Int.reduceEq, true_and, and_true, false_and, and_false, and_self, ↓reduceIte]; omega)) ?_
                  refine ct_326 (by omega) z1 (by omega) ⟨by omega, z6⟩ (by omega) ?_
                  exact hQ 0 0 ((d2_o2 (by omega) e t0 (by omega)).trans ((d_bd_r e3).trans (by rw [if_pos u0, d_tw_0 (v := z) (by omega)]))) _ _ ((fe.put z5 z6 (by omega)).wd (Int.le_refl _) (Int.le_refl _) (by omega)) (Or.inl ⟨rfl, z5, by rw [mS_iff, if_neg (by omega)]; exact z6, by rw [mS_iff, if_pos ⟨rfl, rfl⟩]⟩)
                · replace h6 := am_lc_ne.mp h6
                  refine And.intro (by first | assumption | omega | (simp only [mS_iff, eq_self, Int.reduceEq, true_and, and_true, false_and, and_false, and_self, ↓reduceIte]; omega)) ?_
                  refine ct_326 (by omega) z1 (by omega) ⟨by omega, z6⟩ (by omega) ?_
                  exact hQ 0 1 ((d2_o2 (by omega) e t0 (by omega)).trans ((d_bd_r e3).trans (by rw [if_pos u0, d_tw_1 (v := z) (by omega)]))) _ _ ((fe.put z5 z6 (by omega)).wd (Int.le_refl _) (Int.le_refl _) (by omega)) (Or.inl ⟨rfl, z5, by rw [mS_iff, if_neg (by omega)]; exact z6, by rw [mS_iff, if_pos ⟨rfl, rfl⟩]⟩)
              · have yn := yt.2.2.2 u0
                refine And.intro (by first | assumption | omega | (simp only [mS_iff, eq_self, Int.reduceEq, true_and, and_true, false_and, and_false, and_self, ↓reduceIte]; omega)) ?_
                refine ct_325 (by omega) yb yt.2.1 (fun h => absurd h (yt.2.2.2 u0)) (fun _ => And.intro (by omega) ?_)
                · exact hX2 ((d2_o2 (by omega) e t0 (by omega)).trans ((d_bd_r e3).trans (by rw [if_neg u0]))) _ _ ((fe.X (by omega) (by omega)).wd (Int.le_refl _) (Int.le_refl _) (by omega))
            · exact hF c q ((d2_o2 (by omega) e t0 (by omega)).trans (d_bd_l e3)) _ ((fe.trans (fe2.wd hl2.1 hl2.2 (Int.le_refl _))).wd (Int.le_refl _) (Int.le_refl _) (by omega)) e1 e2
          · refine And.intro (fun h => absurd h (by decide)) (fun _ => ?_)
            refine And.intro (by first | assumption | omega | (simp only [mS_iff, eq_self, Int.reduceEq, true_and, and_true, false_and, and_false, and_self, ↓reduceIte]; omega)) ?_
            refine ct_326 (by omega) z1 (by omega) ⟨by omega, z6⟩ (by omega) ?_
            exact hQ 0 1 ((d2_o1 (by omega) e t0 (by omega)).trans (by rw [d_tw_1 (v := v) (by omega)])) _ _ ((fe.put z5 z6 (by omega)).wd (Int.le_refl _) (Int.le_refl _) (by omega)) (Or.inl ⟨rfl, z5, by rw [mS_iff, if_neg (by omega)]; exact z6, by rw [mS_iff, if_pos ⟨rfl, rfl⟩]⟩)
      · have xn := xt.2.2.2 t0
        refine And.intro (by first | assumption | omega | (simp only [mS_iff, eq_self, Int.reduceEq, true_and, and_true, false_and, and_false, and_self, ↓reduceIte]; omega)) ?_
        refine ct_325 (by omega) xb xt.2.1 (fun h => absurd h (xt.2.2.2 t0)) (fun _ => And.intro (by omega) ?_)
        · exact hX2 (d2_o0 (by omega) e t0) _ _ ((fe.X (by omega) (by omega)).wd (Int.le_refl _) (Int.le_refl _) (by omega))
    · refine And.intro (show (m1 r (-1)) = 17 by first | assumption | omega | (simp only [mS_iff, eq_self, Int.reduceEq, true_and, and_true, false_and, and_false, and_self, ↓reduceIte]; omega) | (simp only [mS_iff, eq_self, Int.reduceEq, true_and, and_true, false_and, and_false, and_self, ↓reduceIte] at *; omega)) ?_
      refine And.intro (fun h7 => ?_) (fun h7 => ?_)
      · refine And.intro (show (m1 r (-1)) = 17 by first | assumption | omega | (simp only [mS_iff, eq_self, Int.reduceEq, true_and, and_true, false_and, and_false, and_self, ↓reduceIte]; omega) | (simp only [mS_iff, eq_self, Int.reduceEq, true_and, and_true, false_and, and_false, and_self, ↓reduceIte] at *; omega)) ?_
        rw [q5]
        refine And.intro ((hc2.keep ((kp fe).sub hl2.1 hl2.2)).2.1) ?_
        refine (hc2.keep ((kp fe).sub hl2.1 hl2.2)).2.2.2 m1 (hKeep.rfl m1 _ _) _ _ ar alo ahi w (by omega) hA1 (hR.go fe hl2 hp2 (by omega) (by omega)) (fun u z e3 m2 y fe2 hw => ?_) (fun c q e3 m2 fe2 e1 e2 => ?_)
        · have feo := fe
          have fe := feo.trans (fe2.wd hl2.1 hl2.2 (Int.le_refl _))
          have hz := hb.keep (kp fe)
          have z0 := hz.1
          have z1 := hz.2.1
          have z2 := hz.2.2.1
          have z3 := hz.2.2.2.1
          have z5 := hz.2.2.2.2.1
          have z6 := hz.2.2.2.2.2
          have q3 : m2 r 3 = s := by rw [(kp fe r z0.1 z0.2).2 (by omega)]; exact hs
          have q1 : m2 r (-1) = 17 := by rw [(kp fe r z0.1 z0.2).1]; exact tg
          have hA2 := fe.arms hA
          have hv := hv.mv fe2 hA1 (Or.inl hlt) (by omega) (by omega)
          have xt := hv.tag hA2 (by omega)
          have yt := hw.tag hA2 (by omega)
          have yb := yt.1
          have f1 := fe.1
          have f2 := fe.2.1
          refine And.intro (show (m2 r (-1)) = 17 by first | assumption | omega | (simp only [mS_iff, eq_self, Int.reduceEq, true_and, and_true, false_and, and_false, and_self, ↓reduceIte]; omega) | (simp only [mS_iff, eq_self, Int.reduceEq, true_and, and_true, false_and, and_false, and_self, ↓reduceIte] at *; omega)) ?_
          refine And.intro (fun h8 => ?_) (fun h8 => ?_)
          · by_cases t0 : t = 0
            · have xv := xt.2.2.1 t0
              refine And.intro (by first | assumption | omega | (simp only [mS_iff, eq_self, Int.reduceEq, true_and, and_true, false_and, and_false, and_self, ↓reduceIte]; omega)) ?_
              refine ct_325 (by omega) xb xt.2.1 (fun _ => ?_) (fun h => absurd (xv.1) h)
              by_cases u0 : u = 0
              · have yv := yt.2.2.1 u0
                refine And.intro (by first | assumption | omega | (simp only [mS_iff, eq_self, Int.reduceEq, true_and, and_true, false_and, and_false, and_self, ↓reduceIte]; omega)) ?_
                refine ct_325 (by omega) yb yt.2.1 (fun _ => ?_) (fun h => absurd (yv.1) h)
                refine And.intro (show (m2 r (-1)) = 17 by first | assumption | omega | (simp only [mS_iff, eq_self, Int.reduceEq, true_and, and_true, false_and, and_false, and_self, ↓reduceIte]; omega) | (simp only [mS_iff, eq_self, Int.reduceEq, true_and, and_true, false_and, and_false, and_self, ↓reduceIte] at *; omega)) ?_
                refine And.intro (And.intro (fun h9 => ?_) (And.intro (fun h9 => ?_) (And.intro (fun h9 => ?_) (And.intro (fun h9 => ?_) (True.intro))))) (fun h9 => ?_)
                · replace h9 : (m2 r 3) = 142 := h9
                  have hs142 : s = 142 := by omega
                  refine And.intro (by first | assumption | omega | (simp only [mS_iff, eq_self, Int.reduceEq, true_and, and_true, false_and, and_false, and_self, ↓reduceIte]; omega)) ?_
                  refine ct_324 (by omega) z1 (by omega) ⟨by omega, z6⟩ ?_
                  exact hQ 0 (am_lmul (m2 x 0) (m2 y 0)) ((d2_a (by omega) e).trans ((d_bd_r e3).trans (by rw [if_neg (by omega), if_pos ⟨t0, u0⟩, hs142]; show d_c2 a 142 v z = _; rw [d_c2_142]; rw [xv.2, yv.2]))) _ _ ((fe.put z5 z6 (by omega)).wd (Int.le_refl _) (Int.le_refl _) (by omega)) (Or.inl ⟨rfl, z5, by rw [mS_iff, if_neg (by omega)]; exact z6, by rw [mS_iff, if_pos ⟨rfl, rfl⟩]⟩)
                · replace h9 : (m2 r 3) = 143 := h9
                  have hs143 : s = 143 := by omega
                  refine And.intro (by first | assumption | omega | (simp only [mS_iff, eq_self, Int.reduceEq, true_and, and_true, false_and, and_false, and_self, ↓reduceIte]; omega)) ?_
                  refine ct_324 (by omega) z1 (by omega) ⟨by omega, z6⟩ ?_
                  exact hQ 0 (am_ladd (m2 x 0) (m2 y 0)) ((d2_a (by omega) e).trans ((d_bd_r e3).trans (by rw [if_neg (by omega), if_pos ⟨t0, u0⟩, hs143]; show d_c2 a 143 v z = _; rw [d_c2_143]; rw [xv.2, yv.2]))) _ _ ((fe.put z5 z6 (by omega)).wd (Int.le_refl _) (Int.le_refl _) (by omega)) (Or.inl ⟨rfl, z5, by rw [mS_iff, if_neg (by omega)]; exact z6, by rw [mS_iff, if_pos ⟨rfl, rfl⟩]⟩)
                · replace h9 : (m2 r 3) = 145 := h9
                  have hs145 : s = 145 := by omega
                  refine And.intro (by first | assumption | omega | (simp only [mS_iff, eq_self, Int.reduceEq, true_and, and_true, false_and, and_false, and_self, ↓reduceIte]; omega)) ?_
                  refine ct_324 (by omega) z1 (by omega) ⟨by omega, z6⟩ ?_
                  exact hQ 0 (am_lsub (m2 x 0) (m2 y 0)) ((d2_a (by omega) e).trans ((d_bd_r e3).trans (by rw [if_neg (by omega), if_pos ⟨t0, u0⟩, hs145]; show d_c2 a 145 v z = _; rw [d_c2_145]; rw [xv.2, yv.2]))) _ _ ((fe.put z5 z6 (by omega)).wd (Int.le_refl _) (Int.le_refl _) (by omega)) (Or.inl ⟨rfl, z5, by rw [mS_iff, if_neg (by omega)]; exact z6, by rw [mS_iff, if_pos ⟨rfl, rfl⟩]⟩)
                · replace h9 : (m2 r 3) = 160 := h9
                  have hs160 : s = 160 := by omega
                  refine And.intro (fun h10 => ?_) (fun h10 => ?_)
                  · replace h10 := am_lc_ge.mp h10
                    refine And.intro (by first | assumption | omega | (simp only [mS_iff, eq_self, Int.reduceEq, true_and, and_true, false_and, and_false, and_self, ↓reduceIte]; omega)) ?_
                    refine ct_326 (by omega) z1 (by omega) ⟨by omega, z6⟩ (by omega) ?_
                    exact hQ 0 0 ((d2_a (by omega) e).trans ((d_bd_r e3).trans (by rw [if_neg (by omega), if_pos ⟨t0, u0⟩, hs160]; show d_c2 a 160 v z = _; rw [d_c2_160]; first | rw [if_pos (by omega)] | rw [if_neg (by omega)]))) _ _ ((fe.put z5 z6 (by omega)).wd (Int.le_refl _) (Int.le_refl _) (by omega)) (Or.inl ⟨rfl, z5, by rw [mS_iff, if_neg (by omega)]; exact z6, by rw [mS_iff, if_pos ⟨rfl, rfl⟩]⟩)
                  · replace h10 := am_lc_lt.mp h10
                    refine And.intro (by first | assumption | omega | (simp only [mS_iff, eq_self, Int.reduceEq, true_and, and_true, false_and, and_false, and_self, ↓reduceIte]; omega)) ?_
                    refine ct_326 (by omega) z1 (by omega) ⟨by omega, z6⟩ (by omega) ?_
                    exact hQ 0 1 ((d2_a (by omega) e).trans ((d_bd_r e3).trans (by rw [if_neg (by omega), if_pos ⟨t0, u0⟩, hs160]; show d_c2 a 160 v z = _; rw [d_c2_160]; first | rw [if_pos (by omega)] | rw [if_neg (by omega)]))) _ _ ((fe.put z5 z6 (by omega)).wd (Int.le_refl _) (Int.le_refl _) (by omega)) (Or.inl ⟨rfl, z5, by rw [mS_iff, if_neg (by omega)]; exact z6, by rw [mS_iff, if_pos ⟨rfl, rfl⟩]⟩)
                · simp only [am_none] at h9
                  have hs147 : s = 147 := by omega
                  refine And.intro (fun h11 => ?_) (fun h11 => ?_)
                  · refine And.intro (by first | assumption | omega | (simp only [mS_iff, eq_self, Int.reduceEq, true_and, and_true, false_and, and_false, and_self, ↓reduceIte]; omega)) ?_
                    refine ct_324 (by omega) z1 (by omega) ⟨by omega, z6⟩ ?_
                    exact hQ 0 (am_ldiv (m2 x 0) (m2 y 0)) ((d2_a (by omega) e).trans ((d_bd_r e3).trans (by rw [if_neg (by omega), if_pos ⟨t0, u0⟩, hs147]; show d_c2 a 147 v z = _; rw [d_c2_147]; rw [if_neg (by omega), xv.2, yv.2]))) _ _ ((fe.put z5 z6 (by omega)).wd (Int.le_refl _) (Int.le_refl _) (by omega)) (Or.inl ⟨rfl, z5, by rw [mS_iff, if_neg (by omega)]; exact z6, by rw [mS_iff, if_pos ⟨rfl, rfl⟩]⟩)
                  · refine And.intro (by first | omega | (simp only [mS_iff, eq_self, Int.reduceEq, true_and, and_true, false_and, and_false, and_self, ↓reduceIte]; omega) | (simp only [mS_iff, eq_self, Int.reduceEq, true_and, and_true, false_and, and_false, and_self, ↓reduceIte] at *; omega)) ?_
                    generalize h13 : mX m2 64 3 1000 = mw12
                    have fx := (fe.X (t := 64) (k := 3) (by omega) (by omega))
                    rw [h13] at fx
                    exact hX4 ((d2_a (by omega) e).trans ((d_bd_r e3).trans (by rw [if_neg (by omega), if_pos ⟨t0, u0⟩, hs147]; show d_c2 a 147 v z = _; rw [d_c2_147, if_pos (by omega)]))) _ _ (fx.wd (Int.le_refl _) (Int.le_refl _) (by omega))
              · have yn := yt.2.2.2 u0
                refine And.intro (by first | assumption | omega | (simp only [mS_iff, eq_self, Int.reduceEq, true_and, and_true, false_and, and_false, and_self, ↓reduceIte]; omega)) ?_
                refine ct_325 (by omega) yb yt.2.1 (fun h => absurd h (yt.2.2.2 u0)) (fun _ => And.intro (by omega) ?_)
                · exact hX2 ((d2_a (by omega) e).trans ((d_bd_r e3).trans (by rw [if_neg (by omega), if_neg (by omega)]))) _ _ ((fe.X (by omega) (by omega)).wd (Int.le_refl _) (Int.le_refl _) (by omega))
            · have xn := xt.2.2.2 t0
              refine And.intro (by first | assumption | omega | (simp only [mS_iff, eq_self, Int.reduceEq, true_and, and_true, false_and, and_false, and_self, ↓reduceIte]; omega)) ?_
              refine ct_325 (by omega) xb xt.2.1 (fun h => absurd h (xt.2.2.2 t0)) (fun _ => And.intro (by omega) ?_)
              · exact hX2 ((d2_a (by omega) e).trans ((d_bd_r e3).trans (by rw [if_neg (by omega), if_neg (by omega)]))) _ _ ((fe.X (by omega) (by omega)).wd (Int.le_refl _) (Int.le_refl _) (by omega))
          · skip
            by_cases t0 : t = 0
            · have xv := xt.2.2.1 t0
              skip
              refine And.intro (show 0 < x by first | omega | (simp only [mS_iff, eq_self, Int.reduceEq, true_and, and_true, false_and, and_false, and_self, ↓reduceIte]; omega) | (simp only [mS_iff, eq_self, Int.reduceEq, true_and, and_true, false_and, and_false, and_self, ↓reduceIte] at *; omega)) ?_
              refine And.intro (fun _ => ?_) (fun h => absurd (xv.1) h)
              refine And.intro (fun h => absurd h (by decide)) (fun _ => ?_)
              by_cases u0 : u = 0
              · have yv := yt.2.2.1 u0
                refine And.intro (show 0 < y by first | omega | (simp only [mS_iff, eq_self, Int.reduceEq, true_and, and_true, false_and, and_false, and_self, ↓reduceIte]; omega) | (simp only [mS_iff, eq_self, Int.reduceEq, true_and, and_true, false_and, and_false, and_self, ↓reduceIte] at *; omega)) ?_
                refine And.intro (fun _ => ?_) (fun h => absurd (yv.1) h)
                refine And.intro (fun h => absurd h (by decide)) (fun _ => ?_)
                refine And.intro (by first | assumption | omega | (simp only [mS_iff, eq_self, Int.reduceEq, true_and, and_true, false_and, and_false, and_self, ↓reduceIte]; omega)) ?_
                refine ct_325 (by omega) xb xt.2.1 (fun _ => ?_) (fun h => absurd (xv.1) h)
                refine And.intro (by first | assumption | omega | (simp only [mS_iff, eq_self, Int.reduceEq, true_and, and_true, false_and, and_false, and_self, ↓reduceIte]; omega)) ?_
                refine ct_325 (by omega) yb yt.2.1 (fun _ => ?_) (fun h => absurd (yv.1) h)
                refine And.intro (fun h16 => ?_) (fun h16 => ?_)
                · replace h16 := am_lc_ne.mp h16
                  refine And.intro (by first | assumption | omega | (simp only [mS_iff, eq_self, Int.reduceEq, true_and, and_true, false_and, and_false, and_self, ↓reduceIte]; omega)) ?_
                  refine ct_326 (by omega) z1 (by omega) ⟨by omega, z6⟩ (by omega) ?_
                  exact hQ 0 0 ((d2_a (by omega) e).trans ((d_bd_r e3).trans (by rw [if_pos (by omega)]; first | rw [if_pos (by omega)] | rw [if_neg (by omega)]))) _ _ ((fe.put z5 z6 (by omega)).wd (Int.le_refl _) (Int.le_refl _) (by omega)) (Or.inl ⟨rfl, z5, by rw [mS_iff, if_neg (by omega)]; exact z6, by rw [mS_iff, if_pos ⟨rfl, rfl⟩]⟩)
                · replace h16 := am_lc_eq.mp h16
                  refine And.intro (by first | assumption | omega | (simp only [mS_iff, eq_self, Int.reduceEq, true_and, and_true, false_and, and_false, and_self, ↓reduceIte]; omega)) ?_
                  refine ct_326 (by omega) z1 (by omega) ⟨by omega, z6⟩ (by omega) ?_
                  exact hQ 0 1 ((d2_a (by omega) e).trans ((d_bd_r e3).trans (by rw [if_pos (by omega)]; first | rw [if_pos (by omega)] | rw [if_neg (by omega)]))) _ _ ((fe.put z5 z6 (by omega)).wd (Int.le_refl _) (Int.le_refl _) (by omega)) (Or.inl ⟨rfl, z5, by rw [mS_iff, if_neg (by omega)]; exact z6, by rw [mS_iff, if_pos ⟨rfl, rfl⟩]⟩)
              · have yn := yt.2.2.2 u0
                refine And.intro (show 0 < y by first | omega | (simp only [mS_iff, eq_self, Int.reduceEq, true_and, and_true, false_and, and_false, and_self, ↓reduceIte]; omega) | (simp only [mS_iff, eq_self, Int.reduceEq, true_and, and_true, false_and, and_false, and_self, ↓reduceIte] at *; omega)) ?_
                refine And.intro (fun h => absurd h (yn)) (fun _ => And.intro (by omega) ?_)
                refine And.intro (fun _ => ?_) (fun h => absurd h (by decide))
                refine And.intro (show 0 ≤ x ∧ 0 ≤ y by first | omega | (simp only [mS_iff, eq_self, Int.reduceEq, true_and, and_true, false_and, and_false, and_self, ↓reduceIte]; omega) | (simp only [mS_iff, eq_self, Int.reduceEq, true_and, and_true, false_and, and_false, and_self, ↓reduceIte] at *; omega)) ?_
                refine And.intro (fun h18 => ?_) (fun h18 => ?_)
                · refine And.intro (by first | assumption | omega | (simp only [mS_iff, eq_self, Int.reduceEq, true_and, and_true, false_and, and_false, and_self, ↓reduceIte]; omega)) ?_
                  refine ct_326 (by omega) z1 (by omega) ⟨by omega, z6⟩ (by omega) ?_
                  exact hQ 0 0 ((d2_a (by omega) e).trans ((d_bd_r e3).trans (by rw [if_pos (by omega)]; have q := hv.eq hw hA2 (by omega); first | rw [if_pos (q.mp (by assumption))] | rw [if_neg (fun z => absurd (q.mpr z) (by assumption))]))) _ _ ((fe.put z5 z6 (by omega)).wd (Int.le_refl _) (Int.le_refl _) (by omega)) (Or.inl ⟨rfl, z5, by rw [mS_iff, if_neg (by omega)]; exact z6, by rw [mS_iff, if_pos ⟨rfl, rfl⟩]⟩)
                · refine And.intro (by first | assumption | omega | (simp only [mS_iff, eq_self, Int.reduceEq, true_and, and_true, false_and, and_false, and_self, ↓reduceIte]; omega)) ?_
                  refine ct_326 (by omega) z1 (by omega) ⟨by omega, z6⟩ (by omega) ?_
                  exact hQ 0 1 ((d2_a (by omega) e).trans ((d_bd_r e3).trans (by rw [if_pos (by omega)]; have q := hv.eq hw hA2 (by omega); first | rw [if_pos (q.mp (by assumption))] | rw [if_neg (fun z => absurd (q.mpr z) (by assumption))]))) _ _ ((fe.put z5 z6 (by omega)).wd (Int.le_refl _) (Int.le_refl _) (by omega)) (Or.inl ⟨rfl, z5, by rw [mS_iff, if_neg (by omega)]; exact z6, by rw [mS_iff, if_pos ⟨rfl, rfl⟩]⟩)
            · have xn := xt.2.2.2 t0
              skip
              refine And.intro (show 0 < x by first | omega | (simp only [mS_iff, eq_self, Int.reduceEq, true_and, and_true, false_and, and_false, and_self, ↓reduceIte]; omega) | (simp only [mS_iff, eq_self, Int.reduceEq, true_and, and_true, false_and, and_false, and_self, ↓reduceIte] at *; omega)) ?_
              refine And.intro (fun h => absurd h (xn)) (fun _ => And.intro (by omega) ?_)
              refine And.intro (fun _ => ?_) (fun h => absurd h (by decide))
              refine And.intro (show 0 ≤ x ∧ 0 ≤ y by first | omega | (simp only [mS_iff, eq_self, Int.reduceEq, true_and, and_true, false_and, and_false, and_self, ↓reduceIte]; omega) | (simp only [mS_iff, eq_self, Int.reduceEq, true_and, and_true, false_and, and_false, and_self, ↓reduceIte] at *; omega)) ?_
              refine And.intro (fun h20 => ?_) (fun h20 => ?_)
              · refine And.intro (by first | assumption | omega | (simp only [mS_iff, eq_self, Int.reduceEq, true_and, and_true, false_and, and_false, and_self, ↓reduceIte]; omega)) ?_
                refine ct_326 (by omega) z1 (by omega) ⟨by omega, z6⟩ (by omega) ?_
                exact hQ 0 0 ((d2_a (by omega) e).trans ((d_bd_r e3).trans (by rw [if_pos (by omega)]; have q := hv.eq hw hA2 (by omega); first | rw [if_pos (q.mp (by assumption))] | rw [if_neg (fun z => absurd (q.mpr z) (by assumption))]))) _ _ ((fe.put z5 z6 (by omega)).wd (Int.le_refl _) (Int.le_refl _) (by omega)) (Or.inl ⟨rfl, z5, by rw [mS_iff, if_neg (by omega)]; exact z6, by rw [mS_iff, if_pos ⟨rfl, rfl⟩]⟩)
              · refine And.intro (by first | assumption | omega | (simp only [mS_iff, eq_self, Int.reduceEq, true_and, and_true, false_and, and_false, and_self, ↓reduceIte]; omega)) ?_
                refine ct_326 (by omega) z1 (by omega) ⟨by omega, z6⟩ (by omega) ?_
                exact hQ 0 1 ((d2_a (by omega) e).trans ((d_bd_r e3).trans (by rw [if_pos (by omega)]; have q := hv.eq hw hA2 (by omega); first | rw [if_pos (q.mp (by assumption))] | rw [if_neg (fun z => absurd (q.mpr z) (by assumption))]))) _ _ ((fe.put z5 z6 (by omega)).wd (Int.le_refl _) (Int.le_refl _) (by omega)) (Or.inl ⟨rfl, z5, by rw [mS_iff, if_neg (by omega)]; exact z6, by rw [mS_iff, if_pos ⟨rfl, rfl⟩]⟩)
        · exact hF c q ((d2_a (by omega) e).trans (d_bd_l e3)) _ ((fe.trans (fe2.wd hl2.1 hl2.2 (Int.le_refl _))).wd (Int.le_refl _) (Int.le_refl _) (by omega)) e1 e2
      · by_cases t0 : t = 0
        · have xv := xt.2.2.1 t0
          refine And.intro (by first | assumption | omega | (simp only [mS_iff, eq_self, Int.reduceEq, true_and, and_true, false_and, and_false, and_self, ↓reduceIte]; omega)) ?_
          refine ct_325 (by omega) xb xt.2.1 (fun _ => ?_) (fun h => absurd (xv.1) h)
          refine And.intro (fun h21 => ?_) (fun h21 => ?_)
          · replace h21 := am_lc_eq.mp h21
            refine And.intro (show (m1 r (-1)) = 17 by first | assumption | omega | (simp only [mS_iff, eq_self, Int.reduceEq, true_and, and_true, false_and, and_false, and_self, ↓reduceIte]; omega) | (simp only [mS_iff, eq_self, Int.reduceEq, true_and, and_true, false_and, and_false, and_self, ↓reduceIte] at *; omega)) ?_
            refine And.intro (fun h22 => ?_) (fun h22 => ?_)
            · refine And.intro (fun h => absurd h (by decide)) (fun _ => ?_)
              refine And.intro (by first | assumption | omega | (simp only [mS_iff, eq_self, Int.reduceEq, true_and, and_true, false_and, and_false, and_self, ↓reduceIte]; omega)) ?_
              refine ct_326 (by omega) z1 (by omega) ⟨by omega, z6⟩ (by omega) ?_
              exact hQ 0 0 ((d2_o1 (by omega) e t0 (by omega)).trans (by rw [d_tw_0 (v := v) (by omega)])) _ _ ((fe.put z5 z6 (by omega)).wd (Int.le_refl _) (Int.le_refl _) (by omega)) (Or.inl ⟨rfl, z5, by rw [mS_iff, if_neg (by omega)]; exact z6, by rw [mS_iff, if_pos ⟨rfl, rfl⟩]⟩)
            · refine And.intro (fun _ => ?_) (fun h => absurd h (by decide))
              skip
              refine And.intro (show (m1 r (-1)) = 17 by first | assumption | omega | (simp only [mS_iff, eq_self, Int.reduceEq, true_and, and_true, false_and, and_false, and_self, ↓reduceIte]; omega) | (simp only [mS_iff, eq_self, Int.reduceEq, true_and, and_true, false_and, and_false, and_self, ↓reduceIte] at *; omega)) ?_
              rw [q5]
              refine And.intro ((hc2.keep ((kp fe).sub hl2.1 hl2.2)).2.1) ?_
              refine (hc2.keep ((kp fe).sub hl2.1 hl2.2)).2.2.2 m1 (hKeep.rfl m1 _ _) _ _ ar alo ahi w (by omega) hA1 (hR.go fe hl2 hp2 (by omega) (by omega)) (fun u z e3 m2 y fe2 hw => ?_) (fun c q e3 m2 fe2 e1 e2 => ?_)
              · have feo := fe
                have fe := feo.trans (fe2.wd hl2.1 hl2.2 (Int.le_refl _))
                have hz := hb.keep (kp fe)
                have z0 := hz.1
                have z1 := hz.2.1
                have z2 := hz.2.2.1
                have z3 := hz.2.2.2.1
                have z5 := hz.2.2.2.2.1
                have z6 := hz.2.2.2.2.2
                have q3 : m2 r 3 = s := by rw [(kp fe r z0.1 z0.2).2 (by omega)]; exact hs
                have q1 : m2 r (-1) = 17 := by rw [(kp fe r z0.1 z0.2).1]; exact tg
                have hA2 := fe.arms hA
                have hv := hv.mv fe2 hA1 (Or.inl hlt) (by omega) (by omega)
                have xt := hv.tag hA2 (by omega)
                have yt := hw.tag hA2 (by omega)
                have yb := yt.1
                have f1 := fe.1
                have f2 := fe.2.1
                by_cases u0 : u = 0
                · have yv := yt.2.2.1 u0
                  refine And.intro (by first | assumption | omega | (simp only [mS_iff, eq_self, Int.reduceEq, true_and, and_true, false_and, and_false, and_self, ↓reduceIte]; omega)) ?_
                  refine ct_325 (by omega) yb yt.2.1 (fun _ => ?_) (fun h => absurd (yv.1) h)
                  refine And.intro (fun h23 => ?_) (fun h23 => ?_)
                  · replace h23 := am_lc_eq.mp h23
                    refine And.intro (by first | assumption | omega | (simp only [mS_iff, eq_self, Int.reduceEq, true_and, and_true, false_and, and_false, and_self, ↓reduceIte]; omega)) ?_
                    refine ct_326 (by omega) z1 (by omega) ⟨by omega, z6⟩ (by omega) ?_
                    exact hQ 0 0 ((d2_o2 (by omega) e t0 (by omega)).trans ((d_bd_r e3).trans (by rw [if_pos u0, d_tw_0 (v := z) (by omega)]))) _ _ ((fe.put z5 z6 (by omega)).wd (Int.le_refl _) (Int.le_refl _) (by omega)) (Or.inl ⟨rfl, z5, by rw [mS_iff, if_neg (by omega)]; exact z6, by rw [mS_iff, if_pos ⟨rfl, rfl⟩]⟩)
                  · replace h23 := am_lc_ne.mp h23
                    refine And.intro (by first | assumption | omega | (simp only [mS_iff, eq_self, Int.reduceEq, true_and, and_true, false_and, and_false, and_self, ↓reduceIte]; omega)) ?_
                    refine ct_326 (by omega) z1 (by omega) ⟨by omega, z6⟩ (by omega) ?_
                    exact hQ 0 1 ((d2_o2 (by omega) e t0 (by omega)).trans ((d_bd_r e3).trans (by rw [if_pos u0, d_tw_1 (v := z) (by omega)]))) _ _ ((fe.put z5 z6 (by omega)).wd (Int.le_refl _) (Int.le_refl _) (by omega)) (Or.inl ⟨rfl, z5, by rw [mS_iff, if_neg (by omega)]; exact z6, by rw [mS_iff, if_pos ⟨rfl, rfl⟩]⟩)
                · have yn := yt.2.2.2 u0
                  refine And.intro (by first | assumption | omega | (simp only [mS_iff, eq_self, Int.reduceEq, true_and, and_true, false_and, and_false, and_self, ↓reduceIte]; omega)) ?_
                  refine ct_325 (by omega) yb yt.2.1 (fun h => absurd h (yt.2.2.2 u0)) (fun _ => And.intro (by omega) ?_)
                  · exact hX2 ((d2_o2 (by omega) e t0 (by omega)).trans ((d_bd_r e3).trans (by rw [if_neg u0]))) _ _ ((fe.X (by omega) (by omega)).wd (Int.le_refl _) (Int.le_refl _) (by omega))
              · exact hF c q ((d2_o2 (by omega) e t0 (by omega)).trans (d_bd_l e3)) _ ((fe.trans (fe2.wd hl2.1 hl2.2 (Int.le_refl _))).wd (Int.le_refl _) (Int.le_refl _) (by omega)) e1 e2
          · replace h21 := am_lc_ne.mp h21
            refine And.intro (show (m1 r (-1)) = 17 by first | assumption | omega | (simp only [mS_iff, eq_self, Int.reduceEq, true_and, and_true, false_and, and_false, and_self, ↓reduceIte]; omega) | (simp only [mS_iff, eq_self, Int.reduceEq, true_and, and_true, false_and, and_false, and_self, ↓reduceIte] at *; omega)) ?_
            refine And.intro (fun h24 => ?_) (fun h24 => ?_)
            · refine And.intro (fun _ => ?_) (fun h => absurd h (by decide))
              skip
              refine And.intro (show (m1 r (-1)) = 17 by first | assumption | omega | (simp only [mS_iff, eq_self, Int.reduceEq, true_and, and_true, false_and, and_false, and_self, ↓reduceIte]; omega) | (simp only [mS_iff, eq_self, Int.reduceEq, true_and, and_true, false_and, and_false, and_self, ↓reduceIte] at *; omega)) ?_
              rw [q5]
              refine And.intro ((hc2.keep ((kp fe).sub hl2.1 hl2.2)).2.1) ?_
              refine (hc2.keep ((kp fe).sub hl2.1 hl2.2)).2.2.2 m1 (hKeep.rfl m1 _ _) _ _ ar alo ahi w (by omega) hA1 (hR.go fe hl2 hp2 (by omega) (by omega)) (fun u z e3 m2 y fe2 hw => ?_) (fun c q e3 m2 fe2 e1 e2 => ?_)
              · have feo := fe
                have fe := feo.trans (fe2.wd hl2.1 hl2.2 (Int.le_refl _))
                have hz := hb.keep (kp fe)
                have z0 := hz.1
                have z1 := hz.2.1
                have z2 := hz.2.2.1
                have z3 := hz.2.2.2.1
                have z5 := hz.2.2.2.2.1
                have z6 := hz.2.2.2.2.2
                have q3 : m2 r 3 = s := by rw [(kp fe r z0.1 z0.2).2 (by omega)]; exact hs
                have q1 : m2 r (-1) = 17 := by rw [(kp fe r z0.1 z0.2).1]; exact tg
                have hA2 := fe.arms hA
                have hv := hv.mv fe2 hA1 (Or.inl hlt) (by omega) (by omega)
                have xt := hv.tag hA2 (by omega)
                have yt := hw.tag hA2 (by omega)
                have yb := yt.1
                have f1 := fe.1
                have f2 := fe.2.1
                by_cases u0 : u = 0
                · have yv := yt.2.2.1 u0
                  refine And.intro (by first | assumption | omega | (simp only [mS_iff, eq_self, Int.reduceEq, true_and, and_true, false_and, and_false, and_self, ↓reduceIte]; omega)) ?_
                  refine ct_325 (by omega) yb yt.2.1 (fun _ => ?_) (fun h => absurd (yv.1) h)
                  refine And.intro (fun h25 => ?_) (fun h25 => ?_)
                  · replace h25 := am_lc_eq.mp h25
                    refine And.intro (by first | assumption | omega | (simp only [mS_iff, eq_self, Int.reduceEq, true_and, and_true, false_and, and_false, and_self, ↓reduceIte]; omega)) ?_
                    refine ct_326 (by omega) z1 (by omega) ⟨by omega, z6⟩ (by omega) ?_
                    exact hQ 0 0 ((d2_o2 (by omega) e t0 (by omega)).trans ((d_bd_r e3).trans (by rw [if_pos u0, d_tw_0 (v := z) (by omega)]))) _ _ ((fe.put z5 z6 (by omega)).wd (Int.le_refl _) (Int.le_refl _) (by omega)) (Or.inl ⟨rfl, z5, by rw [mS_iff, if_neg (by omega)]; exact z6, by rw [mS_iff, if_pos ⟨rfl, rfl⟩]⟩)
                  · replace h25 := am_lc_ne.mp h25
                    refine And.intro (by first | assumption | omega | (simp only [mS_iff, eq_self, Int.reduceEq, true_and, and_true, false_and, and_false, and_self, ↓reduceIte]; omega)) ?_
                    refine ct_326 (by omega) z1 (by omega) ⟨by omega, z6⟩ (by omega) ?_
                    exact hQ 0 1 ((d2_o2 (by omega) e t0 (by omega)).trans ((d_bd_r e3).trans (by rw [if_pos u0, d_tw_1 (v := z) (by omega)]))) _ _ ((fe.put z5 z6 (by omega)).wd (Int.le_refl _) (Int.le_refl _) (by omega)) (Or.inl ⟨rfl, z5, by rw [mS_iff, if_neg (by omega)]; exact z6, by rw [mS_iff, if_pos ⟨rfl, rfl⟩]⟩)
                · have yn := yt.2.2.2 u0
                  refine And.intro (by first | assumption | omega | (simp only [mS_iff, eq_self, Int.reduceEq, true_and, and_true, false_and, and_false, and_self, ↓reduceIte]; omega)) ?_
                  refine ct_325 (by omega) yb yt.2.1 (fun h => absurd h (yt.2.2.2 u0)) (fun _ => And.intro (by omega) ?_)
                  · exact hX2 ((d2_o2 (by omega) e t0 (by omega)).trans ((d_bd_r e3).trans (by rw [if_neg u0]))) _ _ ((fe.X (by omega) (by omega)).wd (Int.le_refl _) (Int.le_refl _) (by omega))
              · exact hF c q ((d2_o2 (by omega) e t0 (by omega)).trans (d_bd_l e3)) _ ((fe.trans (fe2.wd hl2.1 hl2.2 (Int.le_refl _))).wd (Int.le_refl _) (Int.le_refl _) (by omega)) e1 e2
            · refine And.intro (fun h => absurd h (by decide)) (fun _ => ?_)
              refine And.intro (by first | assumption | omega | (simp only [mS_iff, eq_self, Int.reduceEq, true_and, and_true, false_and, and_false, and_self, ↓reduceIte]; omega)) ?_
              refine ct_326 (by omega) z1 (by omega) ⟨by omega, z6⟩ (by omega) ?_
              exact hQ 0 1 ((d2_o1 (by omega) e t0 (by omega)).trans (by rw [d_tw_1 (v := v) (by omega)])) _ _ ((fe.put z5 z6 (by omega)).wd (Int.le_refl _) (Int.le_refl _) (by omega)) (Or.inl ⟨rfl, z5, by rw [mS_iff, if_neg (by omega)]; exact z6, by rw [mS_iff, if_pos ⟨rfl, rfl⟩]⟩)
        · have xn := xt.2.2.2 t0
          refine And.intro (by first | assumption | omega | (simp only [mS_iff, eq_self, Int.reduceEq, true_and, and_true, false_and, and_false, and_self, ↓reduceIte]; omega)) ?_
          refine ct_325 (by omega) xb xt.2.1 (fun h => absurd h (xt.2.2.2 t0)) (fun _ => And.intro (by omega) ?_)
          · exact hX2 (d2_o0 (by omega) e t0) _ _ ((fe.X (by omega) (by omega)).wd (Int.le_refl _) (Int.le_refl _) (by omega))
  · exact hF c q (d2_l e) _ (fe1.wd hl.1 hl.2 (by omega)) e1 e2
