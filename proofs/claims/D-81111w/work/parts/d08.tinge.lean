/-! needs: d07 -/
/-! CLEAR, house: tinctures changed and taken back; by tools/gend8.py -/
set_option maxRecDepth 100000
set_option maxHeartbeats 8000000
theorem hOrd.cg2 {m m' : aM} {lo hi o b : Int} {w w' : Int → Int} (h : hOrd m lo hi o w b) (e : lo ≤ o → o ≤ hi → m o (-1) = 8 → m' o = m o) (tg : ∀ y, m' y (-1) = m y (-1)) (w1 : w' (b + 1) = w (b + 1)) (w2 : w' (b + 2) = w (b + 2)) (w3 : w' (b + 3) = w (b + 3)) : hOrd m' lo hi o w' b := by
  unfold hOrd okOrd noOrd hTold at *
  rw [w1, w2, w3]
  rcases h with h | ⟨h1, h2, h3, h4, h5, h6, h7, h8⟩
  · exact Or.inl h
  · refine Or.inr ⟨h1, h2, ?_⟩
    rw [e h1 h2 h3, tg]
    exact ⟨h3, h4, h5, h6, h7, h8⟩
theorem hGrp.cg2 {m m' : aM} {lo hi o b : Int} {w w' : Int → Int} (h : hGrp m lo hi o w b) (e : lo ≤ o → o ≤ hi → m o (-1) = 10 → m' o = m o) (tg : ∀ y, m' y (-1) = m y (-1)) (w4 : w' (b + 4) = w (b + 4)) (w5 : w' (b + 5) = w (b + 5)) (w6 : w' (b + 6) = w (b + 6)) (w7 : w' (b + 7) = w (b + 7)) (w8 : w' (b + 8) = w (b + 8)) (w9 : w' (b + 9) = w (b + 9)) : hGrp m' lo hi o w' b := by
  unfold hGrp okGrp noGrp hTold at *
  rw [w4, w5, w6, w7, w8, w9]
  rcases h with h | ⟨h1, h2, h3, h4, h5, h6, h7, h8, h9⟩
  · exact Or.inl h
  · refine Or.inr ⟨h1, h2, ?_⟩
    rw [e h1 h2 h3, tg]
    exact ⟨h3, h4, h5, h6, h7, h8, h9⟩
theorem hArms.put {m m' : aM} {lo hi r : Int} {w w' : Int → Int} (h : hArms m lo hi r w) (ok : okRow w') (h0 : m' 0 0 = m 0 0) (Y : ∀ y, m y (-1) = 4 ∨ m y (-1) = 7 ∨ m y (-1) = 45 → m' y = m y) (f : hFld m' lo hi (m r 0) w') (e5 : w' 5 = w 5) (L : ∀ k, 0 ≤ k → k < w 5 → hOrd m' lo hi (m (m (m r 1) k) 1) w' (6 + 10 * k) ∧ hGrp m' lo hi (m (m (m r 1) k) 2) w' (6 + 10 * k)) (E : ∀ k, 0 ≤ k → k < w 5 → w' (6 + 10 * k) = w (6 + 10 * k) ∧ w' (6 + 10 * k + 1) = w (6 + 10 * k + 1) ∧ w' (6 + 10 * k + 4) = w (6 + 10 * k + 4) ∧ w' (6 + 10 * k + 9) = w (6 + 10 * k + 9)) : hArms m' lo hi r w' := by
  obtain ⟨h1, h2, h3, h4, h5, h6, h7, h8, h9, h10⟩ := h
  have er := Y r (Or.inl h3)
  have ea := Y (m r 1) (Or.inr (Or.inr h6))
  have el : ∀ k, 0 ≤ k → k < w 5 → m' (m (m r 1) k) = m (m (m r 1) k) := fun k a b => Y _ (Or.inr (Or.inl (h9 k a b).2.1))
  unfold hArms
  rw [er, ea, e5, h0]
  refine ⟨h1, h2, h3, f, h5, h6, h7, ok, fun k a b => ?_, fun j k a b c d n => ?_⟩
  · obtain ⟨y1, y2, y3, y4, y5, y6, y7, y8, y9, y10⟩ := h9 k a b
    obtain ⟨E0, E1, E4, E9⟩ := E k a b
    unfold hLay
    rw [el k a b, E0, E1, E4, E9]
    exact ⟨y1, y2, y3, y4, (L k a b).1, (L k a b).2, y7, y8, y9, y10⟩
  · rw [el j a b, el k c d]
    exact h10 j k a b c d n
theorem mS_tg {m : aM} {x j t : Int} (hj : 0 ≤ j) : ∀ y, mS m x j t y (-1) = m y (-1) := fun y => by rw [mS_iff, if_neg (by omega)]
theorem mS_Y {m : aM} {x j t T : Int} (ht : m x (-1) = T) {y : Int} (n : m y (-1) ≠ T) : mS m x j t y = m y := funext fun i => mS_a _ _ _ _ (fun e => by rw [e] at n; exact n ht)
theorem mS_same {m : aM} {a i : Int} : mS m a i (m a i) = m := funext fun x => funext fun j => by
  rw [mS_iff]
  split
  · next h => rw [h.1, h.2]
  · rfl
/-- the field's tinctures -/
theorem hArms.put5 {m : aM} {lo hi r s t : Int} {w : Int → Int} (h : hArms m lo hi r w) (hs : s = 3 ∨ s = 4) (ok : okRow (up w s t)) : hArms (mS m (m r 0) s t) lo hi r (up w s t) := by
  have hf := h.fld
  obtain ⟨f1, f2, f3, f4, f5, f6, f7, f8⟩ := hf
  have lb := h.1
  have e : ∀ k, k ≠ s → up w s t k = w k := fun k n => up_n n
  have tg := mS_tg (m := m) (x := m r 0) (j := s) (t := t) (by omega)
  refine h.put ok (mS_a _ _ _ _ (by omega)) (fun y n => mS_Y f2 (by omega)) ?_ (e 5 (by omega)) (fun k a b => ?_) (fun k a b => ⟨e _ (by omega), e _ (by omega), e _ (by omega), e _ (by omega)⟩)
  · unfold hFld hTold
    have i : ∀ j, j ≠ s → mS m (m r 0) s t (m r 0) j = m (m r 0) j := fun j n => mS_i _ _ _ _ n
    rw [tg, tg, i 0 (by omega), i 1 (by omega), i 2 (by omega), i 5 (by omega), e 0 (by omega), e 1 (by omega), e 2 (by omega)]
    refine ⟨f1, f2, f3, f4, f5, ?_, ?_, f8⟩
    · by_cases q : (3 : Int) = s
      · rw [← q, mS_eq, up_s]
      · rw [i 3 q, e 3 q]; exact f6
    · by_cases q : (4 : Int) = s
      · rw [← q, mS_eq, up_s]
      · rw [i 4 q, e 4 q]; exact f7
  · obtain ⟨y1, y2, y3, y4, y5, y6, -⟩ := h.lay a b
    exact ⟨y5.cg2 (fun _ _ z => mS_Y f2 (by omega)) tg (e _ (by omega)) (e _ (by omega)) (e _ (by omega)), y6.cg2 (fun _ _ z => mS_Y f2 (by omega)) tg (e _ (by omega)) (e _ (by omega)) (e _ (by omega)) (e _ (by omega)) (e _ (by omega)) (e _ (by omega))⟩
theorem hFld.cg2 {m m' : aM} {lo hi f : Int} {w w' : Int → Int} (h : hFld m lo hi f w) (e : m' f = m f) (tg : ∀ y, m' y (-1) = m y (-1)) (ew : ∀ k, 0 ≤ k → k < 5 → w' k = w k) : hFld m' lo hi f w' := by
  unfold hFld hTold at *
  rw [e, tg, ew 0 (by omega) (by omega), ew 1 (by omega) (by omega), ew 2 (by omega) (by omega), ew 3 (by omega) (by omega), ew 4 (by omega) (by omega)]
  exact h
/-- an ordinary's, a group's -/
theorem hArms.put8 {m : aM} {lo hi r l t : Int} {w : Int → Int} (h : hArms m lo hi r w) (hl : 0 ≤ l ∧ l < w 5) (nz : m (m (m r 1) l) 1 ≠ 0) (ok : okRow (up w (6 + 10 * l + 3) t)) (ht : 0 ≤ t ∧ t ≤ 8) : hArms (mS m (m (m (m r 1) l) 1) 2 t) lo hi r (up w (6 + 10 * l + 3) t) := by
  have lb := h.1
  have e : ∀ k, k ≠ 6 + 10 * l + 3 → up w (6 + 10 * l + 3) t k = w k := fun k n => up_n n
  obtain ⟨y1, y2, y3, y4, y5, y6, -⟩ := h.lay hl.1 hl.2
  rcases y5 with y5 | ⟨o1, o2, o3, o4, o5, o6, o7, o8⟩
  · exact absurd y5.1 nz
  have tg := mS_tg (m := m) (x := m (m (m r 1) l) 1) (j := 2) (t := t) (by omega)
  have tf := h.fld.2.1
  refine h.put ok (mS_a _ _ _ _ (by omega)) (fun y n => mS_Y o3 (by omega)) (h.fld.cg2 (mS_Y o3 (by omega)) tg (fun k a b => e k (by omega))) (e 5 (by omega)) (fun k a b => ?_) (fun k a b => ⟨e _ (by omega), e _ (by omega), e _ (by omega), e _ (by omega)⟩)
  obtain ⟨z1, z2, z3, z4, z5, z6, -⟩ := h.lay a b
  refine ⟨?_, z6.cg2 (fun _ _ z => mS_Y o3 (by omega)) tg (e _ (by omega)) (e _ (by omega)) (e _ (by omega)) (e _ (by omega)) (e _ (by omega)) (e _ (by omega))⟩
  by_cases q : k = l
  · subst q
    have i : ∀ j, j ≠ 2 → mS m (m (m (m r 1) k) 1) 2 t (m (m (m r 1) k) 1) j = m (m (m (m r 1) k) 1) j := fun j n => mS_i _ _ _ _ n
    refine Or.inr ⟨o1, o2, by rw [tg]; exact o3, ?_, by rw [i 0 (by omega), e _ (by omega)]; exact o5, by rw [i 1 (by omega), e _ (by omega)]; exact o6, by rw [mS_eq, up_s], by rw [i 3 (by omega)]; exact ⟨o8.1, o8.2.1, by rw [tg]; exact o8.2.2⟩⟩
    unfold okOrd
    rw [e (6 + 10 * k + 1) (by omega), e (6 + 10 * k + 2) (by omega), up_s]
    exact ⟨o4.1, o4.2.1, o4.2.2.1, o4.2.2.2.1, ht.1, ht.2⟩
  · have nj := (h.inj hl.1 hl.2 a b (fun z => q z.symm)).2.1 nz
    exact z5.cg2 (fun _ _ z => funext fun j => mS_a _ _ _ _ (fun z => nj z.symm)) tg (e _ (by omega)) (e _ (by omega)) (e _ (by omega))
theorem hArms.put10 {m : aM} {lo hi r l t : Int} {w : Int → Int} (h : hArms m lo hi r w) (hl : 0 ≤ l ∧ l < w 5) (nz : m (m (m r 1) l) 2 ≠ 0) (ok : okRow (up w (6 + 10 * l + 8) t)) (ht : 0 ≤ t ∧ t ≤ 8) : hArms (mS m (m (m (m r 1) l) 2) 3 t) lo hi r (up w (6 + 10 * l + 8) t) := by
  have lb := h.1
  have e : ∀ k, k ≠ 6 + 10 * l + 8 → up w (6 + 10 * l + 8) t k = w k := fun k n => up_n n
  obtain ⟨y1, y2, y3, y4, y5, y6, -⟩ := h.lay hl.1 hl.2
  rcases y6 with y6 | ⟨o1, o2, o3, o4, o5, o6, o7, o8, o9⟩
  · exact absurd y6.1 nz
  have tg := mS_tg (m := m) (x := m (m (m r 1) l) 2) (j := 3) (t := t) (by omega)
  have tf := h.fld.2.1
  refine h.put ok (mS_a _ _ _ _ (by omega)) (fun y n => mS_Y o3 (by omega)) (h.fld.cg2 (mS_Y o3 (by omega)) tg (fun k a b => e k (by omega))) (e 5 (by omega)) (fun k a b => ?_) (fun k a b => ⟨e _ (by omega), e _ (by omega), e _ (by omega), e _ (by omega)⟩)
  obtain ⟨z1, z2, z3, z4, z5, z6, -⟩ := h.lay a b
  refine ⟨z5.cg2 (fun _ _ z => mS_Y o3 (by omega)) tg (e _ (by omega)) (e _ (by omega)) (e _ (by omega)), ?_⟩
  by_cases q : k = l
  · subst q
    have i : ∀ j, j ≠ 3 → mS m (m (m (m r 1) k) 2) 3 t (m (m (m r 1) k) 2) j = m (m (m (m r 1) k) 2) j := fun j n => mS_i _ _ _ _ n
    refine Or.inr ⟨o1, o2, by rw [tg]; exact o3, ?_, by rw [i 0 (by omega), e _ (by omega)]; exact o5, by rw [i 1 (by omega), e _ (by omega)]; exact o6, by rw [i 2 (by omega), e _ (by omega)]; exact o7, by rw [mS_eq, up_s], by rw [i 4 (by omega)]; exact ⟨o9.1, o9.2.1, by rw [tg]; exact o9.2.2⟩⟩
    unfold okGrp
    rw [e (6 + 10 * k + 4) (by omega), e (6 + 10 * k + 5) (by omega), e (6 + 10 * k + 6) (by omega), e (6 + 10 * k + 7) (by omega), e (6 + 10 * k + 9) (by omega), up_s]
    obtain ⟨q1', q2', q3', q4', q5', q6', q7', q8', q9', q10', q11'⟩ := o4
    exact ⟨q1', q2', q3', q4', q5', q6', q7', q8', ht.1, ht.2, q11'⟩
  · have nj := (h.inj hl.1 hl.2 a b (fun z => q z.symm)).2.2 nz
    exact z6.cg2 (fun _ _ z => funext fun j => mS_a _ _ _ _ (fun z => nj z.symm)) tg (e _ (by omega)) (e _ (by omega)) (e _ (by omega)) (e _ (by omega)) (e _ (by omega)) (e _ (by omega))
/-- only the arms change -/
def frU2 (lo hi : Int) (m m' : aM) : Prop := ∀ x j, x < lo ∨ hi < x → m' x j = m x j
/-- only the arms change, and what judging and conflicts write -/
def frV2 (lo hi : Int) (m m' : aM) : Prop := ∀ x j, x < lo ∨ hi < x → x ≠ 5 → (x ≠ 1 ∨ (j ≠ 5 ∧ j ≠ 30)) → m' x j = m x j
theorem frU2.V {lo hi : Int} {m m' : aM} (h : frU2 lo hi m m') : frV2 lo hi m m' := fun x j a _ _ => h x j a
theorem frV2.trans {lo hi : Int} {a b c : aM} (h : frV2 lo hi a b) (g : frV2 lo hi b c) : frV2 lo hi a c := fun x j u v w => (g x j u v w).trans (h x j u v w)
theorem frV2.rfl {lo hi : Int} {m : aM} : frV2 lo hi m m := fun _ _ _ _ _ => Eq.refl _
theorem hFr.V {c lo hi : Int} {a m m' : aM} (h : hFr c a m) (g : frV2 lo hi m m') (ha : 77 ≤ a 0 0 ∧ a 0 0 < lo) : hFr c a m' := by
  obtain ⟨h1, h2, h3, h4, h5⟩ := h
  have e0 : ∀ j, m' 0 j = m 0 j := fun j => g 0 j (by omega) (by omega) (by omega)
  refine ⟨by rw [e0]; exact h1, by rw [e0]; exact h2, fun j u v => by rw [e0]; exact h3 j u v, ⟨by rw [e0]; exact h4.1, fun r x y z => ?_⟩, fun x j u v p => ?_⟩
  · rw [show m' r = m r from funext fun j => g r j (by omega) (by omega) (by omega)]
    exact h4.2 r x y z
  · rw [g x j (by omega) (by unfold hKpt at p; omega) (by unfold hKpt at p; omega)]
    exact h5 x j u v p
theorem ct_118 {d : Nat} {m : aM} {Q : aO → aM → Prop} {r lo hi : Int} {w : Int → Int} (hd : 1 ≤ d) (hA : hArms m lo hi r w) (hQ : Q (.inl (some (aI (sp_n w)))) m) : am_wpc am_G am_T d 118 [aR r] m Q := by
  have hB := hA.basic
  have hf := hA.fld
  have ok := hA.row
  have w5 := ok.cnt
  have f2 := hf.2.1
  have f7 := hf.2.2.2.2.2.2.1
  have o4 := ok.2.2.2.2.1
  have sf := sp_f_b w
  have t4 := hB.2.2.2.2.1
  refine am_in rfl hd (fun d hd => ?_)
  have K28 : ∀ (Nm : Nat), ∀ (n : Int) (k : Int) (z5 : aV), (w 5 - k).toNat = Nm → (0 ≤ k ∧ k ≤ w 5) → (n = sp_c w k) → am_WP am_G (am_wpc am_G am_T d) [] cd_118 Q 28 [aR r, aI n, aR (m r 1), aI (m (m r 1) (-2)), aI k, z5] [] m := by
    intro Nm
    induction Nm using Nat.strongRecOn with
    | _ Nm ih28 =>
      intro n k z5 hN hk hn
      have cb := sp_c_b (w := w) (l := k) (by omega)
      refine am_go 400 [28] (am_wpc_cm _ _ _) wf_118 ?_
      refine And.intro (fun h1 => ?_) (fun h1 => ?_)
      · have e9 : n = sp_n w := by rw [hn]; unfold sp_n; rw [show k = w 5 by omega]
        rw [e9]
        exact hQ
      · have hy := hA.lay (k := k) (by omega) (by omega)
        have y1 := hy.2.1
        have l1 := (hLo hy (by omega)).1
        have l2 := (hLo hy (by omega)).2
        have l3 := (hLg hy (by omega)).1
        have l4 := (hLg hy (by omega)).2
        have yo := hy.2.2.2.2.1
        have yg := hy.2.2.2.2.2.1
        have ec := sp_c_s (w := w) (l := k) (by omega)
        have ob := sp_o_b w k
        have gb := sp_g_b w k
        have so : m (m (m r 1) k) 1 = 0 → sp_o w k = 0 := fun z => if_neg (by have := l1 z; omega)
        have so1 : m (m (m r 1) k) 1 ≠ 0 → sp_o w k = 1 := fun z => if_pos (by
          rcases yo with q | q
          · exact absurd q.1 z
          · have := q.2.2.2.1.1; omega)
        have sg : m (m (m r 1) k) 2 = 0 → sp_g w k = 0 := fun z => if_neg (by
          rcases yg with q | q
          · have := q.2.1; omega
          · have := q.1; omega)
        have sg1 : m (m (m r 1) k) 2 ≠ 0 → sp_g w k = 1 := fun z => if_pos (by
          rcases yg with q | q
          · exact absurd q.1 z
          · have := q.2.2.2.1.1; omega)
        have n9a : m (m (m r 1) k) 1 ≠ -9 := by rcases yo with q | q; have := q.1; omega; have := q.1; omega
        have n9b : m (m (m r 1) k) 2 ≠ -9 := by rcases yg with q | q; have := q.1; omega; have := q.1; omega
        refine And.intro (⟨hB.2.2.2.2.2.2.1, by omega⟩) ?_
        refine And.intro (show (m (m (m r 1) k) (-1)) = 7 by first | assumption | omega | (simp only [mS_iff, eq_self, Int.reduceEq, true_and, and_true, false_and, and_false, and_self, ↓reduceIte]; omega) | (simp only [mS_iff, eq_self, Int.reduceEq, true_and, and_true, false_and, and_false, and_self, ↓reduceIte] at *; omega)) ?_
        refine And.intro (n9a) ?_
        refine And.intro (fun h2 => ?_) (fun h2 => ?_)
        · refine And.intro (show (m (m (m r 1) k) (-1)) = 7 by first | assumption | omega | (simp only [mS_iff, eq_self, Int.reduceEq, true_and, and_true, false_and, and_false, and_self, ↓reduceIte]; omega) | (simp only [mS_iff, eq_self, Int.reduceEq, true_and, and_true, false_and, and_false, and_self, ↓reduceIte] at *; omega)) ?_
          refine And.intro (n9b) ?_
          refine And.intro (fun h3 => ?_) (fun h3 => ?_)
          · refine And.intro (show -2147483648 ≤ 1 + 1 ∧ 1 + 1 ≤ 2147483647 by first | omega | (simp only [mS_iff, eq_self, Int.reduceEq, true_and, and_true, false_and, and_false, and_self, ↓reduceIte]; omega) | (simp only [mS_iff, eq_self, Int.reduceEq, true_and, and_true, false_and, and_false, and_self, ↓reduceIte] at *; omega)) ?_
            refine And.intro (show -2147483648 ≤ n + 2 ∧ n + 2 ≤ 2147483647 by first | omega | (simp only [mS_iff, eq_self, Int.reduceEq, true_and, and_true, false_and, and_false, and_self, ↓reduceIte]; omega) | (simp only [mS_iff, eq_self, Int.reduceEq, true_and, and_true, false_and, and_false, and_self, ↓reduceIte] at *; omega)) ?_
            refine And.intro (show -2147483648 ≤ k + 1 ∧ k + 1 ≤ 2147483647 by first | omega | (simp only [mS_iff, eq_self, Int.reduceEq, true_and, and_true, false_and, and_false, and_self, ↓reduceIte]; omega) | (simp only [mS_iff, eq_self, Int.reduceEq, true_and, and_true, false_and, and_false, and_self, ↓reduceIte] at *; omega)) ?_
            refine ih28 _ ?_ _ _ _ (Eq.refl _) ?_ ?_
            · omega
            · omega
            · rw [ec]; first | (rw [so (by omega), sg (by omega)]; omega) | (rw [so1 (by omega), sg (by omega)]; omega) | (rw [so (by omega), sg1 (by omega)]; omega) | (rw [so1 (by omega), sg1 (by omega)]; omega)
          · refine And.intro (show -2147483648 ≤ 1 + 0 ∧ 1 + 0 ≤ 2147483647 by first | omega | (simp only [mS_iff, eq_self, Int.reduceEq, true_and, and_true, false_and, and_false, and_self, ↓reduceIte]; omega) | (simp only [mS_iff, eq_self, Int.reduceEq, true_and, and_true, false_and, and_false, and_self, ↓reduceIte] at *; omega)) ?_
            refine And.intro (show -2147483648 ≤ n + 1 ∧ n + 1 ≤ 2147483647 by first | omega | (simp only [mS_iff, eq_self, Int.reduceEq, true_and, and_true, false_and, and_false, and_self, ↓reduceIte]; omega) | (simp only [mS_iff, eq_self, Int.reduceEq, true_and, and_true, false_and, and_false, and_self, ↓reduceIte] at *; omega)) ?_
            refine And.intro (show -2147483648 ≤ k + 1 ∧ k + 1 ≤ 2147483647 by first | omega | (simp only [mS_iff, eq_self, Int.reduceEq, true_and, and_true, false_and, and_false, and_self, ↓reduceIte]; omega) | (simp only [mS_iff, eq_self, Int.reduceEq, true_and, and_true, false_and, and_false, and_self, ↓reduceIte] at *; omega)) ?_
            refine ih28 _ ?_ _ _ _ (Eq.refl _) ?_ ?_
            · omega
            · omega
            · rw [ec]; first | (rw [so (by omega), sg (by omega)]; omega) | (rw [so1 (by omega), sg (by omega)]; omega) | (rw [so (by omega), sg1 (by omega)]; omega) | (rw [so1 (by omega), sg1 (by omega)]; omega)
        · refine And.intro (show (m (m (m r 1) k) (-1)) = 7 by first | assumption | omega | (simp only [mS_iff, eq_self, Int.reduceEq, true_and, and_true, false_and, and_false, and_self, ↓reduceIte]; omega) | (simp only [mS_iff, eq_self, Int.reduceEq, true_and, and_true, false_and, and_false, and_self, ↓reduceIte] at *; omega)) ?_
          refine And.intro (n9b) ?_
          refine And.intro (fun h4 => ?_) (fun h4 => ?_)
          · refine And.intro (show -2147483648 ≤ 0 + 1 ∧ 0 + 1 ≤ 2147483647 by first | omega | (simp only [mS_iff, eq_self, Int.reduceEq, true_and, and_true, false_and, and_false, and_self, ↓reduceIte]; omega) | (simp only [mS_iff, eq_self, Int.reduceEq, true_and, and_true, false_and, and_false, and_self, ↓reduceIte] at *; omega)) ?_
            refine And.intro (show -2147483648 ≤ n + 1 ∧ n + 1 ≤ 2147483647 by first | omega | (simp only [mS_iff, eq_self, Int.reduceEq, true_and, and_true, false_and, and_false, and_self, ↓reduceIte]; omega) | (simp only [mS_iff, eq_self, Int.reduceEq, true_and, and_true, false_and, and_false, and_self, ↓reduceIte] at *; omega)) ?_
            refine And.intro (show -2147483648 ≤ k + 1 ∧ k + 1 ≤ 2147483647 by first | omega | (simp only [mS_iff, eq_self, Int.reduceEq, true_and, and_true, false_and, and_false, and_self, ↓reduceIte]; omega) | (simp only [mS_iff, eq_self, Int.reduceEq, true_and, and_true, false_and, and_false, and_self, ↓reduceIte] at *; omega)) ?_
            refine ih28 _ ?_ _ _ _ (Eq.refl _) ?_ ?_
            · omega
            · omega
            · rw [ec]; first | (rw [so (by omega), sg (by omega)]; omega) | (rw [so1 (by omega), sg (by omega)]; omega) | (rw [so (by omega), sg1 (by omega)]; omega) | (rw [so1 (by omega), sg1 (by omega)]; omega)
          · refine And.intro (show -2147483648 ≤ 0 + 0 ∧ 0 + 0 ≤ 2147483647 by first | omega | (simp only [mS_iff, eq_self, Int.reduceEq, true_and, and_true, false_and, and_false, and_self, ↓reduceIte]; omega) | (simp only [mS_iff, eq_self, Int.reduceEq, true_and, and_true, false_and, and_false, and_self, ↓reduceIte] at *; omega)) ?_
            refine And.intro (show -2147483648 ≤ n + 0 ∧ n + 0 ≤ 2147483647 by first | omega | (simp only [mS_iff, eq_self, Int.reduceEq, true_and, and_true, false_and, and_false, and_self, ↓reduceIte]; omega) | (simp only [mS_iff, eq_self, Int.reduceEq, true_and, and_true, false_and, and_false, and_self, ↓reduceIte] at *; omega)) ?_
            refine And.intro (show -2147483648 ≤ k + 1 ∧ k + 1 ≤ 2147483647 by first | omega | (simp only [mS_iff, eq_self, Int.reduceEq, true_and, and_true, false_and, and_false, and_self, ↓reduceIte]; omega) | (simp only [mS_iff, eq_self, Int.reduceEq, true_and, and_true, false_and, and_false, and_self, ↓reduceIte] at *; omega)) ?_
            refine ih28 _ ?_ _ _ _ (Eq.refl _) ?_ ?_
            · omega
            · omega
            · rw [ec]; first | (rw [so (by omega), sg (by omega)]; omega) | (rw [so1 (by omega), sg (by omega)]; omega) | (rw [so (by omega), sg1 (by omega)]; omega) | (rw [so1 (by omega), sg1 (by omega)]; omega)
  refine am_go 400 [28] (am_wpc_cm _ _ _) wf_118 ?_
  refine And.intro (t4) ?_
  refine And.intro (show (m (m r 0) (-1)) = 5 by first | assumption | omega | (simp only [mS_iff, eq_self, Int.reduceEq, true_and, and_true, false_and, and_false, and_self, ↓reduceIte]; omega) | (simp only [mS_iff, eq_self, Int.reduceEq, true_and, and_true, false_and, and_false, and_self, ↓reduceIte] at *; omega)) ?_
  refine And.intro (fun h5 => ?_) (fun h5 => ?_)
  · refine And.intro (t4) ?_
    refine And.intro (Or.inl (by have := hB.2.2.2.2.2.2.1; omega)) ?_
    refine K28 _ _ _ _ (Eq.refl _) ?_ ?_
    · omega
    · rw [sp_c_0]; omega
  · refine And.intro (t4) ?_
    refine And.intro (Or.inl (by have := hB.2.2.2.2.2.2.1; omega)) ?_
    refine K28 _ _ _ _ (Eq.refl _) ?_ ?_
    · omega
    · rw [sp_c_0]; omega
theorem ct_120 {d : Nat} {m : aM} {Q : aO → aM → Prop} {r lo hi p s t : Int} {w : Int → Int} (hd : 1 ≤ d) (hA : hArms m lo hi r w) (hs : spAt w p s) (ht : 0 ≤ t ∧ t ≤ 8) (hQ : ∀ m', hArms m' lo hi r (up w s t) → frU2 lo hi m m' → Q (.inl (some (aI (w s)))) m') : am_wpc am_G am_T d 120 [aR r, aI p, aI t] m Q := by
  have hB := hA.basic
  have hf := hA.fld
  have ok := hA.row
  have w5 := ok.cnt
  have f1 := hf.1
  have f2 := hf.2.1
  have f6 := hf.2.2.2.2.2.1
  have f7 := hf.2.2.2.2.2.2.1
  have o4 := ok.2.2.2.2.1
  have sf := sp_f_b w
  have t4 := hB.2.2.2.2.1
  have sb := spAt_lt w5.1 hs
  have okt := okRow_up ok hs ht
  have nb := sp_n_b w5
  have nf : r ≠ m r 0 := fun e => by rw [← e] at f2; omega
  obtain ⟨f, ef⟩ : ∃ f, f = m r 0 := ⟨_, rfl⟩
  have qe : ∀ x, spAt w p x → x = s := fun x q => spAt_u q hs
  refine am_in rfl hd (fun d hd => ?_)
  have K116 : ∀ (Nm : Nat), ∀ (g : Int) (fs : Int) (k : Int) (z8 : aV) (z9 : aV), (w 5 - k).toNat = Nm → (0 ≤ k ∧ k ≤ w 5) → (0 ≤ g ∧ g = p - sp_c w k) → am_WP am_G (am_wpc am_G am_T d) [] cd_120 Q 116 [aR r, aI p, aI t, aI g, aI fs, aR (m r 1), aI (m (m r 1) (-2)), aI k, z8, z9] [] m := by
    intro Nm
    induction Nm using Nat.strongRecOn with
    | _ Nm ih116 =>
      intro g fs k z8 z9 hN hk hl
      have cb := sp_c_b (w := w) (l := k) (by omega)
      refine am_go 400 [116] (am_wpc_cm _ _ _) wf_120 ?_
      refine And.intro (fun h1 => ?_) (fun h1 => ?_)
      · exfalso
        have e9 : sp_c w k = sp_n w := by unfold sp_n; rw [show k = w 5 by omega]
        omega
      · have hy := hA.lay (k := k) (by omega) (by omega)
        have y1 := hy.2.1
        have l1 := (hLo hy (by omega)).1
        have l2 := (hLo hy (by omega)).2
        have l3 := (hLg hy (by omega)).1
        have l4 := (hLg hy (by omega)).2
        have yo := hy.2.2.2.2.1
        have yg := hy.2.2.2.2.2.1
        have ec := sp_c_s (w := w) (l := k) (by omega)
        have ob := sp_o_b w k
        have gb := sp_g_b w k
        have so : m (m (m r 1) k) 1 = 0 → sp_o w k = 0 := fun z => if_neg (by have := l1 z; omega)
        have so1 : m (m (m r 1) k) 1 ≠ 0 → sp_o w k = 1 := fun z => if_pos (by
          rcases yo with q | q
          · exact absurd q.1 z
          · have := q.2.2.2.1.1; omega)
        have sg : m (m (m r 1) k) 2 = 0 → sp_g w k = 0 := fun z => if_neg (by
          rcases yg with q | q
          · have := q.2.1; omega
          · have := q.1; omega)
        have sg1 : m (m (m r 1) k) 2 ≠ 0 → sp_g w k = 1 := fun z => if_pos (by
          rcases yg with q | q
          · exact absurd q.1 z
          · have := q.2.2.2.1.1; omega)
        have n9a : m (m (m r 1) k) 1 ≠ -9 := by rcases yo with q | q; have := q.1; omega; have := q.1; omega
        have n9b : m (m (m r 1) k) 2 ≠ -9 := by rcases yg with q | q; have := q.1; omega; have := q.1; omega
        refine And.intro (⟨hB.2.2.2.2.2.2.1, by omega⟩) ?_
        refine And.intro (show (m (m (m r 1) k) (-1)) = 7 by first | assumption | omega | (simp only [mS_iff, eq_self, Int.reduceEq, true_and, and_true, false_and, and_false, and_self, ↓reduceIte]; omega) | (simp only [mS_iff, eq_self, Int.reduceEq, true_and, and_true, false_and, and_false, and_self, ↓reduceIte] at *; omega)) ?_
        refine And.intro (n9a) ?_
        refine And.intro (fun h2 => ?_) (fun h2 => ?_)
        · refine And.intro (show (m (m (m r 1) k) (-1)) = 7 by first | assumption | omega | (simp only [mS_iff, eq_self, Int.reduceEq, true_and, and_true, false_and, and_false, and_self, ↓reduceIte]; omega) | (simp only [mS_iff, eq_self, Int.reduceEq, true_and, and_true, false_and, and_false, and_self, ↓reduceIte] at *; omega)) ?_
          refine And.intro (n9b) ?_
          refine And.intro (fun h3 => ?_) (fun h3 => ?_)
          · refine And.intro (show -2147483648 ≤ k + 1 ∧ k + 1 ≤ 2147483647 by first | omega | (simp only [mS_iff, eq_self, Int.reduceEq, true_and, and_true, false_and, and_false, and_self, ↓reduceIte]; omega) | (simp only [mS_iff, eq_self, Int.reduceEq, true_and, and_true, false_and, and_false, and_self, ↓reduceIte] at *; omega)) ?_
            refine ih116 _ ?_ _ _ _ _ _ (Eq.refl _) ?_ ?_
            · omega
            · omega
            · rw [ec]
              first | (rw [so (by omega), sg (by omega)]; omega) | (rw [so1 (by omega), sg (by omega)]; omega) | (rw [so (by omega), sg1 (by omega)]; omega) | (rw [so1 (by omega), sg1 (by omega)]; omega)
          · refine And.intro (fun h4 => ?_) (fun h4 => ?_)
            · refine And.intro (show -2147483648 ≤ g + (-1) ∧ g + (-1) ≤ 2147483647 by first | omega | (simp only [mS_iff, eq_self, Int.reduceEq, true_and, and_true, false_and, and_false, and_self, ↓reduceIte]; omega) | (simp only [mS_iff, eq_self, Int.reduceEq, true_and, and_true, false_and, and_false, and_self, ↓reduceIte] at *; omega)) ?_
              refine And.intro (show -2147483648 ≤ k + 1 ∧ k + 1 ≤ 2147483647 by first | omega | (simp only [mS_iff, eq_self, Int.reduceEq, true_and, and_true, false_and, and_false, and_self, ↓reduceIte]; omega) | (simp only [mS_iff, eq_self, Int.reduceEq, true_and, and_true, false_and, and_false, and_self, ↓reduceIte] at *; omega)) ?_
              refine ih116 _ ?_ _ _ _ _ _ (Eq.refl _) ?_ ?_
              · omega
              · omega
              · rw [ec]
                first | (rw [so (by omega), sg (by omega)]; omega) | (rw [so1 (by omega), sg (by omega)]; omega) | (rw [so (by omega), sg1 (by omega)]; omega) | (rw [so1 (by omega), sg1 (by omega)]; omega)
            · skip
              refine And.intro (show (m (m (m r 1) k) (-1)) = 7 by first | assumption | omega | (simp only [mS_iff, eq_self, Int.reduceEq, true_and, and_true, false_and, and_false, and_self, ↓reduceIte]; omega) | (simp only [mS_iff, eq_self, Int.reduceEq, true_and, and_true, false_and, and_false, and_self, ↓reduceIte] at *; omega)) ?_
              refine And.intro (show (m (m (m (m r 1) k) 2) (-1)) = 10 by first | assumption | omega | (simp only [mS_iff, eq_self, Int.reduceEq, true_and, and_true, false_and, and_false, and_self, ↓reduceIte]; omega) | (simp only [mS_iff, eq_self, Int.reduceEq, true_and, and_true, false_and, and_false, and_self, ↓reduceIte] at *; omega)) ?_
              refine And.intro (show (m (m (m r 1) k) (-1)) = 7 by first | assumption | omega | (simp only [mS_iff, eq_self, Int.reduceEq, true_and, and_true, false_and, and_false, and_self, ↓reduceIte]; omega) | (simp only [mS_iff, eq_self, Int.reduceEq, true_and, and_true, false_and, and_false, and_self, ↓reduceIte] at *; omega)) ?_
              refine And.intro (show 0 < (m (m (m r 1) k) 2) ∧ (m (m (m (m r 1) k) 2) (-1)) = 10 by first | omega | (simp only [mS_iff, eq_self, Int.reduceEq, true_and, and_true, false_and, and_false, and_self, ↓reduceIte]; omega) | (simp only [mS_iff, eq_self, Int.reduceEq, true_and, and_true, false_and, and_false, and_self, ↓reduceIte] at *; omega)) ?_
              have es := qe (6 + 10 * k + 8) (Or.inr (Or.inr ⟨k, ⟨by omega, by omega⟩, Or.inr ⟨sg1 (by omega), by first | (rw [so1 (by omega)]; omega) | (rw [so (by omega)]; omega), rfl⟩⟩))
              have P5 := hA.put10 (l := k) (t := t) (by omega) (by omega) (by rw [es]; exact okt) ht
              rw [es] at P5
              have ev : (m (m (m (m r 1) k) 2) 3) = w s := by rw [← es]; first | exact (l2 (by omega)).2.2.2.2 | exact (l4 (by omega)).2.2.2.2.2
              rw [ev]
              exact hQ _ P5 (fun x j u => mS_a _ _ _ _ (by first | (rcases yo with q | q; have := q.1; omega; have := q.1; have := q.2.1; omega) | (rcases yg with q | q; have := q.1; omega; have := q.1; have := q.2.1; omega)))
        · refine And.intro (fun h5 => ?_) (fun h5 => ?_)
          · refine And.intro (show -2147483648 ≤ g + (-1) ∧ g + (-1) ≤ 2147483647 by first | omega | (simp only [mS_iff, eq_self, Int.reduceEq, true_and, and_true, false_and, and_false, and_self, ↓reduceIte]; omega) | (simp only [mS_iff, eq_self, Int.reduceEq, true_and, and_true, false_and, and_false, and_self, ↓reduceIte] at *; omega)) ?_
            refine And.intro (show (m (m (m r 1) k) (-1)) = 7 by first | assumption | omega | (simp only [mS_iff, eq_self, Int.reduceEq, true_and, and_true, false_and, and_false, and_self, ↓reduceIte]; omega) | (simp only [mS_iff, eq_self, Int.reduceEq, true_and, and_true, false_and, and_false, and_self, ↓reduceIte] at *; omega)) ?_
            refine And.intro (n9b) ?_
            refine And.intro (fun h6 => ?_) (fun h6 => ?_)
            · refine And.intro (show -2147483648 ≤ k + 1 ∧ k + 1 ≤ 2147483647 by first | omega | (simp only [mS_iff, eq_self, Int.reduceEq, true_and, and_true, false_and, and_false, and_self, ↓reduceIte]; omega) | (simp only [mS_iff, eq_self, Int.reduceEq, true_and, and_true, false_and, and_false, and_self, ↓reduceIte] at *; omega)) ?_
              refine ih116 _ ?_ _ _ _ _ _ (Eq.refl _) ?_ ?_
              · omega
              · omega
              · rw [ec]
                first | (rw [so (by omega), sg (by omega)]; omega) | (rw [so1 (by omega), sg (by omega)]; omega) | (rw [so (by omega), sg1 (by omega)]; omega) | (rw [so1 (by omega), sg1 (by omega)]; omega)
            · refine And.intro (fun h7 => ?_) (fun h7 => ?_)
              · refine And.intro (show -2147483648 ≤ (g + (-1)) + (-1) ∧ (g + (-1)) + (-1) ≤ 2147483647 by first | omega | (simp only [mS_iff, eq_self, Int.reduceEq, true_and, and_true, false_and, and_false, and_self, ↓reduceIte]; omega) | (simp only [mS_iff, eq_self, Int.reduceEq, true_and, and_true, false_and, and_false, and_self, ↓reduceIte] at *; omega)) ?_
                refine And.intro (show -2147483648 ≤ k + 1 ∧ k + 1 ≤ 2147483647 by first | omega | (simp only [mS_iff, eq_self, Int.reduceEq, true_and, and_true, false_and, and_false, and_self, ↓reduceIte]; omega) | (simp only [mS_iff, eq_self, Int.reduceEq, true_and, and_true, false_and, and_false, and_self, ↓reduceIte] at *; omega)) ?_
                refine ih116 _ ?_ _ _ _ _ _ (Eq.refl _) ?_ ?_
                · omega
                · omega
                · rw [ec]
                  first | (rw [so (by omega), sg (by omega)]; omega) | (rw [so1 (by omega), sg (by omega)]; omega) | (rw [so (by omega), sg1 (by omega)]; omega) | (rw [so1 (by omega), sg1 (by omega)]; omega)
              · skip
                refine And.intro (show (m (m (m r 1) k) (-1)) = 7 by first | assumption | omega | (simp only [mS_iff, eq_self, Int.reduceEq, true_and, and_true, false_and, and_false, and_self, ↓reduceIte]; omega) | (simp only [mS_iff, eq_self, Int.reduceEq, true_and, and_true, false_and, and_false, and_self, ↓reduceIte] at *; omega)) ?_
                refine And.intro (show (m (m (m (m r 1) k) 2) (-1)) = 10 by first | assumption | omega | (simp only [mS_iff, eq_self, Int.reduceEq, true_and, and_true, false_and, and_false, and_self, ↓reduceIte]; omega) | (simp only [mS_iff, eq_self, Int.reduceEq, true_and, and_true, false_and, and_false, and_self, ↓reduceIte] at *; omega)) ?_
                refine And.intro (show (m (m (m r 1) k) (-1)) = 7 by first | assumption | omega | (simp only [mS_iff, eq_self, Int.reduceEq, true_and, and_true, false_and, and_false, and_self, ↓reduceIte]; omega) | (simp only [mS_iff, eq_self, Int.reduceEq, true_and, and_true, false_and, and_false, and_self, ↓reduceIte] at *; omega)) ?_
                refine And.intro (show 0 < (m (m (m r 1) k) 2) ∧ (m (m (m (m r 1) k) 2) (-1)) = 10 by first | omega | (simp only [mS_iff, eq_self, Int.reduceEq, true_and, and_true, false_and, and_false, and_self, ↓reduceIte]; omega) | (simp only [mS_iff, eq_self, Int.reduceEq, true_and, and_true, false_and, and_false, and_self, ↓reduceIte] at *; omega)) ?_
                have es := qe (6 + 10 * k + 8) (Or.inr (Or.inr ⟨k, ⟨by omega, by omega⟩, Or.inr ⟨sg1 (by omega), by first | (rw [so1 (by omega)]; omega) | (rw [so (by omega)]; omega), rfl⟩⟩))
                have P5 := hA.put10 (l := k) (t := t) (by omega) (by omega) (by rw [es]; exact okt) ht
                rw [es] at P5
                have ev : (m (m (m (m r 1) k) 2) 3) = w s := by rw [← es]; first | exact (l2 (by omega)).2.2.2.2 | exact (l4 (by omega)).2.2.2.2.2
                rw [ev]
                exact hQ _ P5 (fun x j u => mS_a _ _ _ _ (by first | (rcases yo with q | q; have := q.1; omega; have := q.1; have := q.2.1; omega) | (rcases yg with q | q; have := q.1; omega; have := q.1; have := q.2.1; omega)))
          · skip
            refine And.intro (show (m (m (m r 1) k) (-1)) = 7 by first | assumption | omega | (simp only [mS_iff, eq_self, Int.reduceEq, true_and, and_true, false_and, and_false, and_self, ↓reduceIte]; omega) | (simp only [mS_iff, eq_self, Int.reduceEq, true_and, and_true, false_and, and_false, and_self, ↓reduceIte] at *; omega)) ?_
            refine And.intro (show (m (m (m (m r 1) k) 1) (-1)) = 8 by first | assumption | omega | (simp only [mS_iff, eq_self, Int.reduceEq, true_and, and_true, false_and, and_false, and_self, ↓reduceIte]; omega) | (simp only [mS_iff, eq_self, Int.reduceEq, true_and, and_true, false_and, and_false, and_self, ↓reduceIte] at *; omega)) ?_
            refine And.intro (show (m (m (m r 1) k) (-1)) = 7 by first | assumption | omega | (simp only [mS_iff, eq_self, Int.reduceEq, true_and, and_true, false_and, and_false, and_self, ↓reduceIte]; omega) | (simp only [mS_iff, eq_self, Int.reduceEq, true_and, and_true, false_and, and_false, and_self, ↓reduceIte] at *; omega)) ?_
            refine And.intro (show 0 < (m (m (m r 1) k) 1) ∧ (m (m (m (m r 1) k) 1) (-1)) = 8 by first | omega | (simp only [mS_iff, eq_self, Int.reduceEq, true_and, and_true, false_and, and_false, and_self, ↓reduceIte]; omega) | (simp only [mS_iff, eq_self, Int.reduceEq, true_and, and_true, false_and, and_false, and_self, ↓reduceIte] at *; omega)) ?_
            have es := qe (6 + 10 * k + 3) (Or.inr (Or.inr ⟨k, ⟨by omega, by omega⟩, Or.inl ⟨so1 (by omega), by omega, rfl⟩⟩))
            have P5 := hA.put8 (l := k) (t := t) (by omega) (by omega) (by rw [es]; exact okt) ht
            rw [es] at P5
            have ev : (m (m (m (m r 1) k) 1) 2) = w s := by rw [← es]; first | exact (l2 (by omega)).2.2.2.2 | exact (l4 (by omega)).2.2.2.2.2
            rw [ev]
            exact hQ _ P5 (fun x j u => mS_a _ _ _ _ (by first | (rcases yo with q | q; have := q.1; omega; have := q.1; have := q.2.1; omega) | (rcases yg with q | q; have := q.1; omega; have := q.1; have := q.2.1; omega)))
  refine am_go 400 [116] (am_wpc_cm _ _ _) wf_120 ?_
  refine And.intro (t4) ?_
  skip
  refine And.intro (show (m (m r 0) (-1)) = 5 by first | assumption | omega | (simp only [mS_iff, eq_self, Int.reduceEq, true_and, and_true, false_and, and_false, and_self, ↓reduceIte]; omega) | (simp only [mS_iff, eq_self, Int.reduceEq, true_and, and_true, false_and, and_false, and_self, ↓reduceIte] at *; omega)) ?_
  refine And.intro (fun h8 => ?_) (fun h8 => ?_)
  · refine And.intro (fun h9 => ?_) (fun h9 => ?_)
    · refine And.intro (show -2147483648 ≤ p - 2 ∧ p - 2 ≤ 2147483647 by first | omega | (simp only [mS_iff, eq_self, Int.reduceEq, true_and, and_true, false_and, and_false, and_self, ↓reduceIte]; omega) | (simp only [mS_iff, eq_self, Int.reduceEq, true_and, and_true, false_and, and_false, and_self, ↓reduceIte] at *; omega)) ?_
      refine And.intro (t4) ?_
      refine And.intro (Or.inl (by have := hB.2.2.2.2.2.2.1; omega)) ?_
      refine K116 _ _ _ _ _ _ (Eq.refl _) ?_ ?_
      · omega
      · rw [sp_c_0]
        omega
    · refine And.intro (fun h10 => ?_) (fun h10 => ?_)
      · skip
        refine And.intro (t4) ?_
        skip
        refine And.intro (show (m (m r 0) (-1)) = 5 by first | assumption | omega | (simp only [mS_iff, eq_self, Int.reduceEq, true_and, and_true, false_and, and_false, and_self, ↓reduceIte]; omega) | (simp only [mS_iff, eq_self, Int.reduceEq, true_and, and_true, false_and, and_false, and_self, ↓reduceIte] at *; omega)) ?_
        refine And.intro (t4) ?_
        skip
        refine And.intro (fun _ => ?_) (fun h => absurd h (by omega))
        refine And.intro (t4) ?_
        skip
        refine And.intro (show (m (m r 0) (-1)) = 5 by first | assumption | omega | (simp only [mS_iff, eq_self, Int.reduceEq, true_and, and_true, false_and, and_false, and_self, ↓reduceIte]; omega) | (simp only [mS_iff, eq_self, Int.reduceEq, true_and, and_true, false_and, and_false, and_self, ↓reduceIte] at *; omega)) ?_
        refine And.intro (show 0 < (m r 0) ∧ (m (m r 0) (-1)) = 5 by first | omega | (simp only [mS_iff, eq_self, Int.reduceEq, true_and, and_true, false_and, and_false, and_self, ↓reduceIte]; omega) | (simp only [mS_iff, eq_self, Int.reduceEq, true_and, and_true, false_and, and_false, and_self, ↓reduceIte] at *; omega)) ?_
        refine And.intro (by first | exact t4 | (rw [mS_a _ _ _ _ nf]; exact t4)) ?_
        rw [show ((mS m (m r 0) 3 (m (m r 0) 3)) r 0) = m r 0 by first | rfl | (rw [mS_a _ _ _ _ nf]; done) | (rw [mS_a _ _ _ _ nf, mS_a _ _ _ _ nf])]
        refine And.intro (fun h => absurd h (by omega)) (fun _ => ?_)
        refine And.intro (show 0 < (m r 0) ∧ ((mS m (m r 0) 3 (m (m r 0) 3)) (m r 0) (-1)) = 5 by first | omega | (simp only [mS_iff, eq_self, Int.reduceEq, true_and, and_true, false_and, and_false, and_self, ↓reduceIte]; omega) | (simp only [mS_iff, eq_self, Int.reduceEq, true_and, and_true, false_and, and_false, and_self, ↓reduceIte] at *; omega)) ?_
        have es := qe 4 (by first | exact Or.inl ⟨by omega, rfl⟩ | exact Or.inr (Or.inl ⟨by omega, by omega, rfl⟩))
        have em : (mS (mS m (m r 0) 3 (m (m r 0) 3)) (m r 0) 4 t) = mS m (m r 0) 4 t := by
          first | (rw [mS_same]; done) | (rw [mS_same, mS_same]; done) | rfl
        rw [show (mS (mS m (m r 0) 3 (m (m r 0) 3)) (m r 0) 4 t) = mS m (m r 0) 4 t from em]
        have P5 := hA.put5 (s := 4) (t := t) (by omega) (by rw [es]; exact okt)
        rw [es] at P5
        have ev : (m (m r 0) 4) = w s := by rw [← es]; omega
        rw [ev]
        refine hQ _ ?_ (fun x j u => mS_a _ _ _ _ (by omega))
        rw [es]
        exact P5
      · skip
        refine And.intro (t4) ?_
        skip
        refine And.intro (show (m (m r 0) (-1)) = 5 by first | assumption | omega | (simp only [mS_iff, eq_self, Int.reduceEq, true_and, and_true, false_and, and_false, and_self, ↓reduceIte]; omega) | (simp only [mS_iff, eq_self, Int.reduceEq, true_and, and_true, false_and, and_false, and_self, ↓reduceIte] at *; omega)) ?_
        refine And.intro (t4) ?_
        skip
        refine And.intro (fun h => absurd h (by omega)) (fun _ => ?_)
        refine And.intro (show 0 < (m r 0) ∧ (m (m r 0) (-1)) = 5 by first | omega | (simp only [mS_iff, eq_self, Int.reduceEq, true_and, and_true, false_and, and_false, and_self, ↓reduceIte]; omega) | (simp only [mS_iff, eq_self, Int.reduceEq, true_and, and_true, false_and, and_false, and_self, ↓reduceIte] at *; omega)) ?_
        refine And.intro (by first | exact t4 | (rw [mS_a _ _ _ _ nf]; exact t4)) ?_
        rw [show ((mS m (m r 0) 3 t) r 0) = m r 0 by first | rfl | (rw [mS_a _ _ _ _ nf]; done) | (rw [mS_a _ _ _ _ nf, mS_a _ _ _ _ nf])]
        refine And.intro (fun _ => ?_) (fun h => absurd h (by omega))
        refine And.intro (by first | exact t4 | (rw [mS_a _ _ _ _ nf]; exact t4)) ?_
        rw [show ((mS m (m r 0) 3 t) r 0) = m r 0 by first | rfl | (rw [mS_a _ _ _ _ nf]; done) | (rw [mS_a _ _ _ _ nf, mS_a _ _ _ _ nf])]
        refine And.intro (show ((mS m (m r 0) 3 t) (m r 0) (-1)) = 5 by first | assumption | omega | (simp only [mS_iff, eq_self, Int.reduceEq, true_and, and_true, false_and, and_false, and_self, ↓reduceIte]; omega) | (simp only [mS_iff, eq_self, Int.reduceEq, true_and, and_true, false_and, and_false, and_self, ↓reduceIte] at *; omega)) ?_
        refine And.intro (show 0 < (m r 0) ∧ ((mS m (m r 0) 3 t) (m r 0) (-1)) = 5 by first | omega | (simp only [mS_iff, eq_self, Int.reduceEq, true_and, and_true, false_and, and_false, and_self, ↓reduceIte]; omega) | (simp only [mS_iff, eq_self, Int.reduceEq, true_and, and_true, false_and, and_false, and_self, ↓reduceIte] at *; omega)) ?_
        have es := qe 3 (by first | exact Or.inl ⟨by omega, rfl⟩ | exact Or.inr (Or.inl ⟨by omega, by omega, rfl⟩))
        have em : (mS (mS m (m r 0) 3 t) (m r 0) 4 ((mS m (m r 0) 3 t) (m r 0) 4)) = mS m (m r 0) 3 t := by
          first | (rw [mS_same]; done) | (rw [mS_same, mS_same]; done) | rfl
        rw [show (mS (mS m (m r 0) 3 t) (m r 0) 4 ((mS m (m r 0) 3 t) (m r 0) 4)) = mS m (m r 0) 3 t from em]
        have P5 := hA.put5 (s := 3) (t := t) (by omega) (by rw [es]; exact okt)
        rw [es] at P5
        have ev : (m (m r 0) 3) = w s := by rw [← es]; omega
        rw [ev]
        refine hQ _ ?_ (fun x j u => mS_a _ _ _ _ (by omega))
        rw [es]
        exact P5
  · refine And.intro (fun h11 => ?_) (fun h11 => ?_)
    · refine And.intro (show -2147483648 ≤ p - 1 ∧ p - 1 ≤ 2147483647 by first | omega | (simp only [mS_iff, eq_self, Int.reduceEq, true_and, and_true, false_and, and_false, and_self, ↓reduceIte]; omega) | (simp only [mS_iff, eq_self, Int.reduceEq, true_and, and_true, false_and, and_false, and_self, ↓reduceIte] at *; omega)) ?_
      refine And.intro (t4) ?_
      refine And.intro (Or.inl (by have := hB.2.2.2.2.2.2.1; omega)) ?_
      refine K116 _ _ _ _ _ _ (Eq.refl _) ?_ ?_
      · omega
      · rw [sp_c_0]
        omega
    · refine And.intro (fun h12 => ?_) (fun h12 => ?_)
      · skip
        refine And.intro (t4) ?_
        skip
        refine And.intro (show (m (m r 0) (-1)) = 5 by first | assumption | omega | (simp only [mS_iff, eq_self, Int.reduceEq, true_and, and_true, false_and, and_false, and_self, ↓reduceIte]; omega) | (simp only [mS_iff, eq_self, Int.reduceEq, true_and, and_true, false_and, and_false, and_self, ↓reduceIte] at *; omega)) ?_
        refine And.intro (t4) ?_
        skip
        refine And.intro (fun _ => ?_) (fun h => absurd h (by omega))
        refine And.intro (t4) ?_
        skip
        refine And.intro (show (m (m r 0) (-1)) = 5 by first | assumption | omega | (simp only [mS_iff, eq_self, Int.reduceEq, true_and, and_true, false_and, and_false, and_self, ↓reduceIte]; omega) | (simp only [mS_iff, eq_self, Int.reduceEq, true_and, and_true, false_and, and_false, and_self, ↓reduceIte] at *; omega)) ?_
        refine And.intro (show 0 < (m r 0) ∧ (m (m r 0) (-1)) = 5 by first | omega | (simp only [mS_iff, eq_self, Int.reduceEq, true_and, and_true, false_and, and_false, and_self, ↓reduceIte]; omega) | (simp only [mS_iff, eq_self, Int.reduceEq, true_and, and_true, false_and, and_false, and_self, ↓reduceIte] at *; omega)) ?_
        refine And.intro (by first | exact t4 | (rw [mS_a _ _ _ _ nf]; exact t4)) ?_
        rw [show ((mS m (m r 0) 3 (m (m r 0) 3)) r 0) = m r 0 by first | rfl | (rw [mS_a _ _ _ _ nf]; done) | (rw [mS_a _ _ _ _ nf, mS_a _ _ _ _ nf])]
        refine And.intro (fun h => absurd h (by omega)) (fun _ => ?_)
        refine And.intro (show 0 < (m r 0) ∧ ((mS m (m r 0) 3 (m (m r 0) 3)) (m r 0) (-1)) = 5 by first | omega | (simp only [mS_iff, eq_self, Int.reduceEq, true_and, and_true, false_and, and_false, and_self, ↓reduceIte]; omega) | (simp only [mS_iff, eq_self, Int.reduceEq, true_and, and_true, false_and, and_false, and_self, ↓reduceIte] at *; omega)) ?_
        have es := qe 4 (by first | exact Or.inl ⟨by omega, rfl⟩ | exact Or.inr (Or.inl ⟨by omega, by omega, rfl⟩))
        have em : (mS (mS m (m r 0) 3 (m (m r 0) 3)) (m r 0) 4 t) = mS m (m r 0) 4 t := by
          first | (rw [mS_same]; done) | (rw [mS_same, mS_same]; done) | rfl
        rw [show (mS (mS m (m r 0) 3 (m (m r 0) 3)) (m r 0) 4 t) = mS m (m r 0) 4 t from em]
        have P5 := hA.put5 (s := 4) (t := t) (by omega) (by rw [es]; exact okt)
        rw [es] at P5
        have ev : (m (m r 0) 4) = w s := by rw [← es]; omega
        rw [ev]
        refine hQ _ ?_ (fun x j u => mS_a _ _ _ _ (by omega))
        rw [es]
        exact P5
      · skip
        refine And.intro (t4) ?_
        skip
        refine And.intro (show (m (m r 0) (-1)) = 5 by first | assumption | omega | (simp only [mS_iff, eq_self, Int.reduceEq, true_and, and_true, false_and, and_false, and_self, ↓reduceIte]; omega) | (simp only [mS_iff, eq_self, Int.reduceEq, true_and, and_true, false_and, and_false, and_self, ↓reduceIte] at *; omega)) ?_
        refine And.intro (t4) ?_
        skip
        refine And.intro (fun h => absurd h (by omega)) (fun _ => ?_)
        refine And.intro (show 0 < (m r 0) ∧ (m (m r 0) (-1)) = 5 by first | omega | (simp only [mS_iff, eq_self, Int.reduceEq, true_and, and_true, false_and, and_false, and_self, ↓reduceIte]; omega) | (simp only [mS_iff, eq_self, Int.reduceEq, true_and, and_true, false_and, and_false, and_self, ↓reduceIte] at *; omega)) ?_
        refine And.intro (by first | exact t4 | (rw [mS_a _ _ _ _ nf]; exact t4)) ?_
        rw [show ((mS m (m r 0) 3 t) r 0) = m r 0 by first | rfl | (rw [mS_a _ _ _ _ nf]; done) | (rw [mS_a _ _ _ _ nf, mS_a _ _ _ _ nf])]
        refine And.intro (fun _ => ?_) (fun h => absurd h (by omega))
        refine And.intro (by first | exact t4 | (rw [mS_a _ _ _ _ nf]; exact t4)) ?_
        rw [show ((mS m (m r 0) 3 t) r 0) = m r 0 by first | rfl | (rw [mS_a _ _ _ _ nf]; done) | (rw [mS_a _ _ _ _ nf, mS_a _ _ _ _ nf])]
        refine And.intro (show ((mS m (m r 0) 3 t) (m r 0) (-1)) = 5 by first | assumption | omega | (simp only [mS_iff, eq_self, Int.reduceEq, true_and, and_true, false_and, and_false, and_self, ↓reduceIte]; omega) | (simp only [mS_iff, eq_self, Int.reduceEq, true_and, and_true, false_and, and_false, and_self, ↓reduceIte] at *; omega)) ?_
        refine And.intro (show 0 < (m r 0) ∧ ((mS m (m r 0) 3 t) (m r 0) (-1)) = 5 by first | omega | (simp only [mS_iff, eq_self, Int.reduceEq, true_and, and_true, false_and, and_false, and_self, ↓reduceIte]; omega) | (simp only [mS_iff, eq_self, Int.reduceEq, true_and, and_true, false_and, and_false, and_self, ↓reduceIte] at *; omega)) ?_
        have es := qe 3 (by first | exact Or.inl ⟨by omega, rfl⟩ | exact Or.inr (Or.inl ⟨by omega, by omega, rfl⟩))
        have em : (mS (mS m (m r 0) 3 t) (m r 0) 4 ((mS m (m r 0) 3 t) (m r 0) 4)) = mS m (m r 0) 3 t := by
          first | (rw [mS_same]; done) | (rw [mS_same, mS_same]; done) | rfl
        rw [show (mS (mS m (m r 0) 3 t) (m r 0) 4 ((mS m (m r 0) 3 t) (m r 0) 4)) = mS m (m r 0) 3 t from em]
        have P5 := hA.put5 (s := 3) (t := t) (by omega) (by rw [es]; exact okt)
        rw [es] at P5
        have ev : (m (m r 0) 3) = w s := by rw [← es]; omega
        rw [ev]
        refine hQ _ ?_ (fun x j u => mS_a _ _ _ _ (by omega))
        rw [es]
        exact P5
