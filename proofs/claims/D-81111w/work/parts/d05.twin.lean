/-! needs: d04 -/
/-! TWINS of arms, house; by tools/gend5.py -/
set_option maxRecDepth 100000
set_option maxHeartbeats 8000000
/-- c cells and s slots more at the most; what stood ahead stands -/
def frTw (c s : Int) (m m' : aM) : Prop := (m 0 0 ≤ m' 0 0 ∧ m' 0 0 ≤ m 0 0 + c) ∧ (m 0 1 ≤ m' 0 1 ∧ m' 0 1 ≤ m 0 1 + s) ∧ (∀ x j, x ≠ 0 → x ≤ m 0 0 → m' x j = m x j) ∧ (∀ j, j ≠ 0 → j ≠ 1 → m' 0 j = m 0 j)
theorem frTw.trans {c s c' s' : Int} {a b e : aM} (h : frTw c s a b) (g : frTw c' s' b e) : frTw (c + c') (s + s') a e := by
  obtain ⟨h1, h2, h3, h4⟩ := h
  obtain ⟨g1, g2, g3, g4⟩ := g
  exact ⟨by omega, by omega, fun x j u v => (g3 x j u (by omega)).trans (h3 x j u v), fun j u v => (g4 j u v).trans (h4 j u v)⟩
theorem frTw.wd {c s c' s' : Int} {a b : aM} (h : frTw c s a b) (e : c ≤ c') (f : s ≤ s') : frTw c' s' a b := ⟨by have := h.1; omega, by have := h.2.1; omega, h.2.2⟩
theorem frTw.kp {c s : Int} {m m' : aM} (h : frTw c s m m') {lo hi : Int} (hl : 1 ≤ lo) (hh : hi ≤ m 0 0) : hKeep m m' lo hi := fun r a b => ⟨h.2.2.1 r _ (by omega) (by omega), fun _ => funext fun j => h.2.2.1 r j (by omega) (by omega)⟩
theorem frTw.put {c s : Int} {m m' : aM} {r j v : Int} (h : frTw c s m m') (hr : m 0 0 < r) (h0 : 0 ≤ m 0 0) : frTw c s m (mS m' r j v) := ⟨by rw [mS_a _ _ _ _ (by omega)]; exact h.1, by rw [mS_a _ _ _ _ (by omega)]; exact h.2.1, fun x i a b => by rw [mS_a _ _ _ _ (by omega)]; exact h.2.2.1 x i a b, fun i a b => by rw [mS_a _ _ _ _ (by omega)]; exact h.2.2.2 i a b⟩
theorem mN_T {m m2 : aM} {t n r : Int} (h : mN m t n = m2) (hr : m 0 0 + 1 = r) (h0 : 0 ≤ m 0 0) (hn : 0 ≤ n) : frTw 1 n m m2 := by
  obtain ⟨n1, n2, n3, n4, n5, n6⟩ := mN_f h hr h0
  exact ⟨by omega, by omega, fun x j a b => n5 x j a (by omega), n6⟩
theorem fr_O.T {r c s : Int} {m m' : aM} (h : fr_O r c s m m') {a : aM} {c0 s0 : Int} (g : frTw c0 s0 a m) (hr : a 0 0 < r) : frTw (c0 + c) (s0 + s) a m' := by
  obtain ⟨h1, h2, h3, h4⟩ := h
  obtain ⟨g1, g2, g3, g4⟩ := g
  exact ⟨by omega, by omega, fun x j u v => (h3 x j u (by omega) (by omega)).trans (g3 x j u v), fun j u v => (h4 j u v).trans (g4 j u v)⟩
theorem hOrd.wd2 {m : aM} {lo hi lo' hi' o b : Int} {w : Int → Int} (h : hOrd m lo hi o w b) (x : lo' ≤ lo) (y : hi ≤ hi') : hOrd m lo' hi' o w b := by
  rcases h with h | ⟨h1, h2, h3, h4, h5, h6, h7, h8⟩
  · exact Or.inl h
  · exact Or.inr ⟨by omega, by omega, h3, h4, h5, h6, h7, by have := h8.1; omega, by have := h8.2.1; omega, h8.2.2⟩
theorem hLf.k {m m' : aM} {r a o g h p : Int} (l : hLf m r a o g h p) (e : ∀ j, m' r j = m r j) : hLf m' r a o g h p := by
  unfold hLf
  rw [e, e, e, e, e, e]
  exact l
theorem ct_172 {d : Nat} {m : aM} {Q : aO → aM → Prop} {l lo hi b : Int} {w : Int → Int} (hd : 3 ≤ d) (hl : hLay m lo hi l w b) (hb : 1 ≤ lo ∧ hi ≤ m 0 0) (h0 : 77 ≤ m 0 0 ∧ m 0 0 + 5 ≤ amC ∧ 0 ≤ m 0 1 ∧ m 0 1 + 40 ≤ amS) (hQ : ∀ m' r, frTw 5 40 m m' → hLay m' (m 0 0 + 1) (m' 0 0) r w b → Q (.inl (some (aR r))) m') : am_wpc am_G am_T d 172 [aR l] m Q := by
  obtain ⟨l1, l2, l3, l4, l5, l6, l7, l8, l9, l10⟩ := hl
  have u1 : m l 1 = 0 ∨ lo ≤ m l 1 := by rcases l5 with q | q; exact Or.inl q.1; exact Or.inr q.1
  have u2 : m l 2 = 0 ∨ lo ≤ m l 2 := by rcases l6 with q | q; exact Or.inl q.1; exact Or.inr q.1
  refine am_in rfl hd (fun d hd => ?_)
  have K109 : ∀ (q : Int) (o2 : Int) (g2 : Int), ∀ (m3 : aM), (q = m 0 0 + 1 ∧ q ≤ m3 0 0) → (frTw 5 40 m m3) → (hLf m3 q (w b) o2 g2 0 0) → (hOrd m3 (m 0 0 + 1) (m3 0 0) o2 w b) → (hGrp m3 (m 0 0 + 1) (m3 0 0) g2 w b) → am_WP am_G (am_wpc am_G am_T d) [] cd_172 Q 109 [aR l, aR q] [] m3 := by
    intro q o2 g2 m3 hq F3 L3 O3 G3
    have z3 := F3.1
    have tl4 : m3 l (-1) = 7 := by rw [F3.2.2.1 l _ (by omega) (by omega)]; exact l2
    have tq := L3.1
    have v3 : m3 l 3 = w (b + 4) := by rw [F3.2.2.1 l _ (by omega) (by omega)]; exact l7
    have v4 : m3 l 4 = w (b + 9) := by rw [F3.2.2.1 l _ (by omega) (by omega)]; exact l8
    have nlq : l ≠ q := by omega
    refine am_go 400 [109, 59] (am_wpc_cm _ _ _) wf_172 ?_
    refine And.intro (show (m3 l (-1)) = 7 by first | assumption | omega | (simp only [mS_iff, eq_self, Int.reduceEq, true_and, and_true, false_and, and_false, and_self, ↓reduceIte]; omega) | (simp only [mS_iff, eq_self, Int.reduceEq, true_and, and_true, false_and, and_false, and_self, ↓reduceIte] at *; omega)) ?_
    refine And.intro (show 0 < q ∧ (m3 q (-1)) = 7 by first | omega | (simp only [mS_iff, eq_self, Int.reduceEq, true_and, and_true, false_and, and_false, and_self, ↓reduceIte]; omega) | (simp only [mS_iff, eq_self, Int.reduceEq, true_and, and_true, false_and, and_false, and_self, ↓reduceIte] at *; omega)) ?_
    refine And.intro (show ((mS m3 q 3 (m3 l 3)) l (-1)) = 7 by first | assumption | omega | (simp only [mS_iff, eq_self, Int.reduceEq, true_and, and_true, false_and, and_false, and_self, ↓reduceIte]; omega) | (simp only [mS_iff, eq_self, Int.reduceEq, true_and, and_true, false_and, and_false, and_self, ↓reduceIte] at *; omega)) ?_
    refine And.intro (show 0 < q ∧ ((mS m3 q 3 (m3 l 3)) q (-1)) = 7 by first | omega | (simp only [mS_iff, eq_self, Int.reduceEq, true_and, and_true, false_and, and_false, and_self, ↓reduceIte]; omega) | (simp only [mS_iff, eq_self, Int.reduceEq, true_and, and_true, false_and, and_false, and_self, ↓reduceIte] at *; omega)) ?_
    have E4 : (mS (mS m3 q 3 (m3 l 3)) q 4 ((mS m3 q 3 (m3 l 3)) l 4)) = mS (mS m3 q 3 (w (b + 4))) q 4 (w (b + 9)) := by
      rw [show (mS m3 q 3 (m3 l 3)) l 4 = w (b + 9) by rw [mS_a _ _ _ _ nlq]; exact v4, v3]
    rw [show (mS (mS m3 q 3 (m3 l 3)) q 4 ((mS m3 q 3 (m3 l 3)) l 4)) = mS (mS m3 q 3 (w (b + 4))) q 4 (w (b + 9)) from E4]
    have L4 : hLf (mS (mS m3 q 3 (w (b + 4))) q 4 (w (b + 9))) q (w b) o2 g2 (w (b + 4)) (w (b + 9)) := ((L3.put _).2.2.2.1.put _).2.2.2.2
    have t7 : (mS m3 q 3 (w (b + 4))) q (-1) = 7 := by rw [mS_iff, if_neg (by omega)]; exact tq
    have O4 := (O3.pl tq (j := 3) (v := w (b + 4))).pl t7 (j := 4) (v := w (b + 9))
    have G4 := (G3.pl tq (j := 3) (v := w (b + 4))).pl t7 (j := 4) (v := w (b + 9))
    have z4 : (mS (mS m3 q 3 (w (b + 4))) q 4 (w (b + 9))) 0 0 = m3 0 0 := by rw [mS_a _ _ _ _ (by omega), mS_a _ _ _ _ (by omega)]
    obtain ⟨p1, p2, p3, p4, p5, p6⟩ := L4
    refine hQ _ q ((F3.put (by omega) (by omega)).put (by omega) (by omega)) ⟨by omega, p1, l3, p2, ?_, ?_, p5, p6, l9, l10⟩
    · rw [p3, z4]; exact O4
    · rw [p4, z4]; exact G4
  have K59 : ∀ (q : Int) (o2 : Int), ∀ (m2 : aM), (q = m 0 0 + 1 ∧ q ≤ m2 0 0) → (frTw 3 20 m m2) → (hLf m2 q (w b) o2 0 0 0) → (hOrd m2 (m 0 0 + 1) (m2 0 0) o2 w b) → am_WP am_G (am_wpc am_G am_T d) [] cd_172 Q 59 [aR l, aR q] [] m2 := by
    intro q o2 m2 hq F2 L2 O2
    have z2 := F2.1
    have z2s := F2.2.1
    have tl3 : m2 l (-1) = 7 := by rw [F2.2.2.1 l _ (by omega) (by omega)]; exact l2
    have y3 : m2 l 2 = m l 2 := F2.2.2.1 l _ (by omega) (by omega)
    have tq := L2.1
    refine am_go 400 [109, 59] (am_wpc_cm _ _ _) wf_172 ?_
    refine And.intro (show (m2 l (-1)) = 7 by first | assumption | omega | (simp only [mS_iff, eq_self, Int.reduceEq, true_and, and_true, false_and, and_false, and_self, ↓reduceIte]; omega) | (simp only [mS_iff, eq_self, Int.reduceEq, true_and, and_true, false_and, and_false, and_self, ↓reduceIte] at *; omega)) ?_
    refine And.intro (show (m2 l 2) ≠ -9 by first | omega | (simp only [mS_iff, eq_self, Int.reduceEq, true_and, and_true, false_and, and_false, and_self, ↓reduceIte]; omega) | (simp only [mS_iff, eq_self, Int.reduceEq, true_and, and_true, false_and, and_false, and_self, ↓reduceIte] at *; omega)) ?_
    refine And.intro (fun h1 => ?_) (fun h1 => ?_)
    · refine And.intro (by first | omega | (simp only [mS_iff, eq_self, Int.reduceEq, true_and, and_true, false_and, and_false, and_self, ↓reduceIte]; omega) | (simp only [mS_iff, eq_self, Int.reduceEq, true_and, and_true, false_and, and_false, and_self, ↓reduceIte] at *; omega)) ?_
      generalize h4 : mN m2 10 5 = mw2
      generalize h5 : m2 0 0 + 1 = r3
      obtain ⟨a1, a2, a3, a4, a5, a6⟩ := mN_f h4 h5 (by omega)
      have T6 := F2.trans (mN_T h4 h5 (by omega) (by omega))
      rcases l6 with l6 | ⟨o1, o2', o3, o4, o5, o6, o7, o8, o9⟩
      · exact absurd l6.1 (by omega)
      have to : mw2 (m l 2) (-1) = 10 := by rw [T6.2.2.1 _ _ (by omega) (by omega)]; exact o3
      have tl2 : mw2 l (-1) = 7 := by rw [T6.2.2.1 l _ (by omega) (by omega)]; exact l2
      have y2 : mw2 l 2 = m l 2 := T6.2.2.1 l _ (by omega) (by omega)
      have to2 : mw2 (mw2 l 2) (-1) = 10 := by rw [y2]; exact to
      have q0 : ∀ j, mw2 (mw2 l 2) j = m (m l 2) j := fun j => by rw [y2]; exact T6.2.2.1 _ _ (by omega) (by omega)
      refine And.intro (show (mw2 l (-1)) = 7 by first | assumption | omega | (simp only [mS_iff, eq_self, Int.reduceEq, true_and, and_true, false_and, and_false, and_self, ↓reduceIte]; omega) | (simp only [mS_iff, eq_self, Int.reduceEq, true_and, and_true, false_and, and_false, and_self, ↓reduceIte] at *; omega)) ?_
      refine And.intro (show (mw2 (mw2 l 2) (-1)) = 10 by first | assumption | omega | (simp only [mS_iff, eq_self, Int.reduceEq, true_and, and_true, false_and, and_false, and_self, ↓reduceIte]; omega) | (simp only [mS_iff, eq_self, Int.reduceEq, true_and, and_true, false_and, and_false, and_self, ↓reduceIte] at *; omega)) ?_
      refine And.intro (show (mw2 l (-1)) = 7 by first | assumption | omega | (simp only [mS_iff, eq_self, Int.reduceEq, true_and, and_true, false_and, and_false, and_self, ↓reduceIte]; omega) | (simp only [mS_iff, eq_self, Int.reduceEq, true_and, and_true, false_and, and_false, and_self, ↓reduceIte] at *; omega)) ?_
      refine And.intro (show (mw2 (mw2 l 2) (-1)) = 10 by first | assumption | omega | (simp only [mS_iff, eq_self, Int.reduceEq, true_and, and_true, false_and, and_false, and_self, ↓reduceIte]; omega) | (simp only [mS_iff, eq_self, Int.reduceEq, true_and, and_true, false_and, and_false, and_self, ↓reduceIte] at *; omega)) ?_
      refine And.intro (show (mw2 l (-1)) = 7 by first | assumption | omega | (simp only [mS_iff, eq_self, Int.reduceEq, true_and, and_true, false_and, and_false, and_self, ↓reduceIte]; omega) | (simp only [mS_iff, eq_self, Int.reduceEq, true_and, and_true, false_and, and_false, and_self, ↓reduceIte] at *; omega)) ?_
      refine And.intro (show (mw2 (mw2 l 2) (-1)) = 10 by first | assumption | omega | (simp only [mS_iff, eq_self, Int.reduceEq, true_and, and_true, false_and, and_false, and_self, ↓reduceIte]; omega) | (simp only [mS_iff, eq_self, Int.reduceEq, true_and, and_true, false_and, and_false, and_self, ↓reduceIte] at *; omega)) ?_
      refine And.intro (show (mw2 l (-1)) = 7 by first | assumption | omega | (simp only [mS_iff, eq_self, Int.reduceEq, true_and, and_true, false_and, and_false, and_self, ↓reduceIte]; omega) | (simp only [mS_iff, eq_self, Int.reduceEq, true_and, and_true, false_and, and_false, and_self, ↓reduceIte] at *; omega)) ?_
      refine And.intro (show (mw2 (mw2 l 2) (-1)) = 10 by first | assumption | omega | (simp only [mS_iff, eq_self, Int.reduceEq, true_and, and_true, false_and, and_false, and_self, ↓reduceIte]; omega) | (simp only [mS_iff, eq_self, Int.reduceEq, true_and, and_true, false_and, and_false, and_self, ↓reduceIte] at *; omega)) ?_
      refine And.intro (show 0 < r3 by first | omega | (simp only [mS_iff, eq_self, Int.reduceEq, true_and, and_true, false_and, and_false, and_self, ↓reduceIte]; omega) | (simp only [mS_iff, eq_self, Int.reduceEq, true_and, and_true, false_and, and_false, and_self, ↓reduceIte] at *; omega)) ?_
      refine ct_319 (by omega) (by omega) (by omega) a3 (fun m7 f5 f0 f1 f2 f3 f4 f6 f7 f8 => ?_)
      have T7 := f5.T T6 (by omega)
      have L7 : hLf m7 q (w b) o2 0 0 0 := (L2.k (fun j => a5 _ j (by omega) (by omega))).k (fun j => f5.2.2.1 _ j (by omega) (by omega) (by omega))
      have O7 : hOrd m7 (m 0 0 + 1) (m2 0 0) o2 w b := (O2.keep (fun x u v => ⟨a5 x _ (by omega) (by omega), fun _ => funext fun j => a5 x j (by omega) (by omega)⟩)).keep (fun x u v => ⟨f5.2.2.1 x _ (by omega) (by omega) (by omega), fun _ => funext fun j => f5.2.2.1 x j (by omega) (by omega) (by omega)⟩)
      refine And.intro (⟨by omega, by first | exact L7.1 | exact L2.1⟩) ?_
      refine K109 _ (o2) (r3) _ ?_ ?_ ?_ ?_ ?_
      · first | (rw [mS_a _ _ _ _ (by omega)]; omega) | omega
      · first | exact (T7.put (by omega) (by omega)).wd (by omega) (by omega) | exact (F2.put (by omega) (by omega)).wd (by omega) (by omega)
      · first | exact (L7.put _).2.2.1 | exact (L2.put _).2.2.1
      · have z5 : ((mS m7 q 2 r3)) 0 0 = m7 0 0 := mS_a _ _ _ _ (by omega)
        exact (O7.pl L7.1).wd2 (by omega) (by omega)
      · have z5 : ((mS m7 q 2 r3)) 0 0 = m7 0 0 := mS_a _ _ _ _ (by omega)
        refine Or.inr ⟨by omega, by omega, ?_, o4, ?_, ?_, ?_, ?_, ?_⟩
        · rw [mS_a _ _ _ _ (by omega)]; exact f1
        · rw [mS_a _ _ _ _ (by omega), f2, q0]; exact o5
        · rw [mS_a _ _ _ _ (by omega), f3, q0]; exact o6
        · rw [mS_a _ _ _ _ (by omega), f4, q0]; exact o7
        · rw [mS_a _ _ _ _ (by omega), f6, q0]; exact o8
        · rw [show ((mS m7 q 2 r3)) r3 4 = m7 r3 4 from mS_a _ _ _ _ (by omega), f7]; exact ⟨by omega, by omega, by rw [mS_a _ _ _ _ (by omega)]; exact f8⟩
    · refine And.intro (⟨by omega, by first | exact L7.1 | exact L2.1⟩) ?_
      refine K109 _ (o2) (0) _ ?_ ?_ ?_ ?_ ?_
      · first | (rw [mS_a _ _ _ _ (by omega)]; omega) | omega
      · first | exact (T7.put (by omega) (by omega)).wd (by omega) (by omega) | exact (F2.put (by omega) (by omega)).wd (by omega) (by omega)
      · first | exact (L7.put _).2.2.1 | exact (L2.put _).2.2.1
      · have z5 : ((mS m2 q 2 0)) 0 0 = m2 0 0 := mS_a _ _ _ _ (by omega)
        exact (O2.pl L2.1).wd2 (by omega) (by omega)
      · rcases l6 with l6 | l6
        · exact Or.inl ⟨rfl, l6.2⟩
        · exact absurd l6.1 (by omega)
  refine am_go 400 [109, 59] (am_wpc_cm _ _ _) wf_172 ?_
  refine And.intro (by first | omega | (simp only [mS_iff, eq_self, Int.reduceEq, true_and, and_true, false_and, and_false, and_self, ↓reduceIte]; omega) | (simp only [mS_iff, eq_self, Int.reduceEq, true_and, and_true, false_and, and_false, and_self, ↓reduceIte] at *; omega)) ?_
  generalize h8 : mN m 7 5 = mw6
  generalize h9 : m 0 0 + 1 = r7
  obtain ⟨n1, n2, n3, n4, n5, n6⟩ := mN_f h8 h9 (by omega)
  have T1 := mN_T h8 h9 (by omega) (by omega)
  have tl : mw6 l (-1) = 7 := by rw [n5 l (-1) (by omega) (by omega)]; exact l2
  have x0 : mw6 l 0 = m l 0 := n5 l 0 (by omega) (by omega)
  refine And.intro (show 0 < r7 by first | omega | (simp only [mS_iff, eq_self, Int.reduceEq, true_and, and_true, false_and, and_false, and_self, ↓reduceIte]; omega) | (simp only [mS_iff, eq_self, Int.reduceEq, true_and, and_true, false_and, and_false, and_self, ↓reduceIte] at *; omega)) ?_
  refine am_in (k := 0) rfl (by omega) (fun d hd => ?_)
  refine am_go 400 [] (am_wpc_cm _ _ _) wf_170 ?_
  refine And.intro (show 0 < r7 by first | omega | (simp only [mS_iff, eq_self, Int.reduceEq, true_and, and_true, false_and, and_false, and_self, ↓reduceIte]; omega) | (simp only [mS_iff, eq_self, Int.reduceEq, true_and, and_true, false_and, and_false, and_self, ↓reduceIte] at *; omega)) ?_
  refine And.intro (show (mw6 l (-1)) = 7 by first | assumption | omega | (simp only [mS_iff, eq_self, Int.reduceEq, true_and, and_true, false_and, and_false, and_self, ↓reduceIte]; omega) | (simp only [mS_iff, eq_self, Int.reduceEq, true_and, and_true, false_and, and_false, and_self, ↓reduceIte] at *; omega)) ?_
  refine And.intro (show 0 < r7 ∧ (mw6 r7 (-1)) = 7 ∧ ((mw6 l 0) = 0 ∨ (mw6 l 0) = 1) by first | omega | (simp only [mS_iff, eq_self, Int.reduceEq, true_and, and_true, false_and, and_false, and_self, ↓reduceIte]; omega) | (simp only [mS_iff, eq_self, Int.reduceEq, true_and, and_true, false_and, and_false, and_self, ↓reduceIte] at *; omega)) ?_
  obtain ⟨m1, em1⟩ : ∃ z, z = (mS mw6 r7 0 (mw6 l 0)) := ⟨_, rfl⟩
  rw [← em1]
  have F1 : frTw 1 5 m m1 := by rw [em1]; exact T1.put (by omega) (by omega)
  have L1 : hLf m1 r7 (w b) 0 0 0 0 := by
    rw [em1]
    refine ⟨by rw [mS_iff, if_neg (by omega)]; exact n3, by rw [mS_iff, if_pos ⟨rfl, rfl⟩, x0, l4], ?_, ?_, ?_, ?_⟩ <;> (rw [mS_iff, if_neg (by omega)]; exact n4 _ (by omega))
  have z1 : m1 0 0 = m 0 0 + 1 := by rw [em1, mS_a _ _ _ _ (by omega)]; omega
  have z1s : m1 0 1 = m 0 1 + 5 := by rw [em1, mS_a _ _ _ _ (by omega)]; omega
  have tl1 : m1 l (-1) = 7 := by rw [F1.2.2.1 l _ (by omega) (by omega)]; exact l2
  have y1 : m1 l 1 = m l 1 := F1.2.2.1 l _ (by omega) (by omega)
  refine And.intro (show (m1 l (-1)) = 7 by first | assumption | omega | (simp only [mS_iff, eq_self, Int.reduceEq, true_and, and_true, false_and, and_false, and_self, ↓reduceIte]; omega) | (simp only [mS_iff, eq_self, Int.reduceEq, true_and, and_true, false_and, and_false, and_self, ↓reduceIte] at *; omega)) ?_
  refine And.intro (show (m1 l 1) ≠ -9 by first | omega | (simp only [mS_iff, eq_self, Int.reduceEq, true_and, and_true, false_and, and_false, and_self, ↓reduceIte]; omega) | (simp only [mS_iff, eq_self, Int.reduceEq, true_and, and_true, false_and, and_false, and_self, ↓reduceIte] at *; omega)) ?_
  refine And.intro (fun h10 => ?_) (fun h10 => ?_)
  · refine And.intro (by first | omega | (simp only [mS_iff, eq_self, Int.reduceEq, true_and, and_true, false_and, and_false, and_self, ↓reduceIte]; omega) | (simp only [mS_iff, eq_self, Int.reduceEq, true_and, and_true, false_and, and_false, and_self, ↓reduceIte] at *; omega)) ?_
    generalize h13 : mN m1 8 4 = mw11
    generalize h14 : m1 0 0 + 1 = r12
    obtain ⟨a1, a2, a3, a4, a5, a6⟩ := mN_f h13 h14 (by omega)
    have T2 := F1.trans (mN_T h13 h14 (by omega) (by omega))
    rcases l5 with l5 | ⟨o1, o2, o3, o4, o5, o6, o7, o8⟩
    · exact absurd l5.1 (by omega)
    have to : mw11 (m l 1) (-1) = 8 := by rw [T2.2.2.1 _ _ (by omega) (by omega)]; exact o3
    have tl2 : mw11 l (-1) = 7 := by rw [T2.2.2.1 l _ (by omega) (by omega)]; exact l2
    have y2 : mw11 l 1 = m l 1 := T2.2.2.1 l _ (by omega) (by omega)
    have to2 : mw11 (mw11 l 1) (-1) = 8 := by rw [y2]; exact to
    have q0 : ∀ j, mw11 (mw11 l 1) j = m (m l 1) j := fun j => by rw [y2]; exact T2.2.2.1 _ _ (by omega) (by omega)
    refine And.intro (show (mw11 l (-1)) = 7 by first | assumption | omega | (simp only [mS_iff, eq_self, Int.reduceEq, true_and, and_true, false_and, and_false, and_self, ↓reduceIte]; omega) | (simp only [mS_iff, eq_self, Int.reduceEq, true_and, and_true, false_and, and_false, and_self, ↓reduceIte] at *; omega)) ?_
    refine And.intro (show (mw11 (mw11 l 1) (-1)) = 8 by first | assumption | omega | (simp only [mS_iff, eq_self, Int.reduceEq, true_and, and_true, false_and, and_false, and_self, ↓reduceIte]; omega) | (simp only [mS_iff, eq_self, Int.reduceEq, true_and, and_true, false_and, and_false, and_self, ↓reduceIte] at *; omega)) ?_
    refine And.intro (show (mw11 l (-1)) = 7 by first | assumption | omega | (simp only [mS_iff, eq_self, Int.reduceEq, true_and, and_true, false_and, and_false, and_self, ↓reduceIte]; omega) | (simp only [mS_iff, eq_self, Int.reduceEq, true_and, and_true, false_and, and_false, and_self, ↓reduceIte] at *; omega)) ?_
    refine And.intro (show (mw11 (mw11 l 1) (-1)) = 8 by first | assumption | omega | (simp only [mS_iff, eq_self, Int.reduceEq, true_and, and_true, false_and, and_false, and_self, ↓reduceIte]; omega) | (simp only [mS_iff, eq_self, Int.reduceEq, true_and, and_true, false_and, and_false, and_self, ↓reduceIte] at *; omega)) ?_
    refine And.intro (show (mw11 l (-1)) = 7 by first | assumption | omega | (simp only [mS_iff, eq_self, Int.reduceEq, true_and, and_true, false_and, and_false, and_self, ↓reduceIte]; omega) | (simp only [mS_iff, eq_self, Int.reduceEq, true_and, and_true, false_and, and_false, and_self, ↓reduceIte] at *; omega)) ?_
    refine And.intro (show (mw11 (mw11 l 1) (-1)) = 8 by first | assumption | omega | (simp only [mS_iff, eq_self, Int.reduceEq, true_and, and_true, false_and, and_false, and_self, ↓reduceIte]; omega) | (simp only [mS_iff, eq_self, Int.reduceEq, true_and, and_true, false_and, and_false, and_self, ↓reduceIte] at *; omega)) ?_
    refine And.intro (show 0 < r12 by first | omega | (simp only [mS_iff, eq_self, Int.reduceEq, true_and, and_true, false_and, and_false, and_self, ↓reduceIte]; omega) | (simp only [mS_iff, eq_self, Int.reduceEq, true_and, and_true, false_and, and_false, and_self, ↓reduceIte] at *; omega)) ?_
    refine ct_174 (by omega) (by omega) (by omega) a3 (fun m5 f5 f0 f1 f2 f3 f4 f6 f7 => ?_)
    have T5 := f5.T T2 (by omega)
    have L5 : hLf m5 r7 (w b) 0 0 0 0 := (L1.k (fun j => a5 _ j (by omega) (by omega))).k (fun j => f5.2.2.1 _ j (by omega) (by omega) (by omega))
    refine And.intro (⟨by omega, by first | exact L5.1 | exact L1.1⟩) ?_
    refine K59 _ (r12) _ ?_ ?_ ?_ ?_
    · first | (rw [mS_a _ _ _ _ (by omega)]; omega) | omega
    · first | exact (F1.put (by omega) (by omega)).wd (by omega) (by omega) | exact (T5.put (by omega) (by omega)).wd (by omega) (by omega)
    · first | exact (L5.put _).2.1 | exact (L1.put _).2.1
    · have z5 : ((mS m5 r7 1 r12)) 0 0 = m5 0 0 := mS_a _ _ _ _ (by omega)
      refine Or.inr ⟨by omega, by omega, ?_, o4, ?_, ?_, ?_, ?_⟩
      · rw [mS_a _ _ _ _ (by omega)]; exact f1
      · rw [mS_a _ _ _ _ (by omega), f2, q0]; exact o5
      · rw [mS_a _ _ _ _ (by omega), f3, q0]; exact o6
      · rw [mS_a _ _ _ _ (by omega), f4, q0]; exact o7
      · rw [show ((mS m5 r7 1 r12)) r12 3 = m5 r12 3 from mS_a _ _ _ _ (by omega), f6]; exact ⟨by omega, by omega, by rw [mS_a _ _ _ _ (by omega)]; exact f7⟩
  · refine And.intro (⟨by omega, by first | exact L5.1 | exact L1.1⟩) ?_
    refine K59 _ (0) _ ?_ ?_ ?_ ?_
    · first | (rw [mS_a _ _ _ _ (by omega)]; omega) | omega
    · first | exact (F1.put (by omega) (by omega)).wd (by omega) (by omega) | exact (T5.put (by omega) (by omega)).wd (by omega) (by omega)
    · first | exact (L5.put _).2.1 | exact (L1.put _).2.1
    · rcases l5 with l5 | l5
      · exact Or.inl ⟨rfl, l5.2⟩
      · exact absurd l5.1 (by omega)
theorem frTw.fld {c s : Int} {m m' : aM} (h : frTw c s m m') {lo r : Int} {w : Int → Int} (g : hFld m lo (m 0 0) r w) (hl : 1 ≤ lo) : hFld m' lo (m' 0 0) r w := (g.keep (h.kp hl (by omega))).wd (by omega) h.1.1
/-- layers that are made: the k first ones, of w, in the row A; e tells where each ends -/
def hTw (m : aM) (A a k : Int) (e : Int → Int) (w : Int → Int) : Prop := e 0 = a ∧ e k = m 0 0 ∧ (∀ j, 0 ≤ j → j < k → e j ≤ e (j + 1)) ∧ ∀ j, 0 ≤ j → j < k → hLay m (e j + 1) (e (j + 1)) (m A j) w (6 + 10 * j)
theorem hTw.mo {m : aM} {A a k : Int} {e w : Int → Int} (h : hTw m A a k e w) {i : Int} (hi : 0 ≤ i) : ∀ (n : Nat), i + n ≤ k → e i ≤ e (i + n)
  | 0, _ => by simp
  | n + 1, g => by
    have a := h.mo hi n (by omega)
    have b := h.2.2.1 (i + n) (by omega) (by omega)
    rw [show i + (n + 1 : Nat) = i + n + 1 by omega]
    omega
theorem hTw.le {m : aM} {A a k : Int} {e w : Int → Int} (h : hTw m A a k e w) {i j : Int} (hi : 0 ≤ i) (hj : i ≤ j) (hk : j ≤ k) : e i ≤ e j := by
  have := h.mo hi (j - i).toNat (by omega)
  rw [show i + ((j - i).toNat : Int) = j by omega] at this
  exact this
theorem hTw.arms {m : aM} {A a q lo : Int} {e w : Int → Int} (h : hTw m A a (w 5) e w) (hlo : 77 ≤ lo) (ha : lo ≤ a) (hq : lo ≤ q ∧ q ≤ m 0 0) (hA : lo ≤ A ∧ A ≤ m 0 0) (tq : m q (-1) = 4) (q1 : m q 1 = A) (hf : hFld m lo (m 0 0) (m q 0) w) (tA : m A (-1) = 45) (nA : m A (-2) = w 5) (ok : okRow w) : hArms m lo (m 0 0) q w := by
  have w5 := ok.cnt
  have B : ∀ j, 0 ≤ j → j < w 5 → lo ≤ e j ∧ e (j + 1) ≤ m 0 0 := fun j x y => by
    have a1 := h.le (i := 0) (j := j) (by omega) x (by omega)
    have a2 := h.le (i := j + 1) (j := w 5) (by omega) (by omega) (by omega)
    have := h.1
    have := h.2.1
    omega
  refine ⟨⟨⟨by omega, Or.inr hlo⟩, by omega⟩, hq, tq, hf, by rw [q1]; exact hA, by rw [q1]; exact tA, by rw [q1]; exact nA, ok, fun j x y => ?_, fun i j a1 a2 b1 b2 n => ?_⟩
  · rw [q1]
    have := B j x y
    exact (h.2.2.2 j x y).wd (by omega) (by omega)
  · rw [q1]
    have X := h.2.2.2 i a1 a2
    have Y := h.2.2.2 j b1 b2
    have S : e (i + 1) ≤ e j ∨ e (j + 1) ≤ e i := by
      rcases Int.lt_or_le i j with z | z
      · exact Or.inl (h.le (by omega) (by omega) (by omega))
      · exact Or.inr (h.le (by omega) (by omega) (by omega))
    have e0i := B i a1 a2
    have e0j := B j b1 b2
    obtain ⟨x1, x2, x3, x4, x5, x6, -⟩ := X
    obtain ⟨y1, y2, y3, y4, y5, y6, -⟩ := Y
    refine ⟨by omega, fun z => ?_, fun z => ?_⟩
    · rcases x5 with x5 | ⟨x5, x5', -⟩
      · exact absurd x5.1 z
      · rcases y5 with y5 | ⟨y5, y5', -⟩
        · rw [y5.1]; exact z
        · omega
    · rcases x6 with x6 | ⟨x6, x6', -⟩
      · exact absurd x6.1 z
      · rcases y6 with y6 | ⟨y6, y6', -⟩
        · rw [y6.1]; exact z
        · omega
theorem hFld.pl4 {m : aM} {lo hi f x j v : Int} {w : Int → Int} (h : hFld m lo hi f w) (t : m x (-1) = 4) : hFld (mS m x j v) lo hi f w := by
  obtain ⟨h1, h2, h3, h4, h5, h6, h7, h8⟩ := h
  have n1 : f ≠ x := fun e => by rw [e] at h2; omega
  have n2 : m f 5 ≠ x := fun e => by have := h8.2.2; rw [e] at this; omega
  have e : ∀ i, mS m x j v f i = m f i := fun i => mS_a _ _ _ _ n1
  unfold hFld
  rw [e, e, e, e, e, e, e]
  exact ⟨h1, h2, h3, h4, h5, h6, h7, h8.1, h8.2.1, by rw [mS_a _ _ _ _ n2]; exact h8.2.2⟩
theorem hFld.pl45 {m : aM} {lo hi f x j v : Int} {w : Int → Int} (h : hFld m lo hi f w) (t : m x (-1) = 45) : hFld (mS m x j v) lo hi f w := by
  obtain ⟨h1, h2, h3, h4, h5, h6, h7, h8⟩ := h
  have n1 : f ≠ x := fun e => by rw [e] at h2; omega
  have n2 : m f 5 ≠ x := fun e => by have := h8.2.2; rw [e] at this; omega
  have e : ∀ i, mS m x j v f i = m f i := fun i => mS_a _ _ _ _ n1
  unfold hFld
  rw [e, e, e, e, e, e, e]
  exact ⟨h1, h2, h3, h4, h5, h6, h7, h8.1, h8.2.1, by rw [mS_a _ _ _ _ n2]; exact h8.2.2⟩
theorem ct_163 {d : Nat} {m : aM} {Q : aO → aM → Prop} {r lo hi : Int} {w : Int → Int} (hd : 5 ≤ d) (hA : hArms m lo hi r w) (h0 : 77 ≤ m 0 0 ∧ m 0 0 + 40 ≤ amC ∧ 0 ≤ m 0 1 ∧ m 0 1 + 400 ≤ amS) (hQ : ∀ m' q, frTw 40 400 m m' → hArms m' (m 0 0 + 1) (m' 0 0) q w → Q (.inl (some (aR q))) m') : am_wpc am_G am_T d 163 [aR r] m Q := by
  have hB := hA.basic
  have hf := hA.fld
  have ok := hA.row
  have b1 := hA.1
  obtain ⟨g1, g2, g3, g4, g5, g6, g7, g8⟩ := hf
  have t4 := hB.2.2.2.2.1
  refine am_in rfl hd (fun d hd => ?_)
  have K22 : ∀ (Nm : Nat), ∀ (q : Int) (A : Int) (k : Int) (e : Int → Int), ∀ (mw : aM), (w 5 - k).toNat = Nm → ((q = m 0 0 + 1 ∧ A = m 0 0 + 4 ∧ A ≤ mw 0 0) ∧ 0 ≤ k ∧ k ≤ w 5) → (frTw (4 + 5 * k) (26 + 40 * k) m mw) → (mw q (-1) = 4 ∧ mw q 1 = A) → (hFld mw (m 0 0 + 1) (mw 0 0) (mw q 0) w) → (mw A (-1) = 45 ∧ mw A (-2) = w 5) → (hTw mw A (m 0 0 + 4) k e w) → am_WP am_G (am_wpc am_G am_T d) [] cd_163 Q 22 [aR r, aR q, aI k] [] mw := by
    intro Nm
    induction Nm using Nat.strongRecOn with
    | _ Nm ih22 =>
      intro q A k e mw hN hk T tq hf2 tA hw
      have w5 := ok.cnt
      have z1 := T.1
      have z2 := T.2.1
      have trw : mw r (-1) = 4 := by rw [T.2.2.1 r _ (by omega) (by omega)]; exact t4
      have yrw : mw r 1 = m r 1 := T.2.2.1 r _ (by omega) (by omega)
      have taw : mw (mw r 1) (-1) = 45 := by rw [yrw, T.2.2.1 _ _ (by omega) (by omega)]; exact hB.2.2.2.2.2.2.1
      have naw : mw (mw r 1) (-2) = w 5 := by rw [yrw, T.2.2.1 _ _ (by omega) (by omega)]; exact hB.2.2.2.2.2.2.2.1
      refine am_go 400 [22] (am_wpc_cm _ _ _) wf_163 ?_
      refine And.intro (trw) ?_
      refine And.intro (Or.inl (by omega)) ?_
      refine And.intro (fun h1 => ?_) (fun h1 => ?_)
      · have ek : k = w 5 := by omega
        rw [ek] at hw
        refine hQ mw q (T.wd (by omega) (by omega)) (hw.arms (by omega) (by omega) (by omega) (by omega) tq.1 tq.2 hf2 tA.1 tA.2 ok)
      · refine And.intro (tq.1) ?_
        rw [tq.2]
        have hy : hLay mw lo hi (mw (mw r 1) k) w (6 + 10 * k) := by
          rw [yrw, T.2.2.1 _ _ (by omega) (by omega)]
          exact (hA.lay (k := k) (by omega) (by omega)).keep (T.kp (by omega) (by omega))
        have hyt := hy.2.1
        have hyb := hy.1
        refine And.intro (trw) ?_
        refine And.intro (⟨taw, by omega⟩) ?_
        refine And.intro (hyt) ?_
        refine ct_172 (lo := lo) (hi := hi) (b := 6 + 10 * k) (w := w) (by omega) hy (by omega) (by omega) (fun m2 l2 ft hl2 => ?_)
        have f1 := ft.1
        have f2 := ft.2.1
        have t2 : m2 q (-1) = 4 := by rw [ft.2.2.1 _ _ (by omega) (by omega)]; exact tq.1
        have y2 : m2 q 1 = A := by rw [ft.2.2.1 _ _ (by omega) (by omega)]; exact tq.2
        have tA2 : m2 A (-1) = 45 ∧ m2 A (-2) = w 5 := ⟨by rw [ft.2.2.1 _ _ (by omega) (by omega)]; exact tA.1, by rw [ft.2.2.1 _ _ (by omega) (by omega)]; exact tA.2⟩
        have lt := hl2.2.1
        have lb := hl2.1
        refine And.intro (⟨by omega, tA2.1, by omega, by omega, Or.inr ⟨by omega, lt⟩⟩) ?_
        have hw2 : hTw (mS m2 A k l2) A (m 0 0 + 4) (k + 1) (fun j => if j ≤ k then e j else m2 0 0) w := by
          obtain ⟨w1, w2, w3, w4⟩ := id hw
          refine ⟨?_, ?_, fun j x y => ?_, fun j x y => ?_⟩
          · dsimp only; rw [if_pos (by omega)]; exact w1
          · dsimp only; rw [if_neg (by omega), mS_a _ _ _ _ (by omega)]
          · dsimp only; rw [if_pos (by omega)]
            by_cases c : j = k
            · rw [if_neg (by omega), c]; omega
            · rw [if_pos (by omega)]; exact w3 j x (by omega)
          · dsimp only; rw [if_pos (by omega)]
            by_cases c : j = k
            · rw [if_neg (by omega), c, mS_iff, if_pos ⟨rfl, rfl⟩, w2]
              exact hl2.keep (fun x u v => by rw [show mS m2 A k l2 x = m2 x from funext fun j => mS_a _ _ _ _ (by omega)]; exact ⟨rfl, fun _ => rfl⟩)
            · rw [if_pos (by omega), mS_iff, if_neg (by omega), ft.2.2.1 _ _ (by omega) (by omega)]
              have a1 := hw.le (i := 0) (j := j) (by omega) x (by omega)
              have a2 := hw.le (i := j + 1) (j := k) (by omega) (by omega) (by omega)
              exact ((w4 j x (by omega)).keep (ft.kp (by omega) (by omega))).keep (fun x u v => by rw [show mS m2 A k l2 x = m2 x from funext fun j => mS_a _ _ _ _ (by omega)]; exact ⟨rfl, fun _ => rfl⟩)
        refine And.intro (show -2147483648 ≤ k + 1 ∧ k + 1 ≤ 2147483647 by first | omega | (simp only [mS_iff, eq_self, Int.reduceEq, true_and, and_true, false_and, and_false, and_self, ↓reduceIte]; omega) | (simp only [mS_iff, eq_self, Int.reduceEq, true_and, and_true, false_and, and_false, and_self, ↓reduceIte] at *; omega)) ?_
        refine ih22 _ ?_ _ (A) _ (fun j => if j ≤ k then e j else m2 0 0) _ (Eq.refl _) ?_ ?_ ?_ ?_ ?_ ?_
        · omega
        · rw [mS_a _ _ _ _ (by omega)]
          omega
        · exact (((T.trans ft).put (by omega) (by omega)).wd (by omega) (by omega))
        · exact ⟨by rw [mS_a _ _ _ _ (by omega), ft.2.2.1 _ _ (by omega) (by omega)]; exact tq.1, by rw [mS_a _ _ _ _ (by omega), ft.2.2.1 _ _ (by omega) (by omega)]; exact tq.2⟩
        · have e0 : (mS m2 A k l2) 0 0 = m2 0 0 := mS_a _ _ _ _ (by omega)
          rw [e0, show (mS m2 A k l2) q 0 = mw q 0 by rw [mS_a _ _ _ _ (by omega)]; exact ft.2.2.1 _ _ (by omega) (by omega)]
          exact (ft.fld hf2 (by omega)).pl45 tA2.1
        · exact ⟨by rw [mS_iff, if_neg (by omega), ft.2.2.1 _ _ (by omega) (by omega)]; exact tA.1, by rw [mS_iff, if_neg (by omega), ft.2.2.1 _ _ (by omega) (by omega)]; exact tA.2⟩
        · exact hw2
  refine am_go 400 [22] (am_wpc_cm _ _ _) wf_163 ?_
  refine And.intro (by first | omega | (simp only [mS_iff, eq_self, Int.reduceEq, true_and, and_true, false_and, and_false, and_self, ↓reduceIte]; omega) | (simp only [mS_iff, eq_self, Int.reduceEq, true_and, and_true, false_and, and_false, and_self, ↓reduceIte] at *; omega)) ?_
  generalize h4 : mN m 4 2 = mw2
  generalize h5 : m 0 0 + 1 = r3
  obtain ⟨n1, n2, n3, n4, n5, n6⟩ := mN_f h4 h5 (by omega)
  have T1 := mN_T h4 h5 (by omega) (by omega)
  have tr : mw2 r (-1) = 4 := by rw [T1.2.2.1 r _ (by omega) (by omega)]; exact t4
  have yr : mw2 r 0 = m r 0 := T1.2.2.1 r _ (by omega) (by omega)
  have tf : mw2 (mw2 r 0) (-1) = 5 := by rw [yr, T1.2.2.1 _ _ (by omega) (by omega)]; exact g2
  refine And.intro (show (mw2 r (-1)) = 4 by first | assumption | omega | (simp only [mS_iff, eq_self, Int.reduceEq, true_and, and_true, false_and, and_false, and_self, ↓reduceIte]; omega) | (simp only [mS_iff, eq_self, Int.reduceEq, true_and, and_true, false_and, and_false, and_self, ↓reduceIte] at *; omega)) ?_
  refine And.intro (by first | assumption | omega | (simp only [mS_iff, eq_self, Int.reduceEq, true_and, and_true, false_and, and_false, and_self, ↓reduceIte]; omega)) ?_
  refine am_in (k := 2) rfl (by omega) (fun d hd => ?_)
  refine am_go 400 [] (am_wpc_cm _ _ _) wf_166 ?_
  refine And.intro (by first | omega | (simp only [mS_iff, eq_self, Int.reduceEq, true_and, and_true, false_and, and_false, and_self, ↓reduceIte]; omega) | (simp only [mS_iff, eq_self, Int.reduceEq, true_and, and_true, false_and, and_false, and_self, ↓reduceIte] at *; omega)) ?_
  generalize h8 : mN mw2 5 6 = mw6
  generalize h9 : mw2 0 0 + 1 = r7
  obtain ⟨c1, c2, c3, c4, c5, c6⟩ := mN_f h8 h9 (by omega)
  have T2 := T1.trans (mN_T h8 h9 (by omega) (by omega))
  have yr2 : (mw2 r 0) = m r 0 := yr
  have tf2 : mw6 (mw2 r 0) (-1) = 5 := by rw [yr, T2.2.2.1 _ _ (by omega) (by omega)]; exact g2
  have q0 : ∀ j, mw6 (mw2 r 0) j = m (m r 0) j := fun j => by rw [yr]; exact T2.2.2.1 _ _ (by omega) (by omega)
  refine And.intro (show (mw6 (mw2 r 0) (-1)) = 5 by first | assumption | omega | (simp only [mS_iff, eq_self, Int.reduceEq, true_and, and_true, false_and, and_false, and_self, ↓reduceIte]; omega) | (simp only [mS_iff, eq_self, Int.reduceEq, true_and, and_true, false_and, and_false, and_self, ↓reduceIte] at *; omega)) ?_
  refine And.intro (show (mw6 (mw2 r 0) (-1)) = 5 by first | assumption | omega | (simp only [mS_iff, eq_self, Int.reduceEq, true_and, and_true, false_and, and_false, and_self, ↓reduceIte]; omega) | (simp only [mS_iff, eq_self, Int.reduceEq, true_and, and_true, false_and, and_false, and_self, ↓reduceIte] at *; omega)) ?_
  refine And.intro (show (mw6 (mw2 r 0) (-1)) = 5 by first | assumption | omega | (simp only [mS_iff, eq_self, Int.reduceEq, true_and, and_true, false_and, and_false, and_self, ↓reduceIte]; omega) | (simp only [mS_iff, eq_self, Int.reduceEq, true_and, and_true, false_and, and_false, and_self, ↓reduceIte] at *; omega)) ?_
  refine And.intro (show (mw6 (mw2 r 0) (-1)) = 5 by first | assumption | omega | (simp only [mS_iff, eq_self, Int.reduceEq, true_and, and_true, false_and, and_false, and_self, ↓reduceIte]; omega) | (simp only [mS_iff, eq_self, Int.reduceEq, true_and, and_true, false_and, and_false, and_self, ↓reduceIte] at *; omega)) ?_
  refine And.intro (show (mw6 (mw2 r 0) (-1)) = 5 by first | assumption | omega | (simp only [mS_iff, eq_self, Int.reduceEq, true_and, and_true, false_and, and_false, and_self, ↓reduceIte]; omega) | (simp only [mS_iff, eq_self, Int.reduceEq, true_and, and_true, false_and, and_false, and_self, ↓reduceIte] at *; omega)) ?_
  refine And.intro (show 0 < r7 by first | omega | (simp only [mS_iff, eq_self, Int.reduceEq, true_and, and_true, false_and, and_false, and_self, ↓reduceIte]; omega) | (simp only [mS_iff, eq_self, Int.reduceEq, true_and, and_true, false_and, and_false, and_self, ↓reduceIte] at *; omega)) ?_
  refine ct_164 (by omega) (by omega) (by omega) c3 (fun m5 f5 f0 f1 f2 f3 f4 f6 f7 f8 f9 => ?_)
  have T5 := f5.T T2 (by omega)
  have z5 := T5.1
  have z5s := T5.2.1
  have tq5 : m5 r3 (-1) = 4 := by rw [f5.2.2.1 _ _ (by omega) (by omega) (by omega), c5 _ _ (by omega) (by omega)]; exact n3
  have tr5 : m5 r (-1) = 4 := by rw [T5.2.2.1 r _ (by omega) (by omega)]; exact t4
  have yr5 : m5 r 1 = m r 1 := T5.2.2.1 r _ (by omega) (by omega)
  have ta5 : m5 (m5 r 1) (-1) = 45 := by rw [yr5, T5.2.2.1 _ _ (by omega) (by omega)]; exact hB.2.2.2.2.2.2.1
  have na5 : m5 (m5 r 1) (-2) = w 5 := by rw [yr5, T5.2.2.1 _ _ (by omega) (by omega)]; exact hB.2.2.2.2.2.2.2.1
  have HF : hFld m5 (m 0 0 + 1) (m5 0 0) r7 w := ⟨by omega, f1, by rw [f2, q0]; exact g3, by rw [f3, q0]; exact g4, by rw [f4, q0]; exact g5, by rw [f6, q0]; exact g6, by rw [f7, q0]; exact g7, by rw [f8]; exact ⟨by omega, by omega, f9⟩⟩
  refine And.intro (show (m5 r (-1)) = 4 by first | assumption | omega | (simp only [mS_iff, eq_self, Int.reduceEq, true_and, and_true, false_and, and_false, and_self, ↓reduceIte]; omega) | (simp only [mS_iff, eq_self, Int.reduceEq, true_and, and_true, false_and, and_false, and_self, ↓reduceIte] at *; omega)) ?_
  refine And.intro (Or.inl (by omega)) ?_
  refine And.intro (show 0 < r3 by first | omega | (simp only [mS_iff, eq_self, Int.reduceEq, true_and, and_true, false_and, and_false, and_self, ↓reduceIte]; omega) | (simp only [mS_iff, eq_self, Int.reduceEq, true_and, and_true, false_and, and_false, and_self, ↓reduceIte] at *; omega)) ?_
  refine am_in (k := 0) rfl (by omega) (fun d hd => ?_)
  refine am_go 400 [] (am_wpc_cm _ _ _) wf_162 ?_
  refine And.intro (show 0 < r3 by first | omega | (simp only [mS_iff, eq_self, Int.reduceEq, true_and, and_true, false_and, and_false, and_self, ↓reduceIte]; omega) | (simp only [mS_iff, eq_self, Int.reduceEq, true_and, and_true, false_and, and_false, and_self, ↓reduceIte] at *; omega)) ?_
  refine And.intro (⟨by omega, tq5⟩) ?_
  refine And.intro (by first | omega | (simp only [mS_iff, eq_self, Int.reduceEq, true_and, and_true, false_and, and_false, and_self, ↓reduceIte]; omega) | (simp only [mS_iff, eq_self, Int.reduceEq, true_and, and_true, false_and, and_false, and_self, ↓reduceIte] at *; omega)) ?_
  generalize h12 : mA (mS m5 r3 0 r7) 45 (m5 (m5 r 1) (-2)) = mw10
  generalize h13 : (mS m5 r3 0 r7) 0 0 + 1 = r11
  obtain ⟨m6, em6⟩ : ∃ z, z = (mS m5 r3 0 r7) := ⟨_, rfl⟩
  rw [← em6] at h12 h13
  have T6 : frTw 3 20 m m6 := by rw [em6]; exact (T5.put (by omega) (by omega)).wd (by omega) (by omega)
  have z6 : m6 0 0 = m5 0 0 := by rw [em6]; exact mS_a _ _ _ _ (by omega)
  have z6s : m6 0 1 = m5 0 1 := by rw [em6]; exact mS_a _ _ _ _ (by omega)
  obtain ⟨a1, a2, a3, a4, a5, a6, a7⟩ := mA_f h12 h13 (by omega)
  have T7 : frTw 4 26 m mw10 := by
    obtain ⟨u1, u2, u3, u4⟩ := T6
    exact ⟨by omega, by omega, fun x j p q => (a6 x j p (by omega)).trans (u3 x j p q), fun j p q => (a7 j p q).trans (u4 j p q)⟩
  have tq7 : mw10 r3 (-1) = 4 := by rw [a6 _ _ (by omega) (by omega), em6, mS_iff, if_neg (by omega)]; exact tq5
  have fq7 : mw10 r3 0 = r7 := by rw [a6 _ _ (by omega) (by omega), em6, mS_iff, if_pos ⟨rfl, rfl⟩]
  have HF6 : hFld m6 (m 0 0 + 1) (m5 0 0) r7 w := by rw [em6]; exact HF.pl4 tq5
  have HF7 : hFld mw10 (m 0 0 + 1) (mw10 0 0) r7 w := ((HF6.keep (m' := mw10) (fun x u v => by
    have e : mw10 x = m6 x := funext fun j => a6 x j (by omega) (by omega)
    rw [e]; exact ⟨rfl, fun _ => rfl⟩)).wd (by omega) (by omega))
  refine And.intro (⟨by omega, tq7⟩) ?_
  refine K22 _ _ (r11) _ (fun _ => m 0 0 + 4) _ (Eq.refl _) ?_ ?_ ?_ ?_ ?_ ?_
  · have w5 := ok.cnt
    rw [mS_a _ _ _ _ (by omega)]
    omega
  · exact ((T7.put (by omega) (by omega)).wd (by omega) (by omega))
  · exact ⟨by rw [mS_iff, if_neg (by omega)]; exact tq7, by rw [mS_iff, if_pos ⟨rfl, rfl⟩]⟩
  · have e0 : ((mS mw10 r3 1 r11)) 0 0 = mw10 0 0 := mS_a _ _ _ _ (by omega)
    rw [e0, show ((mS mw10 r3 1 r11)) r3 0 = r7 by rw [mS_iff, if_neg (by omega)]; exact fq7]
    exact HF7.pl4 tq7
  · exact ⟨by rw [mS_a _ _ _ _ (by omega)]; exact a3, by rw [mS_a _ _ _ _ (by omega), a4]; exact na5⟩
  · exact ⟨rfl, by rw [mS_a _ _ _ _ (by omega)]; show m 0 0 + 4 = _; omega, fun j x y => by omega, fun j x y => by omega⟩
