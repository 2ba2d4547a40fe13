/-! needs: a04 -/
/-! CONTRACTS: a layer of the house; by tools/gena5.py -/
set_option maxRecDepth 100000
theorem p_bd_i {α β : Type} {r : xP α} {g : Int → α → xP β} {x : Int × β} (h : p_bd r g = .inr x) : ∃ q a, r = .inr (q, a) ∧ g q a = .inr x := by
  rcases r with e | ⟨q, a⟩
  · cases h
  · exact ⟨q, a, rfl, h⟩
theorem p_want_i {K A : Int → Int} {l n q q' v : Int} (h : p_want K A l n q = .inr (q', v)) : q' = q + 1 ∧ v = K q - l ∧ 0 ≤ v ∧ v < n := by
  unfold p_want at h
  by_cases c : l ≤ K q ∧ K q < l + n
  · rw [if_pos c] at h; cases h; omega
  · rw [if_neg c] at h; cases h
theorem p_ord_ok {K A : Int → Int} {c b q q' : Int} {o : Int → Int} (h : p_ord K A c b q = .inr (q', o)) : okOrd o 0 := by
  unfold p_ord at h
  obtain ⟨q1, x, h1, h2⟩ := p_bd_i h
  have i1 := p_want_i h1
  by_cases z : (x = 6 ∧ c = 1) ∨ (x = 7 ∧ b = 1)
  · rw [if_pos z] at h2; cases h2
  · rw [if_neg z] at h2
    obtain ⟨q2, t, h3, h4⟩ := p_bd_i h2
    have i2 := p_want_i h3
    have i3 := p_ln_b K q1
    cases h4
    exact ⟨by simp; omega, by simp; omega, by simp; omega, by simp; omega, by simp; omega, by simp; omega⟩
/-- bounds of a group -/
def okG (g : Int → Int) : Prop := (1 ≤ g 5 ∧ g 5 ≤ 12) ∧ (0 ≤ g 6 ∧ g 6 ≤ 11) ∧ (0 ≤ g 7 ∧ g 7 ≤ 4) ∧ (0 ≤ g 8 ∧ g 8 ≤ 8) ∧ (g 7 = s_fa (g 6) ∨ 1 ≤ g 7)
theorem p_th_ok {K A : Int → Int} {n q q' : Int} {g : Int → Int} (hn : 1 ≤ n ∧ n ≤ 12) (h : p_th K A n q = .inr (q', g)) : okG g := by
  unfold p_th at h
  obtain ⟨q1, t, h1, h2⟩ := p_bd_i h
  have i1 := p_want_i h1
  obtain ⟨q2, a, h3, h4⟩ := p_bd_i h2
  obtain ⟨q3, c, h5, h6⟩ := p_bd_i h4
  have i3 := p_want_i h5
  have fb : 0 ≤ s_fa t ∧ s_fa t ≤ 4 := by unfold s_fa; omega
  have i2 : (0 ≤ a ∧ a ≤ 4) ∧ (a = s_fa t ∨ 1 ≤ a) := by
    by_cases z : 21 ≤ K q1 ∧ K q1 < 25
    · by_cases y : s_ms t (1 + (K q1 - 21))
      · rw [p_att_y z y] at h3; cases h3; omega
      · rw [p_att_e z y] at h3; cases h3
    · rw [p_att_n z] at h3; cases h3; omega
  cases h6
  exact ⟨by simp; omega, by simp; omega, by simp; omega, by simp; omega, by simp; omega⟩
theorem p_grp_ok {K A V : Int → Int} {q q' : Int} {g : Int → Int} (h : p_grp K A V q = .inr (q', g)) : okG g := by
  unfold p_grp at h
  by_cases z : K q = 70
  · rw [if_pos z] at h
    obtain ⟨q1, n, h1, h2⟩ := p_bd_i h
    have := p_num_b h1 (by omega)
    exact p_th_ok (by omega) h2
  · rw [if_neg z] at h
    obtain ⟨q1, n, h1, h2⟩ := p_bd_i h
    exact p_th_ok (by omega) h2
/-- numbers of a layer that is read: overall, how, part -/
theorem hTold.wd {m : aM} {lo hi lo' hi' t : Int} (h : hTold m lo hi t) (a : lo' ≤ lo) (b : hi ≤ hi') : hTold m lo' hi' t := ⟨by have := h.1; omega, by have := h.2.1; omega, h.2.2⟩
theorem hOrd.wd {m : aM} {lo hi lo' hi' o b : Int} {w : Int → Int} (h : hOrd m lo hi o w b) (x : lo' ≤ lo) (y : hi ≤ hi') : hOrd m lo' hi' o w b := by
  rcases h with h | ⟨h1, h2, h3, h4, h5, h6, h7, h8⟩
  · exact Or.inl h
  · exact Or.inr ⟨by omega, by omega, h3, h4, h5, h6, h7, h8.wd x y⟩
theorem hGrp.wd {m : aM} {lo hi lo' hi' o b : Int} {w : Int → Int} (h : hGrp m lo hi o w b) (x : lo' ≤ lo) (y : hi ≤ hi') : hGrp m lo' hi' o w b := by
  rcases h with h | ⟨h1, h2, h3, h4, h5, h6, h7, h8, h9⟩
  · exact Or.inl h
  · exact Or.inr ⟨by omega, by omega, h3, h4, h5, h6, h7, h8, h9.wd x y⟩
theorem fr_P.kp {c s : Int} {m m' : aM} (f : fr_P c s m m') {lo : Int} (h : 14 ≤ lo) : hKeep m m' lo (m 0 0) := fun r a b => ⟨f.2.2.1 r (-1) (by omega) b (by omega), fun _ => funext fun j => f.2.2.1 r j (by omega) b (by omega)⟩
theorem hKeep.ps {m : aM} {x j v lo hi : Int} (hj : 0 ≤ j) : hKeep m (mS m x j v) lo hi → True := fun _ => trivial
theorem hOrd.fr {c s : Int} {m m' : aM} {lo o b : Int} {w : Int → Int} (h : hOrd m lo (m 0 0) o w b) (f : fr_P c s m m') (hl : 14 ≤ lo) : hOrd m' lo (m' 0 0) o w b := (h.keep (f.kp hl)).wd (by omega) f.1.1
theorem hGrp.fr {c s : Int} {m m' : aM} {lo o b : Int} {w : Int → Int} (h : hGrp m lo (m 0 0) o w b) (f : fr_P c s m m') (hl : 14 ≤ lo) : hGrp m' lo (m' 0 0) o w b := (h.keep (f.kp hl)).wd (by omega) f.1.1
theorem hOrd.pl {m : aM} {lo hi o b x j v : Int} {w : Int → Int} (h : hOrd m lo hi o w b) (t : m x (-1) = 7) : hOrd (mS m x j v) lo hi o w b := by
  rcases h with h | ⟨h1, h2, h3, h4, h5, h6, h7, h8⟩
  · exact Or.inl h
  · have n1 : o ≠ x := fun e => by subst e; omega
    have n2 : m o 3 ≠ x := fun e => by have := h8.2.2; rw [e] at this; omega
    refine Or.inr ⟨h1, h2, ?_, h4, ?_, ?_, ?_, ?_⟩
    · rw [mS_a _ _ _ _ n1]; exact h3
    · rw [mS_a _ _ _ _ n1]; exact h5
    · rw [mS_a _ _ _ _ n1]; exact h6
    · rw [mS_a _ _ _ _ n1]; exact h7
    · rw [mS_a _ _ _ _ n1]; exact ⟨h8.1, h8.2.1, by rw [mS_a _ _ _ _ n2]; exact h8.2.2⟩
theorem hNO.ord {a b : aM} {r lo : Int} {w : Int → Int} (h : hNO a b r w) (ok : okOrd w 0) (hl : lo ≤ a 0 0 + 1) : hOrd b lo (b 0 0) r w 0 := by
  obtain ⟨h1, h2, h3, h4, h5, h6⟩ := h
  exact Or.inr ⟨by omega, by omega, h2, ok, h3, h4, h5, h6.wd hl (by omega)⟩
/-- a Group told by its numbers -/
def hGr (m : aM) (lo r : Int) (w : Int → Int) : Prop := (lo ≤ r ∧ r ≤ m 0 0) ∧ m r (-1) = 10 ∧ m r 0 = w 5 ∧ m r 1 = w 6 ∧ m r 2 = w 7 ∧ m r 3 = w 8 ∧ hTold m lo (m 0 0) (m r 4)
/-- a Layer told by its numbers -/
def hLf (m : aM) (r a o g h p : Int) : Prop := m r (-1) = 7 ∧ m r 0 = a ∧ m r 1 = o ∧ m r 2 = g ∧ m r 3 = h ∧ m r 4 = p
theorem hLf.fr {c s : Int} {m m' : aM} {r a o g h p : Int} (l : hLf m r a o g h p) (f : fr_P c s m m') (hr : 14 ≤ r ∧ r ≤ m 0 0) : hLf m' r a o g h p := by
  obtain ⟨l1, l2, l3, l4, l5, l6⟩ := l
  have e : ∀ j, m' r j = m r j := fun j => f.2.2.1 r j (by omega) hr.2 (by omega)
  exact ⟨by rw [e]; exact l1, by rw [e]; exact l2, by rw [e]; exact l3, by rw [e]; exact l4, by rw [e]; exact l5, by rw [e]; exact l6⟩
theorem hTx.pl {m : aM} {K A V : Int → Int} {N q f p x j v : Int} (h : hTx m K A V N q f p) (hx : 18 ≤ x) : hTx (mS m x j v) K A V N q f p := h.keep (fun y i a b => mS_a _ _ _ _ (by omega))
theorem hOrd.cg {m : aM} {lo hi o : Int} {w l : Int → Int} (h : hOrd m lo hi o w 0) (e1 : l 1 = w 1) (e2 : l 2 = w 2) (e3 : l 3 = w 3) : hOrd m lo hi o l 0 := by
  rcases h with ⟨x1, x2⟩ | ⟨x1, x2, x3, x4, x5, x6, x7, x8⟩
  · exact Or.inl ⟨x1, by unfold noOrd at *; simp only [Int.zero_add] at *; omega⟩
  · exact Or.inr ⟨x1, x2, x3, by unfold okOrd at *; simp only [Int.zero_add] at *; omega, by simp only [Int.zero_add] at *; omega, by simp only [Int.zero_add] at *; omega, by simp only [Int.zero_add] at *; omega, x8⟩
theorem hNG.gr {a b : aM} {r lo : Int} {w : Int → Int} (h : hNG a b r w) (hl : lo ≤ a 0 0 + 1) : hGr b lo r w := by
  obtain ⟨h1, h2, h3, h4, h5, h6, h7⟩ := h
  exact ⟨by omega, h2, h3, h4, h5, h6, h7.wd hl (by omega)⟩
theorem hGr.fr {c s : Int} {m m' : aM} {lo r : Int} {w : Int → Int} (h : hGr m lo r w) (f : fr_P c s m m') (hl : 14 ≤ lo) : hGr m' lo r w := by
  obtain ⟨h1, h2, h3, h4, h5, h6, h7⟩ := h
  have e : ∀ j, m' r j = m r j := fun j => f.2.2.1 r j (by omega) h1.2 (by omega)
  have f1 := f.1.1
  exact ⟨by omega, by rw [e]; exact h2, by rw [e]; exact h3, by rw [e]; exact h4, by rw [e]; exact h5, by rw [e]; exact h6, by rw [e]; exact (h7.keep (f.kp hl)).wd (by omega) f1⟩
theorem hGr.pl {m : aM} {lo r x j v : Int} {w : Int → Int} (h : hGr m lo r w) (t : m x (-1) = 7) (hx : x ≠ 0) : hGr (mS m x j v) lo r w := by
  obtain ⟨h1, h2, h3, h4, h5, h6, h7⟩ := h
  have n1 : r ≠ x := fun e => by subst e; omega
  have n2 : m r 4 ≠ x := fun e => by have := h7.2.2; rw [e] at this; omega
  unfold hGr
  rw [mS_a m j v 0 (show (0 : Int) ≠ x by omega), mS_a m j v (-1) n1, mS_a m j v 0 n1, mS_a m j v 1 n1, mS_a m j v 2 n1, mS_a m j v 3 n1, mS_a m j v 4 n1]
  exact ⟨h1, h2, h3, h4, h5, h6, ⟨h7.1, h7.2.1, by rw [mS_a m j v (-1) n2]; exact h7.2.2⟩⟩
theorem hGr.grp {m : aM} {lo r : Int} {w l : Int → Int} (h : hGr m lo r w) (ok : okG w) (e4 : 1 ≤ l 4 ∧ l 4 ≤ 3) (e5 : l 5 = w 5) (e6 : l 6 = w 6) (e7 : l 7 = w 7) (e8 : l 8 = w 8) (e9 : 0 ≤ l 9 ∧ l 9 ≤ 4) : hGrp m lo (m 0 0) r l 0 := by
  obtain ⟨h1, h2, h3, h4, h5, h6, h7⟩ := h
  refine Or.inr ⟨h1.1, h1.2, h2, ?_, by simp only [Int.zero_add]; omega, by simp only [Int.zero_add]; omega, by simp only [Int.zero_add]; omega, by simp only [Int.zero_add]; omega, h7⟩
  unfold okGrp
  simp only [Int.zero_add]
  obtain ⟨k1, k2, k3, k4, k5⟩ := ok
  rw [e5, e6, e7, e8]
  exact ⟨e4.1, e4.2, k1.1, k1.2, k2.1, k2.2, k3.1, k3.2, k4.1, k4.2, e9.1, e9.2, k5⟩
/-- a Layer within [lo, ..] that says l -/
theorem hLay.mk {m : aM} {lo r a o g h p : Int} {l : Int → Int} (f : hLf m r a o g h p) (hr : lo ≤ r ∧ r ≤ m 0 0) (ha : a = 0 ∨ a = 1) (l0 : l 0 = a) (l4 : l 4 = h) (l9 : l 9 = p) (ho : hOrd m lo (m 0 0) o l 0) (hg : hGrp m lo (m 0 0) g l 0) (w1 : l 4 = 1 ↔ l 1 = -1) (w2 : l 4 ≠ 1 → l 9 = 0) : hLay m lo (m 0 0) r l 0 := by
  obtain ⟨f1, f2, f3, f4, f5, f6⟩ := f
  refine ⟨hr, f1, by rw [l0]; exact ha, by rw [f2, l0], ?_, ?_, by rw [f5]; exact l4.symm, by rw [f6]; exact l9.symm, w1, w2⟩
  · rw [f3]; exact ho
  · rw [f4]; exact hg
theorem hLf.put {m : aM} {r a o g h p : Int} (l : hLf m r a o g h p) (v : Int) : hLf (mS m r 0 v) r v o g h p ∧ hLf (mS m r 1 v) r a v g h p ∧ hLf (mS m r 2 v) r a o v h p ∧ hLf (mS m r 3 v) r a o g v p ∧ hLf (mS m r 4 v) r a o g h v := by
  obtain ⟨l1, l2, l3, l4, l5, l6⟩ := l
  unfold hLf
  simp only [mS_iff, eq_self, Int.reduceEq, true_and, and_true, false_and, and_false, and_self, ↓reduceIte, Int.reduceNeg, reduceCtorEq]
  simp [l1, l2, l3, l4, l5, l6]
theorem fr_P.pl {c s : Int} {m m' : aM} {x j v : Int} (f : fr_P c s m m') (hx : m 0 0 < x) (h0 : 0 ≤ m 0 0) : fr_P c s m (mS m' x j v) := by
  obtain ⟨f1, f2, f3, f4⟩ := f
  refine ⟨by rw [mS_a _ _ _ _ (show (0 : Int) ≠ x by omega)]; exact f1, by rw [mS_a _ _ _ _ (show (0 : Int) ≠ x by omega)]; exact f2, fun y i a b c => by rw [mS_a _ _ _ _ (show y ≠ x by omega)]; exact f3 y i a b c, fun i a b => by rw [mS_a _ _ _ _ (show (0 : Int) ≠ x by omega)]; exact f4 i a b⟩
theorem lp_49 {d : Nat} {mb m : aM} {Q : aO → aM → Prop} {K A V : Int → Int} {N q p c b v r lo : Int} (hd : 6 ≤ d) (hT : xT K A V N) (hx : hTx m K A V N q 0 p) (hcb : (c = 0 ∨ c = 1) ∧ (b = 0 ∨ b = 1)) (hv : v = 0 ∨ v = 1) (lf : hLf m r v 0 0 0 0) (fr : fr_P 1 10 mb m) (hr : (mb 0 0 + 1 = r ∧ r ≤ m 0 0) ∧ lo = r) (h0 : 78 ≤ r ∧ 0 ≤ mb 0 1 ∧ m 0 0 + 6 ≤ amC ∧ 0 ≤ m 0 1 ∧ m 0 1 + 100 ≤ amS) (hQe : ∀ m' q' f' p', fr_P 5 80 mb m' → hTx m' K A V N q' f' p' → f' ≠ 0 → mb 0 0 + 1 ≤ r → r ≤ m' 0 0 → m' r (-1) = 7 → p_lay1 K A V c b v q = .inl (f', p') → Q (.inl (some (aR r))) m') (hQ : ∀ m' q' l, fr_P 5 80 mb m' → hTx m' K A V N q' 0 p → p_lay1 K A V c b v q = .inr (q', l) → hLay m' lo (m' 0 0) r l 0 → Q (.inl (some (aR r))) m') : am_WP am_G (am_wpc am_G am_T d) [] cd_49 Q 18 [aR 13, aI (p_tb c b), aR r, aU] [] m := by
  have cn := fr.1
  have cs := fr.2.1
  have l1 := lf.1
  have rl := hr.1.2
  refine am_go 400 [] (am_wpc_cm _ _ _) wf_49 ?_
  refine And.intro (rfl) ?_
  refine ct_160 (by omega) hT hx (fun v1 h2 => ?_)
  have ea := h2
  refine And.intro (rfl) ?_
  refine ct_157 (by omega) hT hx (by omega) (fun _ h3 mw4 h5 h6 => ?_) (fun h3 => ?_)
  · have lf := lf.fr (fr_t.P h5) (by omega)
    have l1 := lf.1
    have rl := Int.le_trans rl ((fr_t.P h5)).1.1
    have fr := fr.trans (fr_t.P h5)
    have hx := h6
    have cn := fr.1
    have cs := fr.2.1
    have k1 := h3
    refine And.intro (fun h => absurd h (by decide)) (fun _ => ?_)
    refine And.intro (rfl) ?_
    refine ct_159 (by omega) hT hx (by omega) (fun h => absurd rfl h) (fun _ h7 mw9 h11 h12 => ?_) (fun _ h7 mw10 h11 h12 => ?_)
    · have lf := lf.fr (fr_t.P h11) (by omega)
      have l1 := lf.1
      have rl := Int.le_trans rl ((fr_t.P h11)).1.1
      have fr := fr.trans (fr_t.P h11)
      have hx := h12
      have cn := fr.1
      have cs := fr.2.1
      have k2 := h7
      refine ct_50 (by omega) hT hx (by omega) hcb (fun mw13 r15 q16 f17 p18 h19 h20 h21 h22 => ?_) (fun mw14 r15 q16 w23 h19 h20 h21 h22 => ?_)
      · have lf := lf.fr h19 (by omega)
        have l1 := lf.1
        have rl := Int.le_trans rl (h19).1.1
        have fr := fr.trans h19
        have hx := h20
        have nz := h21
        have cn := fr.1
        have cs := fr.2.1
        refine And.intro (show 0 < r ∧ (mw13 r (-1)) = 7 by first | omega | (simp only [mS_iff, eq_self, Int.reduceEq, true_and, and_true, false_and, and_false, and_self, ↓reduceIte]; omega) | (simp only [mS_iff, eq_self, Int.reduceEq, true_and, and_true, false_and, and_false, and_self, ↓reduceIte] at *; omega)) ?_
        have lf := (lf.put r15).2.1
        have fr := fr.pl (x := r) (j := 1) (v := r15) (by omega) (by omega)
        have hx := hx.pl (x := r) (j := 1) (v := r15) (by omega)
        obtain ⟨mw24, h25⟩ : ∃ z, z = (mS mw13 r 1 r15) := ⟨_, rfl⟩
        rw [← h25] at lf fr hx ⊢
        have e0 : mw24 0 0 = mw13 0 0 := by rw [h25, mS_a _ _ _ _ (by omega)]
        have rl : r ≤ mw24 0 0 := by rw [e0]; exact rl
        have l1 := lf.1
        have cn := fr.1
        have cs := fr.2.1
        refine And.intro (rfl) ?_
        refine And.intro (fun h => absurd h (by have := hx.2.2.2.1; have := hx.2.2.2.2.1; omega)) (fun _ => ?_)
        refine And.intro (show 0 < r ∧ (mw24 r (-1)) = 7 by first | omega | (simp only [mS_iff, eq_self, Int.reduceEq, true_and, and_true, false_and, and_false, and_self, ↓reduceIte]; omega) | (simp only [mS_iff, eq_self, Int.reduceEq, true_and, and_true, false_and, and_false, and_self, ↓reduceIte] at *; omega)) ?_
        have lf := (lf.put 0).2.2.1
        have fr := fr.pl (x := r) (j := 2) (v := 0) (by omega) (by omega)
        have hx := hx.pl (x := r) (j := 2) (v := 0) (by omega)
        obtain ⟨mw26, h27⟩ : ∃ z, z = (mS mw24 r 2 0) := ⟨_, rfl⟩
        rw [← h27] at lf fr hx ⊢
        have e0 : mw26 0 0 = mw24 0 0 := by rw [h27, mS_a _ _ _ _ (by omega)]
        have rl : r ≤ mw26 0 0 := by rw [e0]; exact rl
        have l1 := lf.1
        have cn := fr.1
        have cs := fr.2.1
        refine And.intro (show 0 < r ∧ (mw26 r (-1)) = 7 by first | omega | (simp only [mS_iff, eq_self, Int.reduceEq, true_and, and_true, false_and, and_false, and_self, ↓reduceIte]; omega) | (simp only [mS_iff, eq_self, Int.reduceEq, true_and, and_true, false_and, and_false, and_self, ↓reduceIte] at *; omega)) ?_
        have lf := (lf.put 3).2.2.2.1
        have fr := fr.pl (x := r) (j := 3) (v := 3) (by omega) (by omega)
        have hx := hx.pl (x := r) (j := 3) (v := 3) (by omega)
        obtain ⟨mw28, h29⟩ : ∃ z, z = (mS mw26 r 3 3) := ⟨_, rfl⟩
        rw [← h29] at lf fr hx ⊢
        have e0 : mw28 0 0 = mw26 0 0 := by rw [h29, mS_a _ _ _ _ (by omega)]
        have rl : r ≤ mw28 0 0 := by rw [e0]; exact rl
        have l1 := lf.1
        have cn := fr.1
        have cs := fr.2.1
        skip
        refine hQe _ _ _ _ (fr.mono (by omega) (by omega)) hx nz (by omega) (by omega) l1 ?_
        unfold p_lay1
        rw [if_pos (by omega)]
        rw [p_bd_r (p_want_y (by omega))]
        exact p_bd_l (h22)
      · have od := h22.ord (lo := lo) (p_ord_ok h21) (by omega)
        have lf := lf.fr h19 (by omega)
        have l1 := lf.1
        have rl := Int.le_trans rl (h19).1.1
        have ok1 : 0 ≤ w23 1 := by have := (p_ord_ok h21).1; simpa using this
        have fr := fr.trans h19
        have hx := h20
        have cn := fr.1
        have cs := fr.2.1
        refine And.intro (show 0 < r ∧ (mw14 r (-1)) = 7 by first | omega | (simp only [mS_iff, eq_self, Int.reduceEq, true_and, and_true, false_and, and_false, and_self, ↓reduceIte]; omega) | (simp only [mS_iff, eq_self, Int.reduceEq, true_and, and_true, false_and, and_false, and_self, ↓reduceIte] at *; omega)) ?_
        have od := od.pl (j := 1) (v := r15) lf.1
        have lf := (lf.put r15).2.1
        have fr := fr.pl (x := r) (j := 1) (v := r15) (by omega) (by omega)
        have hx := hx.pl (x := r) (j := 1) (v := r15) (by omega)
        obtain ⟨mw30, h31⟩ : ∃ z, z = (mS mw14 r 1 r15) := ⟨_, rfl⟩
        rw [← h31] at lf fr hx od ⊢
        have e0 : mw30 0 0 = mw14 0 0 := by rw [h31, mS_a _ _ _ _ (by omega)]
        rw [← e0] at od
        have rl : r ≤ mw30 0 0 := by rw [e0]; exact rl
        have l1 := lf.1
        have cn := fr.1
        have cs := fr.2.1
        refine And.intro (rfl) ?_
        refine And.intro (fun _ => ?_) (fun h => absurd h (by have := hx.2.2.2.1; have := hx.2.2.2.2.1; omega))
        refine ct_51 (by omega) hT hx (by omega) (fun mw32 r34 q35 f36 p37 h38 h39 h40 h41 => ?_) (fun mw33 r34 q35 w42 h38 h39 h40 h41 => ?_)
        · have lf := lf.fr h38 (by omega)
          have l1 := lf.1
          have od := od.fr h38 (by omega)
          have rl := Int.le_trans rl (h38).1.1
          have fr := fr.trans h38
          have hx := h39
          have nz := h40
          have cn := fr.1
          have cs := fr.2.1
          refine And.intro (show 0 < r ∧ (mw32 r (-1)) = 7 by first | omega | (simp only [mS_iff, eq_self, Int.reduceEq, true_and, and_true, false_and, and_false, and_self, ↓reduceIte]; omega) | (simp only [mS_iff, eq_self, Int.reduceEq, true_and, and_true, false_and, and_false, and_self, ↓reduceIte] at *; omega)) ?_
          have od := od.pl (j := 2) (v := r34) lf.1
          have lf := (lf.put r34).2.2.1
          have fr := fr.pl (x := r) (j := 2) (v := r34) (by omega) (by omega)
          have hx := hx.pl (x := r) (j := 2) (v := r34) (by omega)
          obtain ⟨mw43, h44⟩ : ∃ z, z = (mS mw32 r 2 r34) := ⟨_, rfl⟩
          rw [← h44] at lf fr hx od ⊢
          have e0 : mw43 0 0 = mw32 0 0 := by rw [h44, mS_a _ _ _ _ (by omega)]
          rw [← e0] at od
          have rl : r ≤ mw43 0 0 := by rw [e0]; exact rl
          have l1 := lf.1
          have cn := fr.1
          have cs := fr.2.1
          refine And.intro (show 0 < r ∧ (mw43 r (-1)) = 7 by first | omega | (simp only [mS_iff, eq_self, Int.reduceEq, true_and, and_true, false_and, and_false, and_self, ↓reduceIte]; omega) | (simp only [mS_iff, eq_self, Int.reduceEq, true_and, and_true, false_and, and_false, and_self, ↓reduceIte] at *; omega)) ?_
          have od := od.pl (j := 3) (v := 3) lf.1
          have lf := (lf.put 3).2.2.2.1
          have fr := fr.pl (x := r) (j := 3) (v := 3) (by omega) (by omega)
          have hx := hx.pl (x := r) (j := 3) (v := 3) (by omega)
          obtain ⟨mw45, h46⟩ : ∃ z, z = (mS mw43 r 3 3) := ⟨_, rfl⟩
          rw [← h46] at lf fr hx od ⊢
          have e0 : mw45 0 0 = mw43 0 0 := by rw [h46, mS_a _ _ _ _ (by omega)]
          rw [← e0] at od
          have rl : r ≤ mw45 0 0 := by rw [e0]; exact rl
          have l1 := lf.1
          have cn := fr.1
          have cs := fr.2.1
          skip
          refine hQe _ _ _ _ (fr.mono (by omega) (by omega)) hx nz (by omega) (by omega) l1 ?_
          unfold p_lay1
          rw [if_pos (by omega)]
          rw [p_bd_r (p_want_y (by omega))]
          rw [p_bd_r (h21)]
          exact p_bd_l (h41)
        · have gr := h41.gr (lo := lo) (by omega)
          have lf := lf.fr h38 (by omega)
          have l1 := lf.1
          have od := od.fr h38 (by omega)
          have rl := Int.le_trans rl (h38).1.1
          have gk := p_grp_ok h40
          have fr := fr.trans h38
          have hx := h39
          have cn := fr.1
          have cs := fr.2.1
          refine And.intro (show 0 < r ∧ (mw33 r (-1)) = 7 by first | omega | (simp only [mS_iff, eq_self, Int.reduceEq, true_and, and_true, false_and, and_false, and_self, ↓reduceIte]; omega) | (simp only [mS_iff, eq_self, Int.reduceEq, true_and, and_true, false_and, and_false, and_self, ↓reduceIte] at *; omega)) ?_
          have od := od.pl (j := 2) (v := r34) lf.1
          have gr := gr.pl (j := 2) (v := r34) lf.1 (by omega)
          have lf := (lf.put r34).2.2.1
          have fr := fr.pl (x := r) (j := 2) (v := r34) (by omega) (by omega)
          have hx := hx.pl (x := r) (j := 2) (v := r34) (by omega)
          obtain ⟨mw47, h48⟩ : ∃ z, z = (mS mw33 r 2 r34) := ⟨_, rfl⟩
          rw [← h48] at lf fr hx od gr ⊢
          have e0 : mw47 0 0 = mw33 0 0 := by rw [h48, mS_a _ _ _ _ (by omega)]
          rw [← e0] at od
          have rl : r ≤ mw47 0 0 := by rw [e0]; exact rl
          have l1 := lf.1
          have cn := fr.1
          have cs := fr.2.1
          refine And.intro (show 0 < r ∧ (mw47 r (-1)) = 7 by first | omega | (simp only [mS_iff, eq_self, Int.reduceEq, true_and, and_true, false_and, and_false, and_self, ↓reduceIte]; omega) | (simp only [mS_iff, eq_self, Int.reduceEq, true_and, and_true, false_and, and_false, and_self, ↓reduceIte] at *; omega)) ?_
          have od := od.pl (j := 3) (v := 3) lf.1
          have gr := gr.pl (j := 3) (v := 3) lf.1 (by omega)
          have lf := (lf.put 3).2.2.2.1
          have fr := fr.pl (x := r) (j := 3) (v := 3) (by omega) (by omega)
          have hx := hx.pl (x := r) (j := 3) (v := 3) (by omega)
          obtain ⟨mw49, h50⟩ : ∃ z, z = (mS mw47 r 3 3) := ⟨_, rfl⟩
          rw [← h50] at lf fr hx od gr ⊢
          have e0 : mw49 0 0 = mw47 0 0 := by rw [h50, mS_a _ _ _ _ (by omega)]
          rw [← e0] at od
          have rl : r ≤ mw49 0 0 := by rw [e0]; exact rl
          have l1 := lf.1
          have cn := fr.1
          have cs := fr.2.1
          skip
          refine hQ _ _ (l_mk v 3 0 w23 w42) (fr.mono (by omega) (by omega)) hx ?_ ?_
          · unfold p_lay1
            rw [if_pos (by omega)]
            rw [p_bd_r (p_want_y (by omega))]
            rw [p_bd_r (h21)]
            rw [p_bd_r (h40)]
          · exact hLay.mk lf ⟨by omega, by omega⟩ hv (by simp [l_mk]) (by simp [l_mk]) (by simp [l_mk]) (od.cg (by simp [l_mk]) (by simp [l_mk]) (by simp [l_mk])) (gr.grp gk (by simp [l_mk]) (by simp [l_mk]) (by simp [l_mk]) (by simp [l_mk]) (by simp [l_mk]) (by simp [l_mk])) (by simp [l_mk]; omega) (by simp [l_mk])
    · have lf := lf.fr (fr_t.P h11) (by omega)
      have l1 := lf.1
      have rl := Int.le_trans rl ((fr_t.P h11)).1.1
      have fr := fr.trans (fr_t.P h11)
      have hx := h12
      have nz : x_wr (K (q + 1)) ≠ 0 := by unfold x_wr; omega
      have er := h7
      have cn := fr.1
      have cs := fr.2.1
      refine ct_50f (by omega) hT hx nz (by omega) (fun mw51 r52 h53 h54 h55 h56 h57 => ?_)
      have lf := lf.fr h53 (by omega)
      have l1 := lf.1
      have rl := Int.le_trans rl (h53).1.1
      have fr := fr.trans h53
      have hx := h54
      have cn := fr.1
      have cs := fr.2.1
      refine And.intro (show 0 < r ∧ (mw51 r (-1)) = 7 by first | omega | (simp only [mS_iff, eq_self, Int.reduceEq, true_and, and_true, false_and, and_false, and_self, ↓reduceIte]; omega) | (simp only [mS_iff, eq_self, Int.reduceEq, true_and, and_true, false_and, and_false, and_self, ↓reduceIte] at *; omega)) ?_
      have lf := (lf.put r52).2.1
      have fr := fr.pl (x := r) (j := 1) (v := r52) (by omega) (by omega)
      have hx := hx.pl (x := r) (j := 1) (v := r52) (by omega)
      obtain ⟨mw58, h59⟩ : ∃ z, z = (mS mw51 r 1 r52) := ⟨_, rfl⟩
      rw [← h59] at lf fr hx ⊢
      have e0 : mw58 0 0 = mw51 0 0 := by rw [h59, mS_a _ _ _ _ (by omega)]
      have rl : r ≤ mw58 0 0 := by rw [e0]; exact rl
      have l1 := lf.1
      have cn := fr.1
      have cs := fr.2.1
      refine And.intro (rfl) ?_
      refine And.intro (fun h => absurd h (by have := hx.2.2.2.1; have := hx.2.2.2.2.1; omega)) (fun _ => ?_)
      refine And.intro (show 0 < r ∧ (mw58 r (-1)) = 7 by first | omega | (simp only [mS_iff, eq_self, Int.reduceEq, true_and, and_true, false_and, and_false, and_self, ↓reduceIte]; omega) | (simp only [mS_iff, eq_self, Int.reduceEq, true_and, and_true, false_and, and_false, and_self, ↓reduceIte] at *; omega)) ?_
      have lf := (lf.put 0).2.2.1
      have fr := fr.pl (x := r) (j := 2) (v := 0) (by omega) (by omega)
      have hx := hx.pl (x := r) (j := 2) (v := 0) (by omega)
      obtain ⟨mw60, h61⟩ : ∃ z, z = (mS mw58 r 2 0) := ⟨_, rfl⟩
      rw [← h61] at lf fr hx ⊢
      have e0 : mw60 0 0 = mw58 0 0 := by rw [h61, mS_a _ _ _ _ (by omega)]
      have rl : r ≤ mw60 0 0 := by rw [e0]; exact rl
      have l1 := lf.1
      have cn := fr.1
      have cs := fr.2.1
      refine And.intro (show 0 < r ∧ (mw60 r (-1)) = 7 by first | omega | (simp only [mS_iff, eq_self, Int.reduceEq, true_and, and_true, false_and, and_false, and_self, ↓reduceIte]; omega) | (simp only [mS_iff, eq_self, Int.reduceEq, true_and, and_true, false_and, and_false, and_self, ↓reduceIte] at *; omega)) ?_
      have lf := (lf.put 3).2.2.2.1
      have fr := fr.pl (x := r) (j := 3) (v := 3) (by omega) (by omega)
      have hx := hx.pl (x := r) (j := 3) (v := 3) (by omega)
      obtain ⟨mw62, h63⟩ : ∃ z, z = (mS mw60 r 3 3) := ⟨_, rfl⟩
      rw [← h63] at lf fr hx ⊢
      have e0 : mw62 0 0 = mw60 0 0 := by rw [h63, mS_a _ _ _ _ (by omega)]
      have rl : r ≤ mw62 0 0 := by rw [e0]; exact rl
      have l1 := lf.1
      have cn := fr.1
      have cs := fr.2.1
      skip
      refine hQe _ _ _ _ (fr.mono (by omega) (by omega)) hx nz (by omega) (by omega) l1 ?_
      unfold p_lay1
      rw [if_pos (by omega)]
      exact p_bd_l (p_want_n (by omega))
  · have g1 := h3
    refine And.intro (fun _ => ?_) (fun h => absurd h (by decide))
    refine And.intro (rfl) ?_
    refine ct_158 (by omega) hT hx (fun _ h64 => ?_) (fun h64 => ?_)
    · have k2 := h64
      refine And.intro (fun h => absurd h (by decide)) (fun _ => ?_)
      refine And.intro (fun h65 => ?_) (fun h65 => ?_)
      · refine And.intro (rfl) ?_
        refine ct_158 (by omega) hT hx (fun _ h66 => ?_) (fun h66 => ?_)
        · have k3 := h66
          refine And.intro (fun _ => ?_) (fun h => absurd h (by decide))
          refine And.intro (rfl) ?_
          refine And.intro (fun _ => ?_) (fun h => absurd h (by have := hx.2.2.2.1; have := hx.2.2.2.2.1; omega))
          refine ct_51 (by omega) hT hx (by omega) (fun mw67 r69 q70 f71 p72 h73 h74 h75 h76 => ?_) (fun mw68 r69 q70 w77 h73 h74 h75 h76 => ?_)
          · have lf := lf.fr h73 (by omega)
            have l1 := lf.1
            have rl := Int.le_trans rl (h73).1.1
            have fr := fr.trans h73
            have hx := h74
            have nz := h75
            have cn := fr.1
            have cs := fr.2.1
            refine And.intro (show 0 < r ∧ (mw67 r (-1)) = 7 by first | omega | (simp only [mS_iff, eq_self, Int.reduceEq, true_and, and_true, false_and, and_false, and_self, ↓reduceIte]; omega) | (simp only [mS_iff, eq_self, Int.reduceEq, true_and, and_true, false_and, and_false, and_self, ↓reduceIte] at *; omega)) ?_
            have lf := (lf.put r69).2.2.1
            have fr := fr.pl (x := r) (j := 2) (v := r69) (by omega) (by omega)
            have hx := hx.pl (x := r) (j := 2) (v := r69) (by omega)
            obtain ⟨mw78, h79⟩ : ∃ z, z = (mS mw67 r 2 r69) := ⟨_, rfl⟩
            rw [← h79] at lf fr hx ⊢
            have e0 : mw78 0 0 = mw67 0 0 := by rw [h79, mS_a _ _ _ _ (by omega)]
            have rl : r ≤ mw78 0 0 := by rw [e0]; exact rl
            have l1 := lf.1
            have cn := fr.1
            have cs := fr.2.1
            refine And.intro (show 0 < r ∧ (mw78 r (-1)) = 7 by first | omega | (simp only [mS_iff, eq_self, Int.reduceEq, true_and, and_true, false_and, and_false, and_self, ↓reduceIte]; omega) | (simp only [mS_iff, eq_self, Int.reduceEq, true_and, and_true, false_and, and_false, and_self, ↓reduceIte] at *; omega)) ?_
            have lf := (lf.put 1).2.2.2.1
            have fr := fr.pl (x := r) (j := 3) (v := 1) (by omega) (by omega)
            have hx := hx.pl (x := r) (j := 3) (v := 1) (by omega)
            obtain ⟨mw80, h81⟩ : ∃ z, z = (mS mw78 r 3 1) := ⟨_, rfl⟩
            rw [← h81] at lf fr hx ⊢
            have e0 : mw80 0 0 = mw78 0 0 := by rw [h81, mS_a _ _ _ _ (by omega)]
            have rl : r ≤ mw80 0 0 := by rw [e0]; exact rl
            have l1 := lf.1
            have cn := fr.1
            have cs := fr.2.1
            refine And.intro (rfl) ?_
            refine ct_157 (by omega) hT hx (by omega) (fun h => absurd h nz) (fun _ => ?_)
            refine And.intro (fun _ => ?_) (fun h => absurd h (by decide))
            skip
            refine hQe _ _ _ _ (fr.mono (by omega) (by omega)) hx nz (by omega) (by omega) l1 ?_
            unfold p_lay1
            rw [if_neg (by omega), if_neg (by omega), if_pos (by omega)]
            exact p_bd_l (h76)
          · have gr := h76.gr (lo := lo) (by omega)
            have lf := lf.fr h73 (by omega)
            have l1 := lf.1
            have rl := Int.le_trans rl (h73).1.1
            have gk := p_grp_ok h75
            have fr := fr.trans h73
            have hx := h74
            have cn := fr.1
            have cs := fr.2.1
            refine And.intro (show 0 < r ∧ (mw68 r (-1)) = 7 by first | omega | (simp only [mS_iff, eq_self, Int.reduceEq, true_and, and_true, false_and, and_false, and_self, ↓reduceIte]; omega) | (simp only [mS_iff, eq_self, Int.reduceEq, true_and, and_true, false_and, and_false, and_self, ↓reduceIte] at *; omega)) ?_
            have gr := gr.pl (j := 2) (v := r69) lf.1 (by omega)
            have lf := (lf.put r69).2.2.1
            have fr := fr.pl (x := r) (j := 2) (v := r69) (by omega) (by omega)
            have hx := hx.pl (x := r) (j := 2) (v := r69) (by omega)
            obtain ⟨mw82, h83⟩ : ∃ z, z = (mS mw68 r 2 r69) := ⟨_, rfl⟩
            rw [← h83] at lf fr hx gr ⊢
            have e0 : mw82 0 0 = mw68 0 0 := by rw [h83, mS_a _ _ _ _ (by omega)]
            have rl : r ≤ mw82 0 0 := by rw [e0]; exact rl
            have l1 := lf.1
            have cn := fr.1
            have cs := fr.2.1
            refine And.intro (show 0 < r ∧ (mw82 r (-1)) = 7 by first | omega | (simp only [mS_iff, eq_self, Int.reduceEq, true_and, and_true, false_and, and_false, and_self, ↓reduceIte]; omega) | (simp only [mS_iff, eq_self, Int.reduceEq, true_and, and_true, false_and, and_false, and_self, ↓reduceIte] at *; omega)) ?_
            have gr := gr.pl (j := 3) (v := 1) lf.1 (by omega)
            have lf := (lf.put 1).2.2.2.1
            have fr := fr.pl (x := r) (j := 3) (v := 1) (by omega) (by omega)
            have hx := hx.pl (x := r) (j := 3) (v := 1) (by omega)
            obtain ⟨mw84, h85⟩ : ∃ z, z = (mS mw82 r 3 1) := ⟨_, rfl⟩
            rw [← h85] at lf fr hx gr ⊢
            have e0 : mw84 0 0 = mw82 0 0 := by rw [h85, mS_a _ _ _ _ (by omega)]
            have rl : r ≤ mw84 0 0 := by rw [e0]; exact rl
            have l1 := lf.1
            have cn := fr.1
            have cs := fr.2.1
            refine And.intro (rfl) ?_
            refine ct_157 (by omega) hT hx (by omega) (fun _ h86 mw87 h88 h89 => ?_) (fun h86 => ?_)
            · have lf := lf.fr (fr_t.P h88) (by omega)
              have l1 := lf.1
              have gr := gr.fr (fr_t.P h88) (by omega)
              have rl := Int.le_trans rl ((fr_t.P h88)).1.1
              have fr := fr.trans (fr_t.P h88)
              have hx := h89
              have cn := fr.1
              have cs := fr.2.1
              have k4 := h86
              refine And.intro (fun h => absurd h (by decide)) (fun _ => ?_)
              refine And.intro (rfl) ?_
              refine ct_157 (by omega) hT hx (by omega) (fun _ h90 mw91 h92 h93 => ?_) (fun h90 => ?_)
              · have lf := lf.fr (fr_t.P h92) (by omega)
                have l1 := lf.1
                have gr := gr.fr (fr_t.P h92) (by omega)
                have rl := Int.le_trans rl ((fr_t.P h92)).1.1
                have fr := fr.trans (fr_t.P h92)
                have hx := h93
                have cn := fr.1
                have cs := fr.2.1
                have k5 := h90
                refine And.intro (fun h => absurd h (by decide)) (fun _ => ?_)
                skip
                refine And.intro (show 0 < r ∧ (mw91 r (-1)) = 7 by first | omega | (simp only [mS_iff, eq_self, Int.reduceEq, true_and, and_true, false_and, and_false, and_self, ↓reduceIte]; omega) | (simp only [mS_iff, eq_self, Int.reduceEq, true_and, and_true, false_and, and_false, and_self, ↓reduceIte] at *; omega)) ?_
                have gr := gr.pl (j := 4) (v := 1) lf.1 (by omega)
                have lf := (lf.put 1).2.2.2.2
                have fr := fr.pl (x := r) (j := 4) (v := 1) (by omega) (by omega)
                have hx := hx.pl (x := r) (j := 4) (v := 1) (by omega)
                obtain ⟨mw94, h95⟩ : ∃ z, z = (mS mw91 r 4 1) := ⟨_, rfl⟩
                rw [← h95] at lf fr hx gr ⊢
                have e0 : mw94 0 0 = mw91 0 0 := by rw [h95, mS_a _ _ _ _ (by omega)]
                have rl : r ≤ mw94 0 0 := by rw [e0]; exact rl
                have l1 := lf.1
                have cn := fr.1
                have cs := fr.2.1
                refine hQ _ _ (l_mk v 1 1 l_no w77) (fr.mono (by omega) (by omega)) hx ?_ ?_
                · unfold p_lay1
                  rw [if_neg (by omega), if_neg (by omega), if_pos (by omega)]
                  rw [p_bd_r (h75)]
                  unfold p_part
                  rw [if_pos (by omega), if_pos (by omega), show q70 + 2 = q70 + 1 + 1 by omega]
                  rfl
                · exact hLay.mk lf ⟨by omega, by omega⟩ hv (by simp [l_mk]) (by simp [l_mk]) (by simp [l_mk]) (Or.inl ⟨rfl, by unfold noOrd; simp [l_mk, l_no]⟩) (gr.grp gk (by simp [l_mk]) (by simp [l_mk]) (by simp [l_mk]) (by simp [l_mk]) (by simp [l_mk]) (by simp [l_mk])) (by simp [l_mk, l_no]) (by simp [l_mk])
              · have g5 := h90
                refine And.intro (fun _ => ?_) (fun h => absurd h (by decide))
                refine And.intro (rfl) ?_
                refine ct_154 (by omega) hT hx (by omega) (by omega) (fun h => absurd rfl h) (fun _ h96 mw98 h100 h101 => ?_) (fun _ h96 mw99 h100 h101 => ?_)
                · have lf := lf.fr (fr_t.P h100) (by omega)
                  have l1 := lf.1
                  have gr := gr.fr (fr_t.P h100) (by omega)
                  have rl := Int.le_trans rl ((fr_t.P h100)).1.1
                  have fr := fr.trans (fr_t.P h100)
                  have hx := h101
                  have cn := fr.1
                  have cs := fr.2.1
                  have k6 := h96
                  refine And.intro (show -2147483648 ≤ 2 + (K (q70 + 1) - 48) ∧ 2 + (K (q70 + 1) - 48) ≤ 2147483647 by first | omega | (simp only [mS_iff, eq_self, Int.reduceEq, true_and, and_true, false_and, and_false, and_self, ↓reduceIte]; omega) | (simp only [mS_iff, eq_self, Int.reduceEq, true_and, and_true, false_and, and_false, and_self, ↓reduceIte] at *; omega)) ?_
                  skip
                  refine And.intro (show 0 < r ∧ (mw98 r (-1)) = 7 by first | omega | (simp only [mS_iff, eq_self, Int.reduceEq, true_and, and_true, false_and, and_false, and_self, ↓reduceIte]; omega) | (simp only [mS_iff, eq_self, Int.reduceEq, true_and, and_true, false_and, and_false, and_self, ↓reduceIte] at *; omega)) ?_
                  have gr := gr.pl (j := 4) (v := (2 + (K (q70 + 1) - 48))) lf.1 (by omega)
                  have lf := (lf.put (2 + (K (q70 + 1) - 48))).2.2.2.2
                  have fr := fr.pl (x := r) (j := 4) (v := (2 + (K (q70 + 1) - 48))) (by omega) (by omega)
                  have hx := hx.pl (x := r) (j := 4) (v := (2 + (K (q70 + 1) - 48))) (by omega)
                  obtain ⟨mw102, h103⟩ : ∃ z, z = (mS mw98 r 4 (2 + (K (q70 + 1) - 48))) := ⟨_, rfl⟩
                  rw [← h103] at lf fr hx gr ⊢
                  have e0 : mw102 0 0 = mw98 0 0 := by rw [h103, mS_a _ _ _ _ (by omega)]
                  have rl : r ≤ mw102 0 0 := by rw [e0]; exact rl
                  have l1 := lf.1
                  have cn := fr.1
                  have cs := fr.2.1
                  refine hQ _ _ (l_mk v 1 (2 + (K (q70 + 1) - 48)) l_no w77) (fr.mono (by omega) (by omega)) hx ?_ ?_
                  · unfold p_lay1
                    rw [if_neg (by omega), if_neg (by omega), if_pos (by omega)]
                    rw [p_bd_r (h75)]
                    unfold p_part
                    rw [if_pos (by omega), if_neg (by omega)]
                    rw [p_bd_r (p_want_y (by omega))]
                    rfl
                  · exact hLay.mk lf ⟨by omega, by omega⟩ hv (by simp [l_mk]) (by simp [l_mk]) (by simp [l_mk]) (Or.inl ⟨rfl, by unfold noOrd; simp [l_mk, l_no]⟩) (gr.grp gk (by simp [l_mk]) (by simp [l_mk]) (by simp [l_mk]) (by simp [l_mk]) (by simp [l_mk]) (by simp [l_mk]; omega)) (by simp [l_mk, l_no]) (by simp [l_mk])
                · have lf := lf.fr (fr_t.P h100) (by omega)
                  have l1 := lf.1
                  have gr := gr.fr (fr_t.P h100) (by omega)
                  have rl := Int.le_trans rl ((fr_t.P h100)).1.1
                  have fr := fr.trans (fr_t.P h100)
                  have hx := h101
                  have nz : x_wr (K (q70 + 1)) ≠ 0 := by unfold x_wr; omega
                  have er := h96
                  have cn := fr.1
                  have cs := fr.2.1
                  refine And.intro (show -2147483648 ≤ 2 + 0 ∧ 2 + 0 ≤ 2147483647 by first | omega | (simp only [mS_iff, eq_self, Int.reduceEq, true_and, and_true, false_and, and_false, and_self, ↓reduceIte]; omega) | (simp only [mS_iff, eq_self, Int.reduceEq, true_and, and_true, false_and, and_false, and_self, ↓reduceIte] at *; omega)) ?_
                  rw [show (2 : Int) + 0 = 2 from rfl]
                  refine And.intro (show 0 < r ∧ (mw99 r (-1)) = 7 by first | omega | (simp only [mS_iff, eq_self, Int.reduceEq, true_and, and_true, false_and, and_false, and_self, ↓reduceIte]; omega) | (simp only [mS_iff, eq_self, Int.reduceEq, true_and, and_true, false_and, and_false, and_self, ↓reduceIte] at *; omega)) ?_
                  have gr := gr.pl (j := 4) (v := 2) lf.1 (by omega)
                  have lf := (lf.put 2).2.2.2.2
                  have fr := fr.pl (x := r) (j := 4) (v := 2) (by omega) (by omega)
                  have hx := hx.pl (x := r) (j := 4) (v := 2) (by omega)
                  obtain ⟨mw104, h105⟩ : ∃ z, z = (mS mw99 r 4 2) := ⟨_, rfl⟩
                  rw [← h105] at lf fr hx gr ⊢
                  have e0 : mw104 0 0 = mw99 0 0 := by rw [h105, mS_a _ _ _ _ (by omega)]
                  have rl : r ≤ mw104 0 0 := by rw [e0]; exact rl
                  have l1 := lf.1
                  have cn := fr.1
                  have cs := fr.2.1
                  refine hQe _ _ _ _ (fr.mono (by omega) (by omega)) hx nz (by omega) (by omega) l1 ?_
                  unfold p_lay1
                  rw [if_neg (by omega), if_neg (by omega), if_pos (by omega)]
                  rw [p_bd_r (h75)]
                  unfold p_part
                  rw [if_pos (by omega), if_neg (by omega)]
                  rw [p_bd_l (p_want_n (by omega))]
                  rfl
            · have g4 := h86
              refine And.intro (fun _ => ?_) (fun h => absurd h (by decide))
              skip
              refine hQ _ _ (l_mk v 1 0 l_no w77) (fr.mono (by omega) (by omega)) hx ?_ ?_
              · unfold p_lay1
                rw [if_neg (by omega), if_neg (by omega), if_pos (by omega)]
                rw [p_bd_r (h75)]
                unfold p_part
                rw [if_neg (by omega)]
                rfl
              · exact hLay.mk lf ⟨by omega, by omega⟩ hv (by simp [l_mk]) (by simp [l_mk]) (by simp [l_mk]) (Or.inl ⟨rfl, by unfold noOrd; simp [l_mk, l_no]⟩) (gr.grp gk (by simp [l_mk]) (by simp [l_mk]) (by simp [l_mk]) (by simp [l_mk]) (by simp [l_mk]) (by simp [l_mk])) (by simp [l_mk, l_no]) (by simp [l_mk])
        · have g3 := h66
          refine And.intro (fun h => absurd h (by decide)) (fun _ => ?_)
          refine And.intro (rfl) ?_
          refine ct_158 (by omega) hT hx (fun _ h106 => ?_) (fun h106 => ?_)
          · have k4 := h106
            refine And.intro (fun _ => ?_) (fun h => absurd h (by decide))
            refine And.intro (rfl) ?_
            refine And.intro (fun _ => ?_) (fun h => absurd h (by have := hx.2.2.2.1; have := hx.2.2.2.2.1; omega))
            refine ct_51 (by omega) hT hx (by omega) (fun mw107 r109 q110 f111 p112 h113 h114 h115 h116 => ?_) (fun mw108 r109 q110 w117 h113 h114 h115 h116 => ?_)
            · have lf := lf.fr h113 (by omega)
              have l1 := lf.1
              have rl := Int.le_trans rl (h113).1.1
              have fr := fr.trans h113
              have hx := h114
              have nz := h115
              have cn := fr.1
              have cs := fr.2.1
              refine And.intro (show 0 < r ∧ (mw107 r (-1)) = 7 by first | omega | (simp only [mS_iff, eq_self, Int.reduceEq, true_and, and_true, false_and, and_false, and_self, ↓reduceIte]; omega) | (simp only [mS_iff, eq_self, Int.reduceEq, true_and, and_true, false_and, and_false, and_self, ↓reduceIte] at *; omega)) ?_
              have lf := (lf.put r109).2.2.1
              have fr := fr.pl (x := r) (j := 2) (v := r109) (by omega) (by omega)
              have hx := hx.pl (x := r) (j := 2) (v := r109) (by omega)
              obtain ⟨mw118, h119⟩ : ∃ z, z = (mS mw107 r 2 r109) := ⟨_, rfl⟩
              rw [← h119] at lf fr hx ⊢
              have e0 : mw118 0 0 = mw107 0 0 := by rw [h119, mS_a _ _ _ _ (by omega)]
              have rl : r ≤ mw118 0 0 := by rw [e0]; exact rl
              have l1 := lf.1
              have cn := fr.1
              have cs := fr.2.1
              refine And.intro (show 0 < r ∧ (mw118 r (-1)) = 7 by first | omega | (simp only [mS_iff, eq_self, Int.reduceEq, true_and, and_true, false_and, and_false, and_self, ↓reduceIte]; omega) | (simp only [mS_iff, eq_self, Int.reduceEq, true_and, and_true, false_and, and_false, and_self, ↓reduceIte] at *; omega)) ?_
              have lf := (lf.put 1).2.2.2.1
              have fr := fr.pl (x := r) (j := 3) (v := 1) (by omega) (by omega)
              have hx := hx.pl (x := r) (j := 3) (v := 1) (by omega)
              obtain ⟨mw120, h121⟩ : ∃ z, z = (mS mw118 r 3 1) := ⟨_, rfl⟩
              rw [← h121] at lf fr hx ⊢
              have e0 : mw120 0 0 = mw118 0 0 := by rw [h121, mS_a _ _ _ _ (by omega)]
              have rl : r ≤ mw120 0 0 := by rw [e0]; exact rl
              have l1 := lf.1
              have cn := fr.1
              have cs := fr.2.1
              refine And.intro (rfl) ?_
              refine ct_157 (by omega) hT hx (by omega) (fun h => absurd h nz) (fun _ => ?_)
              refine And.intro (fun _ => ?_) (fun h => absurd h (by decide))
              skip
              refine hQe _ _ _ _ (fr.mono (by omega) (by omega)) hx nz (by omega) (by omega) l1 ?_
              unfold p_lay1
              rw [if_neg (by omega), if_neg (by omega), if_pos (by omega)]
              exact p_bd_l (h116)
            · have gr := h116.gr (lo := lo) (by omega)
              have lf := lf.fr h113 (by omega)
              have l1 := lf.1
              have rl := Int.le_trans rl (h113).1.1
              have gk := p_grp_ok h115
              have fr := fr.trans h113
              have hx := h114
              have cn := fr.1
              have cs := fr.2.1
              refine And.intro (show 0 < r ∧ (mw108 r (-1)) = 7 by first | omega | (simp only [mS_iff, eq_self, Int.reduceEq, true_and, and_true, false_and, and_false, and_self, ↓reduceIte]; omega) | (simp only [mS_iff, eq_self, Int.reduceEq, true_and, and_true, false_and, and_false, and_self, ↓reduceIte] at *; omega)) ?_
              have gr := gr.pl (j := 2) (v := r109) lf.1 (by omega)
              have lf := (lf.put r109).2.2.1
              have fr := fr.pl (x := r) (j := 2) (v := r109) (by omega) (by omega)
              have hx := hx.pl (x := r) (j := 2) (v := r109) (by omega)
              obtain ⟨mw122, h123⟩ : ∃ z, z = (mS mw108 r 2 r109) := ⟨_, rfl⟩
              rw [← h123] at lf fr hx gr ⊢
              have e0 : mw122 0 0 = mw108 0 0 := by rw [h123, mS_a _ _ _ _ (by omega)]
              have rl : r ≤ mw122 0 0 := by rw [e0]; exact rl
              have l1 := lf.1
              have cn := fr.1
              have cs := fr.2.1
              refine And.intro (show 0 < r ∧ (mw122 r (-1)) = 7 by first | omega | (simp only [mS_iff, eq_self, Int.reduceEq, true_and, and_true, false_and, and_false, and_self, ↓reduceIte]; omega) | (simp only [mS_iff, eq_self, Int.reduceEq, true_and, and_true, false_and, and_false, and_self, ↓reduceIte] at *; omega)) ?_
              have gr := gr.pl (j := 3) (v := 1) lf.1 (by omega)
              have lf := (lf.put 1).2.2.2.1
              have fr := fr.pl (x := r) (j := 3) (v := 1) (by omega) (by omega)
              have hx := hx.pl (x := r) (j := 3) (v := 1) (by omega)
              obtain ⟨mw124, h125⟩ : ∃ z, z = (mS mw122 r 3 1) := ⟨_, rfl⟩
              rw [← h125] at lf fr hx gr ⊢
              have e0 : mw124 0 0 = mw122 0 0 := by rw [h125, mS_a _ _ _ _ (by omega)]
              have rl : r ≤ mw124 0 0 := by rw [e0]; exact rl
              have l1 := lf.1
              have cn := fr.1
              have cs := fr.2.1
              refine And.intro (rfl) ?_
              refine ct_157 (by omega) hT hx (by omega) (fun _ h126 mw127 h128 h129 => ?_) (fun h126 => ?_)
              · have lf := lf.fr (fr_t.P h128) (by omega)
                have l1 := lf.1
                have gr := gr.fr (fr_t.P h128) (by omega)
                have rl := Int.le_trans rl ((fr_t.P h128)).1.1
                have fr := fr.trans (fr_t.P h128)
                have hx := h129
                have cn := fr.1
                have cs := fr.2.1
                have k5 := h126
                refine And.intro (fun h => absurd h (by decide)) (fun _ => ?_)
                refine And.intro (rfl) ?_
                refine ct_157 (by omega) hT hx (by omega) (fun _ h130 mw131 h132 h133 => ?_) (fun h130 => ?_)
                · have lf := lf.fr (fr_t.P h132) (by omega)
                  have l1 := lf.1
                  have gr := gr.fr (fr_t.P h132) (by omega)
                  have rl := Int.le_trans rl ((fr_t.P h132)).1.1
                  have fr := fr.trans (fr_t.P h132)
                  have hx := h133
                  have cn := fr.1
                  have cs := fr.2.1
                  have k6 := h130
                  refine And.intro (fun h => absurd h (by decide)) (fun _ => ?_)
                  skip
                  refine And.intro (show 0 < r ∧ (mw131 r (-1)) = 7 by first | omega | (simp only [mS_iff, eq_self, Int.reduceEq, true_and, and_true, false_and, and_false, and_self, ↓reduceIte]; omega) | (simp only [mS_iff, eq_self, Int.reduceEq, true_and, and_true, false_and, and_false, and_self, ↓reduceIte] at *; omega)) ?_
                  have gr := gr.pl (j := 4) (v := 1) lf.1 (by omega)
                  have lf := (lf.put 1).2.2.2.2
                  have fr := fr.pl (x := r) (j := 4) (v := 1) (by omega) (by omega)
                  have hx := hx.pl (x := r) (j := 4) (v := 1) (by omega)
                  obtain ⟨mw134, h135⟩ : ∃ z, z = (mS mw131 r 4 1) := ⟨_, rfl⟩
                  rw [← h135] at lf fr hx gr ⊢
                  have e0 : mw134 0 0 = mw131 0 0 := by rw [h135, mS_a _ _ _ _ (by omega)]
                  have rl : r ≤ mw134 0 0 := by rw [e0]; exact rl
                  have l1 := lf.1
                  have cn := fr.1
                  have cs := fr.2.1
                  refine hQ _ _ (l_mk v 1 1 l_no w117) (fr.mono (by omega) (by omega)) hx ?_ ?_
                  · unfold p_lay1
                    rw [if_neg (by omega), if_neg (by omega), if_pos (by omega)]
                    rw [p_bd_r (h115)]
                    unfold p_part
                    rw [if_pos (by omega), if_pos (by omega), show q110 + 2 = q110 + 1 + 1 by omega]
                    rfl
                  · exact hLay.mk lf ⟨by omega, by omega⟩ hv (by simp [l_mk]) (by simp [l_mk]) (by simp [l_mk]) (Or.inl ⟨rfl, by unfold noOrd; simp [l_mk, l_no]⟩) (gr.grp gk (by simp [l_mk]) (by simp [l_mk]) (by simp [l_mk]) (by simp [l_mk]) (by simp [l_mk]) (by simp [l_mk])) (by simp [l_mk, l_no]) (by simp [l_mk])
                · have g6 := h130
                  refine And.intro (fun _ => ?_) (fun h => absurd h (by decide))
                  refine And.intro (rfl) ?_
                  refine ct_154 (by omega) hT hx (by omega) (by omega) (fun h => absurd rfl h) (fun _ h136 mw138 h140 h141 => ?_) (fun _ h136 mw139 h140 h141 => ?_)
                  · have lf := lf.fr (fr_t.P h140) (by omega)
                    have l1 := lf.1
                    have gr := gr.fr (fr_t.P h140) (by omega)
                    have rl := Int.le_trans rl ((fr_t.P h140)).1.1
                    have fr := fr.trans (fr_t.P h140)
                    have hx := h141
                    have cn := fr.1
                    have cs := fr.2.1
                    have k7 := h136
                    refine And.intro (show -2147483648 ≤ 2 + (K (q110 + 1) - 48) ∧ 2 + (K (q110 + 1) - 48) ≤ 2147483647 by first | omega | (simp only [mS_iff, eq_self, Int.reduceEq, true_and, and_true, false_and, and_false, and_self, ↓reduceIte]; omega) | (simp only [mS_iff, eq_self, Int.reduceEq, true_and, and_true, false_and, and_false, and_self, ↓reduceIte] at *; omega)) ?_
                    skip
                    refine And.intro (show 0 < r ∧ (mw138 r (-1)) = 7 by first | omega | (simp only [mS_iff, eq_self, Int.reduceEq, true_and, and_true, false_and, and_false, and_self, ↓reduceIte]; omega) | (simp only [mS_iff, eq_self, Int.reduceEq, true_and, and_true, false_and, and_false, and_self, ↓reduceIte] at *; omega)) ?_
                    have gr := gr.pl (j := 4) (v := (2 + (K (q110 + 1) - 48))) lf.1 (by omega)
                    have lf := (lf.put (2 + (K (q110 + 1) - 48))).2.2.2.2
                    have fr := fr.pl (x := r) (j := 4) (v := (2 + (K (q110 + 1) - 48))) (by omega) (by omega)
                    have hx := hx.pl (x := r) (j := 4) (v := (2 + (K (q110 + 1) - 48))) (by omega)
                    obtain ⟨mw142, h143⟩ : ∃ z, z = (mS mw138 r 4 (2 + (K (q110 + 1) - 48))) := ⟨_, rfl⟩
                    rw [← h143] at lf fr hx gr ⊢
                    have e0 : mw142 0 0 = mw138 0 0 := by rw [h143, mS_a _ _ _ _ (by omega)]
                    have rl : r ≤ mw142 0 0 := by rw [e0]; exact rl
                    have l1 := lf.1
                    have cn := fr.1
                    have cs := fr.2.1
                    refine hQ _ _ (l_mk v 1 (2 + (K (q110 + 1) - 48)) l_no w117) (fr.mono (by omega) (by omega)) hx ?_ ?_
                    · unfold p_lay1
                      rw [if_neg (by omega), if_neg (by omega), if_pos (by omega)]
                      rw [p_bd_r (h115)]
                      unfold p_part
                      rw [if_pos (by omega), if_neg (by omega)]
                      rw [p_bd_r (p_want_y (by omega))]
                      rfl
                    · exact hLay.mk lf ⟨by omega, by omega⟩ hv (by simp [l_mk]) (by simp [l_mk]) (by simp [l_mk]) (Or.inl ⟨rfl, by unfold noOrd; simp [l_mk, l_no]⟩) (gr.grp gk (by simp [l_mk]) (by simp [l_mk]) (by simp [l_mk]) (by simp [l_mk]) (by simp [l_mk]) (by simp [l_mk]; omega)) (by simp [l_mk, l_no]) (by simp [l_mk])
                  · have lf := lf.fr (fr_t.P h140) (by omega)
                    have l1 := lf.1
                    have gr := gr.fr (fr_t.P h140) (by omega)
                    have rl := Int.le_trans rl ((fr_t.P h140)).1.1
                    have fr := fr.trans (fr_t.P h140)
                    have hx := h141
                    have nz : x_wr (K (q110 + 1)) ≠ 0 := by unfold x_wr; omega
                    have er := h136
                    have cn := fr.1
                    have cs := fr.2.1
                    refine And.intro (show -2147483648 ≤ 2 + 0 ∧ 2 + 0 ≤ 2147483647 by first | omega | (simp only [mS_iff, eq_self, Int.reduceEq, true_and, and_true, false_and, and_false, and_self, ↓reduceIte]; omega) | (simp only [mS_iff, eq_self, Int.reduceEq, true_and, and_true, false_and, and_false, and_self, ↓reduceIte] at *; omega)) ?_
                    rw [show (2 : Int) + 0 = 2 from rfl]
                    refine And.intro (show 0 < r ∧ (mw139 r (-1)) = 7 by first | omega | (simp only [mS_iff, eq_self, Int.reduceEq, true_and, and_true, false_and, and_false, and_self, ↓reduceIte]; omega) | (simp only [mS_iff, eq_self, Int.reduceEq, true_and, and_true, false_and, and_false, and_self, ↓reduceIte] at *; omega)) ?_
                    have gr := gr.pl (j := 4) (v := 2) lf.1 (by omega)
                    have lf := (lf.put 2).2.2.2.2
                    have fr := fr.pl (x := r) (j := 4) (v := 2) (by omega) (by omega)
                    have hx := hx.pl (x := r) (j := 4) (v := 2) (by omega)
                    obtain ⟨mw144, h145⟩ : ∃ z, z = (mS mw139 r 4 2) := ⟨_, rfl⟩
                    rw [← h145] at lf fr hx gr ⊢
                    have e0 : mw144 0 0 = mw139 0 0 := by rw [h145, mS_a _ _ _ _ (by omega)]
                    have rl : r ≤ mw144 0 0 := by rw [e0]; exact rl
                    have l1 := lf.1
                    have cn := fr.1
                    have cs := fr.2.1
                    refine hQe _ _ _ _ (fr.mono (by omega) (by omega)) hx nz (by omega) (by omega) l1 ?_
                    unfold p_lay1
                    rw [if_neg (by omega), if_neg (by omega), if_pos (by omega)]
                    rw [p_bd_r (h115)]
                    unfold p_part
                    rw [if_pos (by omega), if_neg (by omega)]
                    rw [p_bd_l (p_want_n (by omega))]
                    rfl
              · have g5 := h126
                refine And.intro (fun _ => ?_) (fun h => absurd h (by decide))
                skip
                refine hQ _ _ (l_mk v 1 0 l_no w117) (fr.mono (by omega) (by omega)) hx ?_ ?_
                · unfold p_lay1
                  rw [if_neg (by omega), if_neg (by omega), if_pos (by omega)]
                  rw [p_bd_r (h115)]
                  unfold p_part
                  rw [if_neg (by omega)]
                  rfl
                · exact hLay.mk lf ⟨by omega, by omega⟩ hv (by simp [l_mk]) (by simp [l_mk]) (by simp [l_mk]) (Or.inl ⟨rfl, by unfold noOrd; simp [l_mk, l_no]⟩) (gr.grp gk (by simp [l_mk]) (by simp [l_mk]) (by simp [l_mk]) (by simp [l_mk]) (by simp [l_mk]) (by simp [l_mk])) (by simp [l_mk, l_no]) (by simp [l_mk])
          · have g4 := h106
            refine And.intro (fun h => absurd h (by decide)) (fun _ => ?_)
            refine And.intro (rfl) ?_
            refine ct_155 (by omega) hT hx (fun mw146 h147 h148 => ?_)
            have lf := lf.fr (fr_t.P h147) (by omega)
            have l1 := lf.1
            have rl := Int.le_trans rl ((fr_t.P h147)).1.1
            have fr := fr.trans (fr_t.P h147)
            have hx : hTx mw146 K A V N q (x_wr (K q)) (A q) := h148
            have nz : x_wr (K q) ≠ 0 := by unfold x_wr; omega
            have cn := fr.1
            have cs := fr.2.1
            refine And.intro (rfl) ?_
            refine And.intro (fun h => absurd h (by have := hx.2.2.2.1; have := hx.2.2.2.2.1; omega)) (fun _ => ?_)
            refine And.intro (show 0 < r ∧ (mw146 r (-1)) = 7 by first | omega | (simp only [mS_iff, eq_self, Int.reduceEq, true_and, and_true, false_and, and_false, and_self, ↓reduceIte]; omega) | (simp only [mS_iff, eq_self, Int.reduceEq, true_and, and_true, false_and, and_false, and_self, ↓reduceIte] at *; omega)) ?_
            have lf := (lf.put 0).2.2.1
            have fr := fr.pl (x := r) (j := 2) (v := 0) (by omega) (by omega)
            have hx := hx.pl (x := r) (j := 2) (v := 0) (by omega)
            obtain ⟨mw149, h150⟩ : ∃ z, z = (mS mw146 r 2 0) := ⟨_, rfl⟩
            rw [← h150] at lf fr hx ⊢
            have e0 : mw149 0 0 = mw146 0 0 := by rw [h150, mS_a _ _ _ _ (by omega)]
            have rl : r ≤ mw149 0 0 := by rw [e0]; exact rl
            have l1 := lf.1
            have cn := fr.1
            have cs := fr.2.1
            refine And.intro (show 0 < r ∧ (mw149 r (-1)) = 7 by first | omega | (simp only [mS_iff, eq_self, Int.reduceEq, true_and, and_true, false_and, and_false, and_self, ↓reduceIte]; omega) | (simp only [mS_iff, eq_self, Int.reduceEq, true_and, and_true, false_and, and_false, and_self, ↓reduceIte] at *; omega)) ?_
            have lf := (lf.put 1).2.2.2.1
            have fr := fr.pl (x := r) (j := 3) (v := 1) (by omega) (by omega)
            have hx := hx.pl (x := r) (j := 3) (v := 1) (by omega)
            obtain ⟨mw151, h152⟩ : ∃ z, z = (mS mw149 r 3 1) := ⟨_, rfl⟩
            rw [← h152] at lf fr hx ⊢
            have e0 : mw151 0 0 = mw149 0 0 := by rw [h152, mS_a _ _ _ _ (by omega)]
            have rl : r ≤ mw151 0 0 := by rw [e0]; exact rl
            have l1 := lf.1
            have cn := fr.1
            have cs := fr.2.1
            refine And.intro (rfl) ?_
            refine ct_157 (by omega) hT hx (by omega) (fun h => absurd h nz) (fun _ => ?_)
            refine And.intro (fun _ => ?_) (fun h => absurd h (by decide))
            skip
            refine hQe _ _ _ _ (fr.mono (by omega) (by omega)) hx nz (by omega) (by omega) l1 ?_
            unfold p_lay1
            rw [if_neg (by omega), if_neg (by omega), if_neg (by omega)]
            rfl
      · refine And.intro (fun h153 => ?_) (fun h153 => ?_)
        · refine And.intro (rfl) ?_
          refine ct_158 (by omega) hT hx (fun _ h154 => ?_) (fun h154 => ?_)
          · have k3 := h154
            refine And.intro (fun _ => ?_) (fun h => absurd h (by decide))
            refine And.intro (rfl) ?_
            refine And.intro (fun _ => ?_) (fun h => absurd h (by have := hx.2.2.2.1; have := hx.2.2.2.2.1; omega))
            refine ct_51 (by omega) hT hx (by omega) (fun mw155 r157 q158 f159 p160 h161 h162 h163 h164 => ?_) (fun mw156 r157 q158 w165 h161 h162 h163 h164 => ?_)
            · have lf := lf.fr h161 (by omega)
              have l1 := lf.1
              have rl := Int.le_trans rl (h161).1.1
              have fr := fr.trans h161
              have hx := h162
              have nz := h163
              have cn := fr.1
              have cs := fr.2.1
              refine And.intro (show 0 < r ∧ (mw155 r (-1)) = 7 by first | omega | (simp only [mS_iff, eq_self, Int.reduceEq, true_and, and_true, false_and, and_false, and_self, ↓reduceIte]; omega) | (simp only [mS_iff, eq_self, Int.reduceEq, true_and, and_true, false_and, and_false, and_self, ↓reduceIte] at *; omega)) ?_
              have lf := (lf.put r157).2.2.1
              have fr := fr.pl (x := r) (j := 2) (v := r157) (by omega) (by omega)
              have hx := hx.pl (x := r) (j := 2) (v := r157) (by omega)
              obtain ⟨mw166, h167⟩ : ∃ z, z = (mS mw155 r 2 r157) := ⟨_, rfl⟩
              rw [← h167] at lf fr hx ⊢
              have e0 : mw166 0 0 = mw155 0 0 := by rw [h167, mS_a _ _ _ _ (by omega)]
              have rl : r ≤ mw166 0 0 := by rw [e0]; exact rl
              have l1 := lf.1
              have cn := fr.1
              have cs := fr.2.1
              refine And.intro (show 0 < r ∧ (mw166 r (-1)) = 7 by first | omega | (simp only [mS_iff, eq_self, Int.reduceEq, true_and, and_true, false_and, and_false, and_self, ↓reduceIte]; omega) | (simp only [mS_iff, eq_self, Int.reduceEq, true_and, and_true, false_and, and_false, and_self, ↓reduceIte] at *; omega)) ?_
              have lf := (lf.put 1).2.2.2.1
              have fr := fr.pl (x := r) (j := 3) (v := 1) (by omega) (by omega)
              have hx := hx.pl (x := r) (j := 3) (v := 1) (by omega)
              obtain ⟨mw168, h169⟩ : ∃ z, z = (mS mw166 r 3 1) := ⟨_, rfl⟩
              rw [← h169] at lf fr hx ⊢
              have e0 : mw168 0 0 = mw166 0 0 := by rw [h169, mS_a _ _ _ _ (by omega)]
              have rl : r ≤ mw168 0 0 := by rw [e0]; exact rl
              have l1 := lf.1
              have cn := fr.1
              have cs := fr.2.1
              refine And.intro (rfl) ?_
              refine ct_157 (by omega) hT hx (by omega) (fun h => absurd h nz) (fun _ => ?_)
              refine And.intro (fun _ => ?_) (fun h => absurd h (by decide))
              skip
              refine hQe _ _ _ _ (fr.mono (by omega) (by omega)) hx nz (by omega) (by omega) l1 ?_
              unfold p_lay1
              rw [if_neg (by omega), if_neg (by omega), if_pos (by omega)]
              exact p_bd_l (h164)
            · have gr := h164.gr (lo := lo) (by omega)
              have lf := lf.fr h161 (by omega)
              have l1 := lf.1
              have rl := Int.le_trans rl (h161).1.1
              have gk := p_grp_ok h163
              have fr := fr.trans h161
              have hx := h162
              have cn := fr.1
              have cs := fr.2.1
              refine And.intro (show 0 < r ∧ (mw156 r (-1)) = 7 by first | omega | (simp only [mS_iff, eq_self, Int.reduceEq, true_and, and_true, false_and, and_false, and_self, ↓reduceIte]; omega) | (simp only [mS_iff, eq_self, Int.reduceEq, true_and, and_true, false_and, and_false, and_self, ↓reduceIte] at *; omega)) ?_
              have gr := gr.pl (j := 2) (v := r157) lf.1 (by omega)
              have lf := (lf.put r157).2.2.1
              have fr := fr.pl (x := r) (j := 2) (v := r157) (by omega) (by omega)
              have hx := hx.pl (x := r) (j := 2) (v := r157) (by omega)
              obtain ⟨mw170, h171⟩ : ∃ z, z = (mS mw156 r 2 r157) := ⟨_, rfl⟩
              rw [← h171] at lf fr hx gr ⊢
              have e0 : mw170 0 0 = mw156 0 0 := by rw [h171, mS_a _ _ _ _ (by omega)]
              have rl : r ≤ mw170 0 0 := by rw [e0]; exact rl
              have l1 := lf.1
              have cn := fr.1
              have cs := fr.2.1
              refine And.intro (show 0 < r ∧ (mw170 r (-1)) = 7 by first | omega | (simp only [mS_iff, eq_self, Int.reduceEq, true_and, and_true, false_and, and_false, and_self, ↓reduceIte]; omega) | (simp only [mS_iff, eq_self, Int.reduceEq, true_and, and_true, false_and, and_false, and_self, ↓reduceIte] at *; omega)) ?_
              have gr := gr.pl (j := 3) (v := 1) lf.1 (by omega)
              have lf := (lf.put 1).2.2.2.1
              have fr := fr.pl (x := r) (j := 3) (v := 1) (by omega) (by omega)
              have hx := hx.pl (x := r) (j := 3) (v := 1) (by omega)
              obtain ⟨mw172, h173⟩ : ∃ z, z = (mS mw170 r 3 1) := ⟨_, rfl⟩
              rw [← h173] at lf fr hx gr ⊢
              have e0 : mw172 0 0 = mw170 0 0 := by rw [h173, mS_a _ _ _ _ (by omega)]
              have rl : r ≤ mw172 0 0 := by rw [e0]; exact rl
              have l1 := lf.1
              have cn := fr.1
              have cs := fr.2.1
              refine And.intro (rfl) ?_
              refine ct_157 (by omega) hT hx (by omega) (fun _ h174 mw175 h176 h177 => ?_) (fun h174 => ?_)
              · have lf := lf.fr (fr_t.P h176) (by omega)
                have l1 := lf.1
                have gr := gr.fr (fr_t.P h176) (by omega)
                have rl := Int.le_trans rl ((fr_t.P h176)).1.1
                have fr := fr.trans (fr_t.P h176)
                have hx := h177
                have cn := fr.1
                have cs := fr.2.1
                have k4 := h174
                refine And.intro (fun h => absurd h (by decide)) (fun _ => ?_)
                refine And.intro (rfl) ?_
                refine ct_157 (by omega) hT hx (by omega) (fun _ h178 mw179 h180 h181 => ?_) (fun h178 => ?_)
                · have lf := lf.fr (fr_t.P h180) (by omega)
                  have l1 := lf.1
                  have gr := gr.fr (fr_t.P h180) (by omega)
                  have rl := Int.le_trans rl ((fr_t.P h180)).1.1
                  have fr := fr.trans (fr_t.P h180)
                  have hx := h181
                  have cn := fr.1
                  have cs := fr.2.1
                  have k5 := h178
                  refine And.intro (fun h => absurd h (by decide)) (fun _ => ?_)
                  skip
                  refine And.intro (show 0 < r ∧ (mw179 r (-1)) = 7 by first | omega | (simp only [mS_iff, eq_self, Int.reduceEq, true_and, and_true, false_and, and_false, and_self, ↓reduceIte]; omega) | (simp only [mS_iff, eq_self, Int.reduceEq, true_and, and_true, false_and, and_false, and_self, ↓reduceIte] at *; omega)) ?_
                  have gr := gr.pl (j := 4) (v := 1) lf.1 (by omega)
                  have lf := (lf.put 1).2.2.2.2
                  have fr := fr.pl (x := r) (j := 4) (v := 1) (by omega) (by omega)
                  have hx := hx.pl (x := r) (j := 4) (v := 1) (by omega)
                  obtain ⟨mw182, h183⟩ : ∃ z, z = (mS mw179 r 4 1) := ⟨_, rfl⟩
                  rw [← h183] at lf fr hx gr ⊢
                  have e0 : mw182 0 0 = mw179 0 0 := by rw [h183, mS_a _ _ _ _ (by omega)]
                  have rl : r ≤ mw182 0 0 := by rw [e0]; exact rl
                  have l1 := lf.1
                  have cn := fr.1
                  have cs := fr.2.1
                  refine hQ _ _ (l_mk v 1 1 l_no w165) (fr.mono (by omega) (by omega)) hx ?_ ?_
                  · unfold p_lay1
                    rw [if_neg (by omega), if_neg (by omega), if_pos (by omega)]
                    rw [p_bd_r (h163)]
                    unfold p_part
                    rw [if_pos (by omega), if_pos (by omega), show q158 + 2 = q158 + 1 + 1 by omega]
                    rfl
                  · exact hLay.mk lf ⟨by omega, by omega⟩ hv (by simp [l_mk]) (by simp [l_mk]) (by simp [l_mk]) (Or.inl ⟨rfl, by unfold noOrd; simp [l_mk, l_no]⟩) (gr.grp gk (by simp [l_mk]) (by simp [l_mk]) (by simp [l_mk]) (by simp [l_mk]) (by simp [l_mk]) (by simp [l_mk])) (by simp [l_mk, l_no]) (by simp [l_mk])
                · have g5 := h178
                  refine And.intro (fun _ => ?_) (fun h => absurd h (by decide))
                  refine And.intro (rfl) ?_
                  refine ct_154 (by omega) hT hx (by omega) (by omega) (fun h => absurd rfl h) (fun _ h184 mw186 h188 h189 => ?_) (fun _ h184 mw187 h188 h189 => ?_)
                  · have lf := lf.fr (fr_t.P h188) (by omega)
                    have l1 := lf.1
                    have gr := gr.fr (fr_t.P h188) (by omega)
                    have rl := Int.le_trans rl ((fr_t.P h188)).1.1
                    have fr := fr.trans (fr_t.P h188)
                    have hx := h189
                    have cn := fr.1
                    have cs := fr.2.1
                    have k6 := h184
                    refine And.intro (show -2147483648 ≤ 2 + (K (q158 + 1) - 48) ∧ 2 + (K (q158 + 1) - 48) ≤ 2147483647 by first | omega | (simp only [mS_iff, eq_self, Int.reduceEq, true_and, and_true, false_and, and_false, and_self, ↓reduceIte]; omega) | (simp only [mS_iff, eq_self, Int.reduceEq, true_and, and_true, false_and, and_false, and_self, ↓reduceIte] at *; omega)) ?_
                    skip
                    refine And.intro (show 0 < r ∧ (mw186 r (-1)) = 7 by first | omega | (simp only [mS_iff, eq_self, Int.reduceEq, true_and, and_true, false_and, and_false, and_self, ↓reduceIte]; omega) | (simp only [mS_iff, eq_self, Int.reduceEq, true_and, and_true, false_and, and_false, and_self, ↓reduceIte] at *; omega)) ?_
                    have gr := gr.pl (j := 4) (v := (2 + (K (q158 + 1) - 48))) lf.1 (by omega)
                    have lf := (lf.put (2 + (K (q158 + 1) - 48))).2.2.2.2
                    have fr := fr.pl (x := r) (j := 4) (v := (2 + (K (q158 + 1) - 48))) (by omega) (by omega)
                    have hx := hx.pl (x := r) (j := 4) (v := (2 + (K (q158 + 1) - 48))) (by omega)
                    obtain ⟨mw190, h191⟩ : ∃ z, z = (mS mw186 r 4 (2 + (K (q158 + 1) - 48))) := ⟨_, rfl⟩
                    rw [← h191] at lf fr hx gr ⊢
                    have e0 : mw190 0 0 = mw186 0 0 := by rw [h191, mS_a _ _ _ _ (by omega)]
                    have rl : r ≤ mw190 0 0 := by rw [e0]; exact rl
                    have l1 := lf.1
                    have cn := fr.1
                    have cs := fr.2.1
                    refine hQ _ _ (l_mk v 1 (2 + (K (q158 + 1) - 48)) l_no w165) (fr.mono (by omega) (by omega)) hx ?_ ?_
                    · unfold p_lay1
                      rw [if_neg (by omega), if_neg (by omega), if_pos (by omega)]
                      rw [p_bd_r (h163)]
                      unfold p_part
                      rw [if_pos (by omega), if_neg (by omega)]
                      rw [p_bd_r (p_want_y (by omega))]
                      rfl
                    · exact hLay.mk lf ⟨by omega, by omega⟩ hv (by simp [l_mk]) (by simp [l_mk]) (by simp [l_mk]) (Or.inl ⟨rfl, by unfold noOrd; simp [l_mk, l_no]⟩) (gr.grp gk (by simp [l_mk]) (by simp [l_mk]) (by simp [l_mk]) (by simp [l_mk]) (by simp [l_mk]) (by simp [l_mk]; omega)) (by simp [l_mk, l_no]) (by simp [l_mk])
                  · have lf := lf.fr (fr_t.P h188) (by omega)
                    have l1 := lf.1
                    have gr := gr.fr (fr_t.P h188) (by omega)
                    have rl := Int.le_trans rl ((fr_t.P h188)).1.1
                    have fr := fr.trans (fr_t.P h188)
                    have hx := h189
                    have nz : x_wr (K (q158 + 1)) ≠ 0 := by unfold x_wr; omega
                    have er := h184
                    have cn := fr.1
                    have cs := fr.2.1
                    refine And.intro (show -2147483648 ≤ 2 + 0 ∧ 2 + 0 ≤ 2147483647 by first | omega | (simp only [mS_iff, eq_self, Int.reduceEq, true_and, and_true, false_and, and_false, and_self, ↓reduceIte]; omega) | (simp only [mS_iff, eq_self, Int.reduceEq, true_and, and_true, false_and, and_false, and_self, ↓reduceIte] at *; omega)) ?_
                    rw [show (2 : Int) + 0 = 2 from rfl]
                    refine And.intro (show 0 < r ∧ (mw187 r (-1)) = 7 by first | omega | (simp only [mS_iff, eq_self, Int.reduceEq, true_and, and_true, false_and, and_false, and_self, ↓reduceIte]; omega) | (simp only [mS_iff, eq_self, Int.reduceEq, true_and, and_true, false_and, and_false, and_self, ↓reduceIte] at *; omega)) ?_
                    have gr := gr.pl (j := 4) (v := 2) lf.1 (by omega)
                    have lf := (lf.put 2).2.2.2.2
                    have fr := fr.pl (x := r) (j := 4) (v := 2) (by omega) (by omega)
                    have hx := hx.pl (x := r) (j := 4) (v := 2) (by omega)
                    obtain ⟨mw192, h193⟩ : ∃ z, z = (mS mw187 r 4 2) := ⟨_, rfl⟩
                    rw [← h193] at lf fr hx gr ⊢
                    have e0 : mw192 0 0 = mw187 0 0 := by rw [h193, mS_a _ _ _ _ (by omega)]
                    have rl : r ≤ mw192 0 0 := by rw [e0]; exact rl
                    have l1 := lf.1
                    have cn := fr.1
                    have cs := fr.2.1
                    refine hQe _ _ _ _ (fr.mono (by omega) (by omega)) hx nz (by omega) (by omega) l1 ?_
                    unfold p_lay1
                    rw [if_neg (by omega), if_neg (by omega), if_pos (by omega)]
                    rw [p_bd_r (h163)]
                    unfold p_part
                    rw [if_pos (by omega), if_neg (by omega)]
                    rw [p_bd_l (p_want_n (by omega))]
                    rfl
              · have g4 := h174
                refine And.intro (fun _ => ?_) (fun h => absurd h (by decide))
                skip
                refine hQ _ _ (l_mk v 1 0 l_no w165) (fr.mono (by omega) (by omega)) hx ?_ ?_
                · unfold p_lay1
                  rw [if_neg (by omega), if_neg (by omega), if_pos (by omega)]
                  rw [p_bd_r (h163)]
                  unfold p_part
                  rw [if_neg (by omega)]
                  rfl
                · exact hLay.mk lf ⟨by omega, by omega⟩ hv (by simp [l_mk]) (by simp [l_mk]) (by simp [l_mk]) (Or.inl ⟨rfl, by unfold noOrd; simp [l_mk, l_no]⟩) (gr.grp gk (by simp [l_mk]) (by simp [l_mk]) (by simp [l_mk]) (by simp [l_mk]) (by simp [l_mk]) (by simp [l_mk])) (by simp [l_mk, l_no]) (by simp [l_mk])
          · have g3 := h154
            refine And.intro (fun h => absurd h (by decide)) (fun _ => ?_)
            refine And.intro (rfl) ?_
            refine ct_158 (by omega) hT hx (fun _ h194 => ?_) (fun h194 => ?_)
            · have k4 := h194
              refine And.intro (fun _ => ?_) (fun h => absurd h (by decide))
              refine And.intro (rfl) ?_
              refine And.intro (fun _ => ?_) (fun h => absurd h (by have := hx.2.2.2.1; have := hx.2.2.2.2.1; omega))
              refine ct_51 (by omega) hT hx (by omega) (fun mw195 r197 q198 f199 p200 h201 h202 h203 h204 => ?_) (fun mw196 r197 q198 w205 h201 h202 h203 h204 => ?_)
              · have lf := lf.fr h201 (by omega)
                have l1 := lf.1
                have rl := Int.le_trans rl (h201).1.1
                have fr := fr.trans h201
                have hx := h202
                have nz := h203
                have cn := fr.1
                have cs := fr.2.1
                refine And.intro (show 0 < r ∧ (mw195 r (-1)) = 7 by first | omega | (simp only [mS_iff, eq_self, Int.reduceEq, true_and, and_true, false_and, and_false, and_self, ↓reduceIte]; omega) | (simp only [mS_iff, eq_self, Int.reduceEq, true_and, and_true, false_and, and_false, and_self, ↓reduceIte] at *; omega)) ?_
                have lf := (lf.put r197).2.2.1
                have fr := fr.pl (x := r) (j := 2) (v := r197) (by omega) (by omega)
                have hx := hx.pl (x := r) (j := 2) (v := r197) (by omega)
                obtain ⟨mw206, h207⟩ : ∃ z, z = (mS mw195 r 2 r197) := ⟨_, rfl⟩
                rw [← h207] at lf fr hx ⊢
                have e0 : mw206 0 0 = mw195 0 0 := by rw [h207, mS_a _ _ _ _ (by omega)]
                have rl : r ≤ mw206 0 0 := by rw [e0]; exact rl
                have l1 := lf.1
                have cn := fr.1
                have cs := fr.2.1
                refine And.intro (show 0 < r ∧ (mw206 r (-1)) = 7 by first | omega | (simp only [mS_iff, eq_self, Int.reduceEq, true_and, and_true, false_and, and_false, and_self, ↓reduceIte]; omega) | (simp only [mS_iff, eq_self, Int.reduceEq, true_and, and_true, false_and, and_false, and_self, ↓reduceIte] at *; omega)) ?_
                have lf := (lf.put 1).2.2.2.1
                have fr := fr.pl (x := r) (j := 3) (v := 1) (by omega) (by omega)
                have hx := hx.pl (x := r) (j := 3) (v := 1) (by omega)
                obtain ⟨mw208, h209⟩ : ∃ z, z = (mS mw206 r 3 1) := ⟨_, rfl⟩
                rw [← h209] at lf fr hx ⊢
                have e0 : mw208 0 0 = mw206 0 0 := by rw [h209, mS_a _ _ _ _ (by omega)]
                have rl : r ≤ mw208 0 0 := by rw [e0]; exact rl
                have l1 := lf.1
                have cn := fr.1
                have cs := fr.2.1
                refine And.intro (rfl) ?_
                refine ct_157 (by omega) hT hx (by omega) (fun h => absurd h nz) (fun _ => ?_)
                refine And.intro (fun _ => ?_) (fun h => absurd h (by decide))
                skip
                refine hQe _ _ _ _ (fr.mono (by omega) (by omega)) hx nz (by omega) (by omega) l1 ?_
                unfold p_lay1
                rw [if_neg (by omega), if_neg (by omega), if_pos (by omega)]
                exact p_bd_l (h204)
              · have gr := h204.gr (lo := lo) (by omega)
                have lf := lf.fr h201 (by omega)
                have l1 := lf.1
                have rl := Int.le_trans rl (h201).1.1
                have gk := p_grp_ok h203
                have fr := fr.trans h201
                have hx := h202
                have cn := fr.1
                have cs := fr.2.1
                refine And.intro (show 0 < r ∧ (mw196 r (-1)) = 7 by first | omega | (simp only [mS_iff, eq_self, Int.reduceEq, true_and, and_true, false_and, and_false, and_self, ↓reduceIte]; omega) | (simp only [mS_iff, eq_self, Int.reduceEq, true_and, and_true, false_and, and_false, and_self, ↓reduceIte] at *; omega)) ?_
                have gr := gr.pl (j := 2) (v := r197) lf.1 (by omega)
                have lf := (lf.put r197).2.2.1
                have fr := fr.pl (x := r) (j := 2) (v := r197) (by omega) (by omega)
                have hx := hx.pl (x := r) (j := 2) (v := r197) (by omega)
                obtain ⟨mw210, h211⟩ : ∃ z, z = (mS mw196 r 2 r197) := ⟨_, rfl⟩
                rw [← h211] at lf fr hx gr ⊢
                have e0 : mw210 0 0 = mw196 0 0 := by rw [h211, mS_a _ _ _ _ (by omega)]
                have rl : r ≤ mw210 0 0 := by rw [e0]; exact rl
                have l1 := lf.1
                have cn := fr.1
                have cs := fr.2.1
                refine And.intro (show 0 < r ∧ (mw210 r (-1)) = 7 by first | omega | (simp only [mS_iff, eq_self, Int.reduceEq, true_and, and_true, false_and, and_false, and_self, ↓reduceIte]; omega) | (simp only [mS_iff, eq_self, Int.reduceEq, true_and, and_true, false_and, and_false, and_self, ↓reduceIte] at *; omega)) ?_
                have gr := gr.pl (j := 3) (v := 1) lf.1 (by omega)
                have lf := (lf.put 1).2.2.2.1
                have fr := fr.pl (x := r) (j := 3) (v := 1) (by omega) (by omega)
                have hx := hx.pl (x := r) (j := 3) (v := 1) (by omega)
                obtain ⟨mw212, h213⟩ : ∃ z, z = (mS mw210 r 3 1) := ⟨_, rfl⟩
                rw [← h213] at lf fr hx gr ⊢
                have e0 : mw212 0 0 = mw210 0 0 := by rw [h213, mS_a _ _ _ _ (by omega)]
                have rl : r ≤ mw212 0 0 := by rw [e0]; exact rl
                have l1 := lf.1
                have cn := fr.1
                have cs := fr.2.1
                refine And.intro (rfl) ?_
                refine ct_157 (by omega) hT hx (by omega) (fun _ h214 mw215 h216 h217 => ?_) (fun h214 => ?_)
                · have lf := lf.fr (fr_t.P h216) (by omega)
                  have l1 := lf.1
                  have gr := gr.fr (fr_t.P h216) (by omega)
                  have rl := Int.le_trans rl ((fr_t.P h216)).1.1
                  have fr := fr.trans (fr_t.P h216)
                  have hx := h217
                  have cn := fr.1
                  have cs := fr.2.1
                  have k5 := h214
                  refine And.intro (fun h => absurd h (by decide)) (fun _ => ?_)
                  refine And.intro (rfl) ?_
                  refine ct_157 (by omega) hT hx (by omega) (fun _ h218 mw219 h220 h221 => ?_) (fun h218 => ?_)
                  · have lf := lf.fr (fr_t.P h220) (by omega)
                    have l1 := lf.1
                    have gr := gr.fr (fr_t.P h220) (by omega)
                    have rl := Int.le_trans rl ((fr_t.P h220)).1.1
                    have fr := fr.trans (fr_t.P h220)
                    have hx := h221
                    have cn := fr.1
                    have cs := fr.2.1
                    have k6 := h218
                    refine And.intro (fun h => absurd h (by decide)) (fun _ => ?_)
                    skip
                    refine And.intro (show 0 < r ∧ (mw219 r (-1)) = 7 by first | omega | (simp only [mS_iff, eq_self, Int.reduceEq, true_and, and_true, false_and, and_false, and_self, ↓reduceIte]; omega) | (simp only [mS_iff, eq_self, Int.reduceEq, true_and, and_true, false_and, and_false, and_self, ↓reduceIte] at *; omega)) ?_
                    have gr := gr.pl (j := 4) (v := 1) lf.1 (by omega)
                    have lf := (lf.put 1).2.2.2.2
                    have fr := fr.pl (x := r) (j := 4) (v := 1) (by omega) (by omega)
                    have hx := hx.pl (x := r) (j := 4) (v := 1) (by omega)
                    obtain ⟨mw222, h223⟩ : ∃ z, z = (mS mw219 r 4 1) := ⟨_, rfl⟩
                    rw [← h223] at lf fr hx gr ⊢
                    have e0 : mw222 0 0 = mw219 0 0 := by rw [h223, mS_a _ _ _ _ (by omega)]
                    have rl : r ≤ mw222 0 0 := by rw [e0]; exact rl
                    have l1 := lf.1
                    have cn := fr.1
                    have cs := fr.2.1
                    refine hQ _ _ (l_mk v 1 1 l_no w205) (fr.mono (by omega) (by omega)) hx ?_ ?_
                    · unfold p_lay1
                      rw [if_neg (by omega), if_neg (by omega), if_pos (by omega)]
                      rw [p_bd_r (h203)]
                      unfold p_part
                      rw [if_pos (by omega), if_pos (by omega), show q198 + 2 = q198 + 1 + 1 by omega]
                      rfl
                    · exact hLay.mk lf ⟨by omega, by omega⟩ hv (by simp [l_mk]) (by simp [l_mk]) (by simp [l_mk]) (Or.inl ⟨rfl, by unfold noOrd; simp [l_mk, l_no]⟩) (gr.grp gk (by simp [l_mk]) (by simp [l_mk]) (by simp [l_mk]) (by simp [l_mk]) (by simp [l_mk]) (by simp [l_mk])) (by simp [l_mk, l_no]) (by simp [l_mk])
                  · have g6 := h218
                    refine And.intro (fun _ => ?_) (fun h => absurd h (by decide))
                    refine And.intro (rfl) ?_
                    refine ct_154 (by omega) hT hx (by omega) (by omega) (fun h => absurd rfl h) (fun _ h224 mw226 h228 h229 => ?_) (fun _ h224 mw227 h228 h229 => ?_)
                    · have lf := lf.fr (fr_t.P h228) (by omega)
                      have l1 := lf.1
                      have gr := gr.fr (fr_t.P h228) (by omega)
                      have rl := Int.le_trans rl ((fr_t.P h228)).1.1
                      have fr := fr.trans (fr_t.P h228)
                      have hx := h229
                      have cn := fr.1
                      have cs := fr.2.1
                      have k7 := h224
                      refine And.intro (show -2147483648 ≤ 2 + (K (q198 + 1) - 48) ∧ 2 + (K (q198 + 1) - 48) ≤ 2147483647 by first | omega | (simp only [mS_iff, eq_self, Int.reduceEq, true_and, and_true, false_and, and_false, and_self, ↓reduceIte]; omega) | (simp only [mS_iff, eq_self, Int.reduceEq, true_and, and_true, false_and, and_false, and_self, ↓reduceIte] at *; omega)) ?_
                      skip
                      refine And.intro (show 0 < r ∧ (mw226 r (-1)) = 7 by first | omega | (simp only [mS_iff, eq_self, Int.reduceEq, true_and, and_true, false_and, and_false, and_self, ↓reduceIte]; omega) | (simp only [mS_iff, eq_self, Int.reduceEq, true_and, and_true, false_and, and_false, and_self, ↓reduceIte] at *; omega)) ?_
                      have gr := gr.pl (j := 4) (v := (2 + (K (q198 + 1) - 48))) lf.1 (by omega)
                      have lf := (lf.put (2 + (K (q198 + 1) - 48))).2.2.2.2
                      have fr := fr.pl (x := r) (j := 4) (v := (2 + (K (q198 + 1) - 48))) (by omega) (by omega)
                      have hx := hx.pl (x := r) (j := 4) (v := (2 + (K (q198 + 1) - 48))) (by omega)
                      obtain ⟨mw230, h231⟩ : ∃ z, z = (mS mw226 r 4 (2 + (K (q198 + 1) - 48))) := ⟨_, rfl⟩
                      rw [← h231] at lf fr hx gr ⊢
                      have e0 : mw230 0 0 = mw226 0 0 := by rw [h231, mS_a _ _ _ _ (by omega)]
                      have rl : r ≤ mw230 0 0 := by rw [e0]; exact rl
                      have l1 := lf.1
                      have cn := fr.1
                      have cs := fr.2.1
                      refine hQ _ _ (l_mk v 1 (2 + (K (q198 + 1) - 48)) l_no w205) (fr.mono (by omega) (by omega)) hx ?_ ?_
                      · unfold p_lay1
                        rw [if_neg (by omega), if_neg (by omega), if_pos (by omega)]
                        rw [p_bd_r (h203)]
                        unfold p_part
                        rw [if_pos (by omega), if_neg (by omega)]
                        rw [p_bd_r (p_want_y (by omega))]
                        rfl
                      · exact hLay.mk lf ⟨by omega, by omega⟩ hv (by simp [l_mk]) (by simp [l_mk]) (by simp [l_mk]) (Or.inl ⟨rfl, by unfold noOrd; simp [l_mk, l_no]⟩) (gr.grp gk (by simp [l_mk]) (by simp [l_mk]) (by simp [l_mk]) (by simp [l_mk]) (by simp [l_mk]) (by simp [l_mk]; omega)) (by simp [l_mk, l_no]) (by simp [l_mk])
                    · have lf := lf.fr (fr_t.P h228) (by omega)
                      have l1 := lf.1
                      have gr := gr.fr (fr_t.P h228) (by omega)
                      have rl := Int.le_trans rl ((fr_t.P h228)).1.1
                      have fr := fr.trans (fr_t.P h228)
                      have hx := h229
                      have nz : x_wr (K (q198 + 1)) ≠ 0 := by unfold x_wr; omega
                      have er := h224
                      have cn := fr.1
                      have cs := fr.2.1
                      refine And.intro (show -2147483648 ≤ 2 + 0 ∧ 2 + 0 ≤ 2147483647 by first | omega | (simp only [mS_iff, eq_self, Int.reduceEq, true_and, and_true, false_and, and_false, and_self, ↓reduceIte]; omega) | (simp only [mS_iff, eq_self, Int.reduceEq, true_and, and_true, false_and, and_false, and_self, ↓reduceIte] at *; omega)) ?_
                      rw [show (2 : Int) + 0 = 2 from rfl]
                      refine And.intro (show 0 < r ∧ (mw227 r (-1)) = 7 by first | omega | (simp only [mS_iff, eq_self, Int.reduceEq, true_and, and_true, false_and, and_false, and_self, ↓reduceIte]; omega) | (simp only [mS_iff, eq_self, Int.reduceEq, true_and, and_true, false_and, and_false, and_self, ↓reduceIte] at *; omega)) ?_
                      have gr := gr.pl (j := 4) (v := 2) lf.1 (by omega)
                      have lf := (lf.put 2).2.2.2.2
                      have fr := fr.pl (x := r) (j := 4) (v := 2) (by omega) (by omega)
                      have hx := hx.pl (x := r) (j := 4) (v := 2) (by omega)
                      obtain ⟨mw232, h233⟩ : ∃ z, z = (mS mw227 r 4 2) := ⟨_, rfl⟩
                      rw [← h233] at lf fr hx gr ⊢
                      have e0 : mw232 0 0 = mw227 0 0 := by rw [h233, mS_a _ _ _ _ (by omega)]
                      have rl : r ≤ mw232 0 0 := by rw [e0]; exact rl
                      have l1 := lf.1
                      have cn := fr.1
                      have cs := fr.2.1
                      refine hQe _ _ _ _ (fr.mono (by omega) (by omega)) hx nz (by omega) (by omega) l1 ?_
                      unfold p_lay1
                      rw [if_neg (by omega), if_neg (by omega), if_pos (by omega)]
                      rw [p_bd_r (h203)]
                      unfold p_part
                      rw [if_pos (by omega), if_neg (by omega)]
                      rw [p_bd_l (p_want_n (by omega))]
                      rfl
                · have g5 := h214
                  refine And.intro (fun _ => ?_) (fun h => absurd h (by decide))
                  skip
                  refine hQ _ _ (l_mk v 1 0 l_no w205) (fr.mono (by omega) (by omega)) hx ?_ ?_
                  · unfold p_lay1
                    rw [if_neg (by omega), if_neg (by omega), if_pos (by omega)]
                    rw [p_bd_r (h203)]
                    unfold p_part
                    rw [if_neg (by omega)]
                    rfl
                  · exact hLay.mk lf ⟨by omega, by omega⟩ hv (by simp [l_mk]) (by simp [l_mk]) (by simp [l_mk]) (Or.inl ⟨rfl, by unfold noOrd; simp [l_mk, l_no]⟩) (gr.grp gk (by simp [l_mk]) (by simp [l_mk]) (by simp [l_mk]) (by simp [l_mk]) (by simp [l_mk]) (by simp [l_mk])) (by simp [l_mk, l_no]) (by simp [l_mk])
            · have g4 := h194
              refine And.intro (fun h => absurd h (by decide)) (fun _ => ?_)
              refine And.intro (rfl) ?_
              refine ct_155 (by omega) hT hx (fun mw234 h235 h236 => ?_)
              have lf := lf.fr (fr_t.P h235) (by omega)
              have l1 := lf.1
              have rl := Int.le_trans rl ((fr_t.P h235)).1.1
              have fr := fr.trans (fr_t.P h235)
              have hx : hTx mw234 K A V N q (x_wr (K q)) (A q) := h236
              have nz : x_wr (K q) ≠ 0 := by unfold x_wr; omega
              have cn := fr.1
              have cs := fr.2.1
              refine And.intro (rfl) ?_
              refine And.intro (fun h => absurd h (by have := hx.2.2.2.1; have := hx.2.2.2.2.1; omega)) (fun _ => ?_)
              refine And.intro (show 0 < r ∧ (mw234 r (-1)) = 7 by first | omega | (simp only [mS_iff, eq_self, Int.reduceEq, true_and, and_true, false_and, and_false, and_self, ↓reduceIte]; omega) | (simp only [mS_iff, eq_self, Int.reduceEq, true_and, and_true, false_and, and_false, and_self, ↓reduceIte] at *; omega)) ?_
              have lf := (lf.put 0).2.2.1
              have fr := fr.pl (x := r) (j := 2) (v := 0) (by omega) (by omega)
              have hx := hx.pl (x := r) (j := 2) (v := 0) (by omega)
              obtain ⟨mw237, h238⟩ : ∃ z, z = (mS mw234 r 2 0) := ⟨_, rfl⟩
              rw [← h238] at lf fr hx ⊢
              have e0 : mw237 0 0 = mw234 0 0 := by rw [h238, mS_a _ _ _ _ (by omega)]
              have rl : r ≤ mw237 0 0 := by rw [e0]; exact rl
              have l1 := lf.1
              have cn := fr.1
              have cs := fr.2.1
              refine And.intro (show 0 < r ∧ (mw237 r (-1)) = 7 by first | omega | (simp only [mS_iff, eq_self, Int.reduceEq, true_and, and_true, false_and, and_false, and_self, ↓reduceIte]; omega) | (simp only [mS_iff, eq_self, Int.reduceEq, true_and, and_true, false_and, and_false, and_self, ↓reduceIte] at *; omega)) ?_
              have lf := (lf.put 1).2.2.2.1
              have fr := fr.pl (x := r) (j := 3) (v := 1) (by omega) (by omega)
              have hx := hx.pl (x := r) (j := 3) (v := 1) (by omega)
              obtain ⟨mw239, h240⟩ : ∃ z, z = (mS mw237 r 3 1) := ⟨_, rfl⟩
              rw [← h240] at lf fr hx ⊢
              have e0 : mw239 0 0 = mw237 0 0 := by rw [h240, mS_a _ _ _ _ (by omega)]
              have rl : r ≤ mw239 0 0 := by rw [e0]; exact rl
              have l1 := lf.1
              have cn := fr.1
              have cs := fr.2.1
              refine And.intro (rfl) ?_
              refine ct_157 (by omega) hT hx (by omega) (fun h => absurd h nz) (fun _ => ?_)
              refine And.intro (fun _ => ?_) (fun h => absurd h (by decide))
              skip
              refine hQe _ _ _ _ (fr.mono (by omega) (by omega)) hx nz (by omega) (by omega) l1 ?_
              unfold p_lay1
              rw [if_neg (by omega), if_neg (by omega), if_neg (by omega)]
              rfl
        · refine And.intro (rfl) ?_
          refine ct_159 (by omega) hT hx (by omega) (fun h => absurd rfl h) (fun _ h241 mw243 h245 h246 => ?_) (fun _ h241 mw244 h245 h246 => ?_)
          · have lf := lf.fr (fr_t.P h245) (by omega)
            have l1 := lf.1
            have rl := Int.le_trans rl ((fr_t.P h245)).1.1
            have fr := fr.trans (fr_t.P h245)
            have hx := h246
            have cn := fr.1
            have cs := fr.2.1
            have k3 := h241
            refine ct_50 (by omega) hT hx (by omega) hcb (fun mw247 r249 q250 f251 p252 h253 h254 h255 h256 => ?_) (fun mw248 r249 q250 w257 h253 h254 h255 h256 => ?_)
            · have lf := lf.fr h253 (by omega)
              have l1 := lf.1
              have rl := Int.le_trans rl (h253).1.1
              have fr := fr.trans h253
              have hx := h254
              have nz := h255
              have cn := fr.1
              have cs := fr.2.1
              refine And.intro (show 0 < r ∧ (mw247 r (-1)) = 7 by first | omega | (simp only [mS_iff, eq_self, Int.reduceEq, true_and, and_true, false_and, and_false, and_self, ↓reduceIte]; omega) | (simp only [mS_iff, eq_self, Int.reduceEq, true_and, and_true, false_and, and_false, and_self, ↓reduceIte] at *; omega)) ?_
              have lf := (lf.put r249).2.1
              have fr := fr.pl (x := r) (j := 1) (v := r249) (by omega) (by omega)
              have hx := hx.pl (x := r) (j := 1) (v := r249) (by omega)
              obtain ⟨mw258, h259⟩ : ∃ z, z = (mS mw247 r 1 r249) := ⟨_, rfl⟩
              rw [← h259] at lf fr hx ⊢
              have e0 : mw258 0 0 = mw247 0 0 := by rw [h259, mS_a _ _ _ _ (by omega)]
              have rl : r ≤ mw258 0 0 := by rw [e0]; exact rl
              have l1 := lf.1
              have cn := fr.1
              have cs := fr.2.1
              refine And.intro (rfl) ?_
              refine ct_157 (by omega) hT hx (by omega) (fun h => absurd h nz) (fun _ => ?_)
              refine And.intro (fun _ => ?_) (fun h => absurd h (by decide))
              skip
              refine hQe _ _ _ _ (fr.mono (by omega) (by omega)) hx nz (by omega) (by omega) l1 ?_
              unfold p_lay1
              rw [if_neg (by omega), if_pos (by omega)]
              exact p_bd_l (h256)
            · have od := h256.ord (lo := lo) (p_ord_ok h255) (by omega)
              have lf := lf.fr h253 (by omega)
              have l1 := lf.1
              have rl := Int.le_trans rl (h253).1.1
              have ok1 : 0 ≤ w257 1 := by have := (p_ord_ok h255).1; simpa using this
              have fr := fr.trans h253
              have hx := h254
              have cn := fr.1
              have cs := fr.2.1
              refine And.intro (show 0 < r ∧ (mw248 r (-1)) = 7 by first | omega | (simp only [mS_iff, eq_self, Int.reduceEq, true_and, and_true, false_and, and_false, and_self, ↓reduceIte]; omega) | (simp only [mS_iff, eq_self, Int.reduceEq, true_and, and_true, false_and, and_false, and_self, ↓reduceIte] at *; omega)) ?_
              have od := od.pl (j := 1) (v := r249) lf.1
              have lf := (lf.put r249).2.1
              have fr := fr.pl (x := r) (j := 1) (v := r249) (by omega) (by omega)
              have hx := hx.pl (x := r) (j := 1) (v := r249) (by omega)
              obtain ⟨mw260, h261⟩ : ∃ z, z = (mS mw248 r 1 r249) := ⟨_, rfl⟩
              rw [← h261] at lf fr hx od ⊢
              have e0 : mw260 0 0 = mw248 0 0 := by rw [h261, mS_a _ _ _ _ (by omega)]
              rw [← e0] at od
              have rl : r ≤ mw260 0 0 := by rw [e0]; exact rl
              have l1 := lf.1
              have cn := fr.1
              have cs := fr.2.1
              refine And.intro (rfl) ?_
              refine ct_157 (by omega) hT hx (by omega) (fun _ h262 mw263 h264 h265 => ?_) (fun h262 => ?_)
              · have lf := lf.fr (fr_t.P h264) (by omega)
                have l1 := lf.1
                have od := od.fr (fr_t.P h264) (by omega)
                have rl := Int.le_trans rl ((fr_t.P h264)).1.1
                have fr := fr.trans (fr_t.P h264)
                have hx := h265
                have cn := fr.1
                have cs := fr.2.1
                have k4 := h262
                refine And.intro (fun h => absurd h (by decide)) (fun _ => ?_)
                refine ct_51 (by omega) hT hx (by omega) (fun mw266 r268 q269 f270 p271 h272 h273 h274 h275 => ?_) (fun mw267 r268 q269 w276 h272 h273 h274 h275 => ?_)
                · have lf := lf.fr h272 (by omega)
                  have l1 := lf.1
                  have od := od.fr h272 (by omega)
                  have rl := Int.le_trans rl (h272).1.1
                  have fr := fr.trans h272
                  have hx := h273
                  have nz := h274
                  have cn := fr.1
                  have cs := fr.2.1
                  refine And.intro (show 0 < r ∧ (mw266 r (-1)) = 7 by first | omega | (simp only [mS_iff, eq_self, Int.reduceEq, true_and, and_true, false_and, and_false, and_self, ↓reduceIte]; omega) | (simp only [mS_iff, eq_self, Int.reduceEq, true_and, and_true, false_and, and_false, and_self, ↓reduceIte] at *; omega)) ?_
                  have od := od.pl (j := 2) (v := r268) lf.1
                  have lf := (lf.put r268).2.2.1
                  have fr := fr.pl (x := r) (j := 2) (v := r268) (by omega) (by omega)
                  have hx := hx.pl (x := r) (j := 2) (v := r268) (by omega)
                  obtain ⟨mw277, h278⟩ : ∃ z, z = (mS mw266 r 2 r268) := ⟨_, rfl⟩
                  rw [← h278] at lf fr hx od ⊢
                  have e0 : mw277 0 0 = mw266 0 0 := by rw [h278, mS_a _ _ _ _ (by omega)]
                  rw [← e0] at od
                  have rl : r ≤ mw277 0 0 := by rw [e0]; exact rl
                  have l1 := lf.1
                  have cn := fr.1
                  have cs := fr.2.1
                  refine And.intro (show 0 < r ∧ (mw277 r (-1)) = 7 by first | omega | (simp only [mS_iff, eq_self, Int.reduceEq, true_and, and_true, false_and, and_false, and_self, ↓reduceIte]; omega) | (simp only [mS_iff, eq_self, Int.reduceEq, true_and, and_true, false_and, and_false, and_self, ↓reduceIte] at *; omega)) ?_
                  have od := od.pl (j := 3) (v := 2) lf.1
                  have lf := (lf.put 2).2.2.2.1
                  have fr := fr.pl (x := r) (j := 3) (v := 2) (by omega) (by omega)
                  have hx := hx.pl (x := r) (j := 3) (v := 2) (by omega)
                  obtain ⟨mw279, h280⟩ : ∃ z, z = (mS mw277 r 3 2) := ⟨_, rfl⟩
                  rw [← h280] at lf fr hx od ⊢
                  have e0 : mw279 0 0 = mw277 0 0 := by rw [h280, mS_a _ _ _ _ (by omega)]
                  rw [← e0] at od
                  have rl : r ≤ mw279 0 0 := by rw [e0]; exact rl
                  have l1 := lf.1
                  have cn := fr.1
                  have cs := fr.2.1
                  skip
                  refine hQe _ _ _ _ (fr.mono (by omega) (by omega)) hx nz (by omega) (by omega) l1 ?_
                  unfold p_lay1
                  rw [if_neg (by omega), if_pos (by omega)]
                  rw [p_bd_r (h255)]
                  rw [if_pos (by omega)]
                  exact p_bd_l (h275)
                · have gr := h275.gr (lo := lo) (by omega)
                  have lf := lf.fr h272 (by omega)
                  have l1 := lf.1
                  have od := od.fr h272 (by omega)
                  have rl := Int.le_trans rl (h272).1.1
                  have gk := p_grp_ok h274
                  have fr := fr.trans h272
                  have hx := h273
                  have cn := fr.1
                  have cs := fr.2.1
                  refine And.intro (show 0 < r ∧ (mw267 r (-1)) = 7 by first | omega | (simp only [mS_iff, eq_self, Int.reduceEq, true_and, and_true, false_and, and_false, and_self, ↓reduceIte]; omega) | (simp only [mS_iff, eq_self, Int.reduceEq, true_and, and_true, false_and, and_false, and_self, ↓reduceIte] at *; omega)) ?_
                  have od := od.pl (j := 2) (v := r268) lf.1
                  have gr := gr.pl (j := 2) (v := r268) lf.1 (by omega)
                  have lf := (lf.put r268).2.2.1
                  have fr := fr.pl (x := r) (j := 2) (v := r268) (by omega) (by omega)
                  have hx := hx.pl (x := r) (j := 2) (v := r268) (by omega)
                  obtain ⟨mw281, h282⟩ : ∃ z, z = (mS mw267 r 2 r268) := ⟨_, rfl⟩
                  rw [← h282] at lf fr hx od gr ⊢
                  have e0 : mw281 0 0 = mw267 0 0 := by rw [h282, mS_a _ _ _ _ (by omega)]
                  rw [← e0] at od
                  have rl : r ≤ mw281 0 0 := by rw [e0]; exact rl
                  have l1 := lf.1
                  have cn := fr.1
                  have cs := fr.2.1
                  refine And.intro (show 0 < r ∧ (mw281 r (-1)) = 7 by first | omega | (simp only [mS_iff, eq_self, Int.reduceEq, true_and, and_true, false_and, and_false, and_self, ↓reduceIte]; omega) | (simp only [mS_iff, eq_self, Int.reduceEq, true_and, and_true, false_and, and_false, and_self, ↓reduceIte] at *; omega)) ?_
                  have od := od.pl (j := 3) (v := 2) lf.1
                  have gr := gr.pl (j := 3) (v := 2) lf.1 (by omega)
                  have lf := (lf.put 2).2.2.2.1
                  have fr := fr.pl (x := r) (j := 3) (v := 2) (by omega) (by omega)
                  have hx := hx.pl (x := r) (j := 3) (v := 2) (by omega)
                  obtain ⟨mw283, h284⟩ : ∃ z, z = (mS mw281 r 3 2) := ⟨_, rfl⟩
                  rw [← h284] at lf fr hx od gr ⊢
                  have e0 : mw283 0 0 = mw281 0 0 := by rw [h284, mS_a _ _ _ _ (by omega)]
                  rw [← e0] at od
                  have rl : r ≤ mw283 0 0 := by rw [e0]; exact rl
                  have l1 := lf.1
                  have cn := fr.1
                  have cs := fr.2.1
                  skip
                  refine hQ _ _ (l_mk v 2 0 w257 w276) (fr.mono (by omega) (by omega)) hx ?_ ?_
                  · unfold p_lay1
                    rw [if_neg (by omega), if_pos (by omega)]
                    rw [p_bd_r (h255)]
                    rw [if_pos (by omega)]
                    rw [p_bd_r (h274)]
                  · exact hLay.mk lf ⟨by omega, by omega⟩ hv (by simp [l_mk]) (by simp [l_mk]) (by simp [l_mk]) (od.cg (by simp [l_mk]) (by simp [l_mk]) (by simp [l_mk])) (gr.grp gk (by simp [l_mk]) (by simp [l_mk]) (by simp [l_mk]) (by simp [l_mk]) (by simp [l_mk]) (by simp [l_mk])) (by simp [l_mk]; omega) (by simp [l_mk])
              · have g4 := h262
                refine And.intro (fun _ => ?_) (fun h => absurd h (by decide))
                skip
                refine hQ _ _ (l_mk v 0 0 w257 l_no) (fr.mono (by omega) (by omega)) hx ?_ ?_
                · unfold p_lay1
                  rw [if_neg (by omega), if_pos (by omega)]
                  rw [p_bd_r (h255)]
                  rw [if_neg (by omega)]
                · exact hLay.mk lf ⟨by omega, by omega⟩ hv (by simp [l_mk]) (by simp [l_mk]) (by simp [l_mk]) (od.cg (by simp [l_mk]) (by simp [l_mk]) (by simp [l_mk])) (Or.inl ⟨rfl, by unfold noGrp; simp [l_mk, l_no]⟩) (by simp [l_mk]; omega) (by simp [l_mk])
          · have lf := lf.fr (fr_t.P h245) (by omega)
            have l1 := lf.1
            have rl := Int.le_trans rl ((fr_t.P h245)).1.1
            have fr := fr.trans (fr_t.P h245)
            have hx := h246
            have nz : x_wr (K q) ≠ 0 := by unfold x_wr; omega
            have er := h241
            have cn := fr.1
            have cs := fr.2.1
            refine ct_50f (by omega) hT hx nz (by omega) (fun mw285 r286 h287 h288 h289 h290 h291 => ?_)
            have lf := lf.fr h287 (by omega)
            have l1 := lf.1
            have rl := Int.le_trans rl (h287).1.1
            have fr := fr.trans h287
            have hx := h288
            have cn := fr.1
            have cs := fr.2.1
            refine And.intro (show 0 < r ∧ (mw285 r (-1)) = 7 by first | omega | (simp only [mS_iff, eq_self, Int.reduceEq, true_and, and_true, false_and, and_false, and_self, ↓reduceIte]; omega) | (simp only [mS_iff, eq_self, Int.reduceEq, true_and, and_true, false_and, and_false, and_self, ↓reduceIte] at *; omega)) ?_
            have lf := (lf.put r286).2.1
            have fr := fr.pl (x := r) (j := 1) (v := r286) (by omega) (by omega)
            have hx := hx.pl (x := r) (j := 1) (v := r286) (by omega)
            obtain ⟨mw292, h293⟩ : ∃ z, z = (mS mw285 r 1 r286) := ⟨_, rfl⟩
            rw [← h293] at lf fr hx ⊢
            have e0 : mw292 0 0 = mw285 0 0 := by rw [h293, mS_a _ _ _ _ (by omega)]
            have rl : r ≤ mw292 0 0 := by rw [e0]; exact rl
            have l1 := lf.1
            have cn := fr.1
            have cs := fr.2.1
            refine And.intro (rfl) ?_
            refine ct_157 (by omega) hT hx (by omega) (fun h => absurd h nz) (fun _ => ?_)
            refine And.intro (fun _ => ?_) (fun h => absurd h (by decide))
            skip
            exfalso
            omega
    · have g2 := h64
      refine And.intro (fun _ => ?_) (fun h => absurd h (by decide))
      refine And.intro (rfl) ?_
      refine ct_158 (by omega) hT hx (fun _ h294 => ?_) (fun h294 => ?_)
      · have k3 := h294
        refine And.intro (fun _ => ?_) (fun h => absurd h (by decide))
        refine And.intro (rfl) ?_
        refine And.intro (fun _ => ?_) (fun h => absurd h (by have := hx.2.2.2.1; have := hx.2.2.2.2.1; omega))
        refine ct_51 (by omega) hT hx (by omega) (fun mw295 r297 q298 f299 p300 h301 h302 h303 h304 => ?_) (fun mw296 r297 q298 w305 h301 h302 h303 h304 => ?_)
        · have lf := lf.fr h301 (by omega)
          have l1 := lf.1
          have rl := Int.le_trans rl (h301).1.1
          have fr := fr.trans h301
          have hx := h302
          have nz := h303
          have cn := fr.1
          have cs := fr.2.1
          refine And.intro (show 0 < r ∧ (mw295 r (-1)) = 7 by first | omega | (simp only [mS_iff, eq_self, Int.reduceEq, true_and, and_true, false_and, and_false, and_self, ↓reduceIte]; omega) | (simp only [mS_iff, eq_self, Int.reduceEq, true_and, and_true, false_and, and_false, and_self, ↓reduceIte] at *; omega)) ?_
          have lf := (lf.put r297).2.2.1
          have fr := fr.pl (x := r) (j := 2) (v := r297) (by omega) (by omega)
          have hx := hx.pl (x := r) (j := 2) (v := r297) (by omega)
          obtain ⟨mw306, h307⟩ : ∃ z, z = (mS mw295 r 2 r297) := ⟨_, rfl⟩
          rw [← h307] at lf fr hx ⊢
          have e0 : mw306 0 0 = mw295 0 0 := by rw [h307, mS_a _ _ _ _ (by omega)]
          have rl : r ≤ mw306 0 0 := by rw [e0]; exact rl
          have l1 := lf.1
          have cn := fr.1
          have cs := fr.2.1
          refine And.intro (show 0 < r ∧ (mw306 r (-1)) = 7 by first | omega | (simp only [mS_iff, eq_self, Int.reduceEq, true_and, and_true, false_and, and_false, and_self, ↓reduceIte]; omega) | (simp only [mS_iff, eq_self, Int.reduceEq, true_and, and_true, false_and, and_false, and_self, ↓reduceIte] at *; omega)) ?_
          have lf := (lf.put 1).2.2.2.1
          have fr := fr.pl (x := r) (j := 3) (v := 1) (by omega) (by omega)
          have hx := hx.pl (x := r) (j := 3) (v := 1) (by omega)
          obtain ⟨mw308, h309⟩ : ∃ z, z = (mS mw306 r 3 1) := ⟨_, rfl⟩
          rw [← h309] at lf fr hx ⊢
          have e0 : mw308 0 0 = mw306 0 0 := by rw [h309, mS_a _ _ _ _ (by omega)]
          have rl : r ≤ mw308 0 0 := by rw [e0]; exact rl
          have l1 := lf.1
          have cn := fr.1
          have cs := fr.2.1
          refine And.intro (rfl) ?_
          refine ct_157 (by omega) hT hx (by omega) (fun h => absurd h nz) (fun _ => ?_)
          refine And.intro (fun _ => ?_) (fun h => absurd h (by decide))
          skip
          refine hQe _ _ _ _ (fr.mono (by omega) (by omega)) hx nz (by omega) (by omega) l1 ?_
          unfold p_lay1
          rw [if_neg (by omega), if_neg (by omega), if_pos (by omega)]
          exact p_bd_l (h304)
        · have gr := h304.gr (lo := lo) (by omega)
          have lf := lf.fr h301 (by omega)
          have l1 := lf.1
          have rl := Int.le_trans rl (h301).1.1
          have gk := p_grp_ok h303
          have fr := fr.trans h301
          have hx := h302
          have cn := fr.1
          have cs := fr.2.1
          refine And.intro (show 0 < r ∧ (mw296 r (-1)) = 7 by first | omega | (simp only [mS_iff, eq_self, Int.reduceEq, true_and, and_true, false_and, and_false, and_self, ↓reduceIte]; omega) | (simp only [mS_iff, eq_self, Int.reduceEq, true_and, and_true, false_and, and_false, and_self, ↓reduceIte] at *; omega)) ?_
          have gr := gr.pl (j := 2) (v := r297) lf.1 (by omega)
          have lf := (lf.put r297).2.2.1
          have fr := fr.pl (x := r) (j := 2) (v := r297) (by omega) (by omega)
          have hx := hx.pl (x := r) (j := 2) (v := r297) (by omega)
          obtain ⟨mw310, h311⟩ : ∃ z, z = (mS mw296 r 2 r297) := ⟨_, rfl⟩
          rw [← h311] at lf fr hx gr ⊢
          have e0 : mw310 0 0 = mw296 0 0 := by rw [h311, mS_a _ _ _ _ (by omega)]
          have rl : r ≤ mw310 0 0 := by rw [e0]; exact rl
          have l1 := lf.1
          have cn := fr.1
          have cs := fr.2.1
          refine And.intro (show 0 < r ∧ (mw310 r (-1)) = 7 by first | omega | (simp only [mS_iff, eq_self, Int.reduceEq, true_and, and_true, false_and, and_false, and_self, ↓reduceIte]; omega) | (simp only [mS_iff, eq_self, Int.reduceEq, true_and, and_true, false_and, and_false, and_self, ↓reduceIte] at *; omega)) ?_
          have gr := gr.pl (j := 3) (v := 1) lf.1 (by omega)
          have lf := (lf.put 1).2.2.2.1
          have fr := fr.pl (x := r) (j := 3) (v := 1) (by omega) (by omega)
          have hx := hx.pl (x := r) (j := 3) (v := 1) (by omega)
          obtain ⟨mw312, h313⟩ : ∃ z, z = (mS mw310 r 3 1) := ⟨_, rfl⟩
          rw [← h313] at lf fr hx gr ⊢
          have e0 : mw312 0 0 = mw310 0 0 := by rw [h313, mS_a _ _ _ _ (by omega)]
          have rl : r ≤ mw312 0 0 := by rw [e0]; exact rl
          have l1 := lf.1
          have cn := fr.1
          have cs := fr.2.1
          refine And.intro (rfl) ?_
          refine ct_157 (by omega) hT hx (by omega) (fun _ h314 mw315 h316 h317 => ?_) (fun h314 => ?_)
          · have lf := lf.fr (fr_t.P h316) (by omega)
            have l1 := lf.1
            have gr := gr.fr (fr_t.P h316) (by omega)
            have rl := Int.le_trans rl ((fr_t.P h316)).1.1
            have fr := fr.trans (fr_t.P h316)
            have hx := h317
            have cn := fr.1
            have cs := fr.2.1
            have k4 := h314
            refine And.intro (fun h => absurd h (by decide)) (fun _ => ?_)
            refine And.intro (rfl) ?_
            refine ct_157 (by omega) hT hx (by omega) (fun _ h318 mw319 h320 h321 => ?_) (fun h318 => ?_)
            · have lf := lf.fr (fr_t.P h320) (by omega)
              have l1 := lf.1
              have gr := gr.fr (fr_t.P h320) (by omega)
              have rl := Int.le_trans rl ((fr_t.P h320)).1.1
              have fr := fr.trans (fr_t.P h320)
              have hx := h321
              have cn := fr.1
              have cs := fr.2.1
              have k5 := h318
              refine And.intro (fun h => absurd h (by decide)) (fun _ => ?_)
              skip
              refine And.intro (show 0 < r ∧ (mw319 r (-1)) = 7 by first | omega | (simp only [mS_iff, eq_self, Int.reduceEq, true_and, and_true, false_and, and_false, and_self, ↓reduceIte]; omega) | (simp only [mS_iff, eq_self, Int.reduceEq, true_and, and_true, false_and, and_false, and_self, ↓reduceIte] at *; omega)) ?_
              have gr := gr.pl (j := 4) (v := 1) lf.1 (by omega)
              have lf := (lf.put 1).2.2.2.2
              have fr := fr.pl (x := r) (j := 4) (v := 1) (by omega) (by omega)
              have hx := hx.pl (x := r) (j := 4) (v := 1) (by omega)
              obtain ⟨mw322, h323⟩ : ∃ z, z = (mS mw319 r 4 1) := ⟨_, rfl⟩
              rw [← h323] at lf fr hx gr ⊢
              have e0 : mw322 0 0 = mw319 0 0 := by rw [h323, mS_a _ _ _ _ (by omega)]
              have rl : r ≤ mw322 0 0 := by rw [e0]; exact rl
              have l1 := lf.1
              have cn := fr.1
              have cs := fr.2.1
              refine hQ _ _ (l_mk v 1 1 l_no w305) (fr.mono (by omega) (by omega)) hx ?_ ?_
              · unfold p_lay1
                rw [if_neg (by omega), if_neg (by omega), if_pos (by omega)]
                rw [p_bd_r (h303)]
                unfold p_part
                rw [if_pos (by omega), if_pos (by omega), show q298 + 2 = q298 + 1 + 1 by omega]
                rfl
              · exact hLay.mk lf ⟨by omega, by omega⟩ hv (by simp [l_mk]) (by simp [l_mk]) (by simp [l_mk]) (Or.inl ⟨rfl, by unfold noOrd; simp [l_mk, l_no]⟩) (gr.grp gk (by simp [l_mk]) (by simp [l_mk]) (by simp [l_mk]) (by simp [l_mk]) (by simp [l_mk]) (by simp [l_mk])) (by simp [l_mk, l_no]) (by simp [l_mk])
            · have g5 := h318
              refine And.intro (fun _ => ?_) (fun h => absurd h (by decide))
              refine And.intro (rfl) ?_
              refine ct_154 (by omega) hT hx (by omega) (by omega) (fun h => absurd rfl h) (fun _ h324 mw326 h328 h329 => ?_) (fun _ h324 mw327 h328 h329 => ?_)
              · have lf := lf.fr (fr_t.P h328) (by omega)
                have l1 := lf.1
                have gr := gr.fr (fr_t.P h328) (by omega)
                have rl := Int.le_trans rl ((fr_t.P h328)).1.1
                have fr := fr.trans (fr_t.P h328)
                have hx := h329
                have cn := fr.1
                have cs := fr.2.1
                have k6 := h324
                refine And.intro (show -2147483648 ≤ 2 + (K (q298 + 1) - 48) ∧ 2 + (K (q298 + 1) - 48) ≤ 2147483647 by first | omega | (simp only [mS_iff, eq_self, Int.reduceEq, true_and, and_true, false_and, and_false, and_self, ↓reduceIte]; omega) | (simp only [mS_iff, eq_self, Int.reduceEq, true_and, and_true, false_and, and_false, and_self, ↓reduceIte] at *; omega)) ?_
                skip
                refine And.intro (show 0 < r ∧ (mw326 r (-1)) = 7 by first | omega | (simp only [mS_iff, eq_self, Int.reduceEq, true_and, and_true, false_and, and_false, and_self, ↓reduceIte]; omega) | (simp only [mS_iff, eq_self, Int.reduceEq, true_and, and_true, false_and, and_false, and_self, ↓reduceIte] at *; omega)) ?_
                have gr := gr.pl (j := 4) (v := (2 + (K (q298 + 1) - 48))) lf.1 (by omega)
                have lf := (lf.put (2 + (K (q298 + 1) - 48))).2.2.2.2
                have fr := fr.pl (x := r) (j := 4) (v := (2 + (K (q298 + 1) - 48))) (by omega) (by omega)
                have hx := hx.pl (x := r) (j := 4) (v := (2 + (K (q298 + 1) - 48))) (by omega)
                obtain ⟨mw330, h331⟩ : ∃ z, z = (mS mw326 r 4 (2 + (K (q298 + 1) - 48))) := ⟨_, rfl⟩
                rw [← h331] at lf fr hx gr ⊢
                have e0 : mw330 0 0 = mw326 0 0 := by rw [h331, mS_a _ _ _ _ (by omega)]
                have rl : r ≤ mw330 0 0 := by rw [e0]; exact rl
                have l1 := lf.1
                have cn := fr.1
                have cs := fr.2.1
                refine hQ _ _ (l_mk v 1 (2 + (K (q298 + 1) - 48)) l_no w305) (fr.mono (by omega) (by omega)) hx ?_ ?_
                · unfold p_lay1
                  rw [if_neg (by omega), if_neg (by omega), if_pos (by omega)]
                  rw [p_bd_r (h303)]
                  unfold p_part
                  rw [if_pos (by omega), if_neg (by omega)]
                  rw [p_bd_r (p_want_y (by omega))]
                  rfl
                · exact hLay.mk lf ⟨by omega, by omega⟩ hv (by simp [l_mk]) (by simp [l_mk]) (by simp [l_mk]) (Or.inl ⟨rfl, by unfold noOrd; simp [l_mk, l_no]⟩) (gr.grp gk (by simp [l_mk]) (by simp [l_mk]) (by simp [l_mk]) (by simp [l_mk]) (by simp [l_mk]) (by simp [l_mk]; omega)) (by simp [l_mk, l_no]) (by simp [l_mk])
              · have lf := lf.fr (fr_t.P h328) (by omega)
                have l1 := lf.1
                have gr := gr.fr (fr_t.P h328) (by omega)
                have rl := Int.le_trans rl ((fr_t.P h328)).1.1
                have fr := fr.trans (fr_t.P h328)
                have hx := h329
                have nz : x_wr (K (q298 + 1)) ≠ 0 := by unfold x_wr; omega
                have er := h324
                have cn := fr.1
                have cs := fr.2.1
                refine And.intro (show -2147483648 ≤ 2 + 0 ∧ 2 + 0 ≤ 2147483647 by first | omega | (simp only [mS_iff, eq_self, Int.reduceEq, true_and, and_true, false_and, and_false, and_self, ↓reduceIte]; omega) | (simp only [mS_iff, eq_self, Int.reduceEq, true_and, and_true, false_and, and_false, and_self, ↓reduceIte] at *; omega)) ?_
                rw [show (2 : Int) + 0 = 2 from rfl]
                refine And.intro (show 0 < r ∧ (mw327 r (-1)) = 7 by first | omega | (simp only [mS_iff, eq_self, Int.reduceEq, true_and, and_true, false_and, and_false, and_self, ↓reduceIte]; omega) | (simp only [mS_iff, eq_self, Int.reduceEq, true_and, and_true, false_and, and_false, and_self, ↓reduceIte] at *; omega)) ?_
                have gr := gr.pl (j := 4) (v := 2) lf.1 (by omega)
                have lf := (lf.put 2).2.2.2.2
                have fr := fr.pl (x := r) (j := 4) (v := 2) (by omega) (by omega)
                have hx := hx.pl (x := r) (j := 4) (v := 2) (by omega)
                obtain ⟨mw332, h333⟩ : ∃ z, z = (mS mw327 r 4 2) := ⟨_, rfl⟩
                rw [← h333] at lf fr hx gr ⊢
                have e0 : mw332 0 0 = mw327 0 0 := by rw [h333, mS_a _ _ _ _ (by omega)]
                have rl : r ≤ mw332 0 0 := by rw [e0]; exact rl
                have l1 := lf.1
                have cn := fr.1
                have cs := fr.2.1
                refine hQe _ _ _ _ (fr.mono (by omega) (by omega)) hx nz (by omega) (by omega) l1 ?_
                unfold p_lay1
                rw [if_neg (by omega), if_neg (by omega), if_pos (by omega)]
                rw [p_bd_r (h303)]
                unfold p_part
                rw [if_pos (by omega), if_neg (by omega)]
                rw [p_bd_l (p_want_n (by omega))]
                rfl
          · have g4 := h314
            refine And.intro (fun _ => ?_) (fun h => absurd h (by decide))
            skip
            refine hQ _ _ (l_mk v 1 0 l_no w305) (fr.mono (by omega) (by omega)) hx ?_ ?_
            · unfold p_lay1
              rw [if_neg (by omega), if_neg (by omega), if_pos (by omega)]
              rw [p_bd_r (h303)]
              unfold p_part
              rw [if_neg (by omega)]
              rfl
            · exact hLay.mk lf ⟨by omega, by omega⟩ hv (by simp [l_mk]) (by simp [l_mk]) (by simp [l_mk]) (Or.inl ⟨rfl, by unfold noOrd; simp [l_mk, l_no]⟩) (gr.grp gk (by simp [l_mk]) (by simp [l_mk]) (by simp [l_mk]) (by simp [l_mk]) (by simp [l_mk]) (by simp [l_mk])) (by simp [l_mk, l_no]) (by simp [l_mk])
      · have g3 := h294
        refine And.intro (fun h => absurd h (by decide)) (fun _ => ?_)
        refine And.intro (rfl) ?_
        refine ct_158 (by omega) hT hx (fun _ h334 => ?_) (fun h334 => ?_)
        · have k4 := h334
          refine And.intro (fun _ => ?_) (fun h => absurd h (by decide))
          refine And.intro (rfl) ?_
          refine And.intro (fun _ => ?_) (fun h => absurd h (by have := hx.2.2.2.1; have := hx.2.2.2.2.1; omega))
          refine ct_51 (by omega) hT hx (by omega) (fun mw335 r337 q338 f339 p340 h341 h342 h343 h344 => ?_) (fun mw336 r337 q338 w345 h341 h342 h343 h344 => ?_)
          · have lf := lf.fr h341 (by omega)
            have l1 := lf.1
            have rl := Int.le_trans rl (h341).1.1
            have fr := fr.trans h341
            have hx := h342
            have nz := h343
            have cn := fr.1
            have cs := fr.2.1
            refine And.intro (show 0 < r ∧ (mw335 r (-1)) = 7 by first | omega | (simp only [mS_iff, eq_self, Int.reduceEq, true_and, and_true, false_and, and_false, and_self, ↓reduceIte]; omega) | (simp only [mS_iff, eq_self, Int.reduceEq, true_and, and_true, false_and, and_false, and_self, ↓reduceIte] at *; omega)) ?_
            have lf := (lf.put r337).2.2.1
            have fr := fr.pl (x := r) (j := 2) (v := r337) (by omega) (by omega)
            have hx := hx.pl (x := r) (j := 2) (v := r337) (by omega)
            obtain ⟨mw346, h347⟩ : ∃ z, z = (mS mw335 r 2 r337) := ⟨_, rfl⟩
            rw [← h347] at lf fr hx ⊢
            have e0 : mw346 0 0 = mw335 0 0 := by rw [h347, mS_a _ _ _ _ (by omega)]
            have rl : r ≤ mw346 0 0 := by rw [e0]; exact rl
            have l1 := lf.1
            have cn := fr.1
            have cs := fr.2.1
            refine And.intro (show 0 < r ∧ (mw346 r (-1)) = 7 by first | omega | (simp only [mS_iff, eq_self, Int.reduceEq, true_and, and_true, false_and, and_false, and_self, ↓reduceIte]; omega) | (simp only [mS_iff, eq_self, Int.reduceEq, true_and, and_true, false_and, and_false, and_self, ↓reduceIte] at *; omega)) ?_
            have lf := (lf.put 1).2.2.2.1
            have fr := fr.pl (x := r) (j := 3) (v := 1) (by omega) (by omega)
            have hx := hx.pl (x := r) (j := 3) (v := 1) (by omega)
            obtain ⟨mw348, h349⟩ : ∃ z, z = (mS mw346 r 3 1) := ⟨_, rfl⟩
            rw [← h349] at lf fr hx ⊢
            have e0 : mw348 0 0 = mw346 0 0 := by rw [h349, mS_a _ _ _ _ (by omega)]
            have rl : r ≤ mw348 0 0 := by rw [e0]; exact rl
            have l1 := lf.1
            have cn := fr.1
            have cs := fr.2.1
            refine And.intro (rfl) ?_
            refine ct_157 (by omega) hT hx (by omega) (fun h => absurd h nz) (fun _ => ?_)
            refine And.intro (fun _ => ?_) (fun h => absurd h (by decide))
            skip
            refine hQe _ _ _ _ (fr.mono (by omega) (by omega)) hx nz (by omega) (by omega) l1 ?_
            unfold p_lay1
            rw [if_neg (by omega), if_neg (by omega), if_pos (by omega)]
            exact p_bd_l (h344)
          · have gr := h344.gr (lo := lo) (by omega)
            have lf := lf.fr h341 (by omega)
            have l1 := lf.1
            have rl := Int.le_trans rl (h341).1.1
            have gk := p_grp_ok h343
            have fr := fr.trans h341
            have hx := h342
            have cn := fr.1
            have cs := fr.2.1
            refine And.intro (show 0 < r ∧ (mw336 r (-1)) = 7 by first | omega | (simp only [mS_iff, eq_self, Int.reduceEq, true_and, and_true, false_and, and_false, and_self, ↓reduceIte]; omega) | (simp only [mS_iff, eq_self, Int.reduceEq, true_and, and_true, false_and, and_false, and_self, ↓reduceIte] at *; omega)) ?_
            have gr := gr.pl (j := 2) (v := r337) lf.1 (by omega)
            have lf := (lf.put r337).2.2.1
            have fr := fr.pl (x := r) (j := 2) (v := r337) (by omega) (by omega)
            have hx := hx.pl (x := r) (j := 2) (v := r337) (by omega)
            obtain ⟨mw350, h351⟩ : ∃ z, z = (mS mw336 r 2 r337) := ⟨_, rfl⟩
            rw [← h351] at lf fr hx gr ⊢
            have e0 : mw350 0 0 = mw336 0 0 := by rw [h351, mS_a _ _ _ _ (by omega)]
            have rl : r ≤ mw350 0 0 := by rw [e0]; exact rl
            have l1 := lf.1
            have cn := fr.1
            have cs := fr.2.1
            refine And.intro (show 0 < r ∧ (mw350 r (-1)) = 7 by first | omega | (simp only [mS_iff, eq_self, Int.reduceEq, true_and, and_true, false_and, and_false, and_self, ↓reduceIte]; omega) | (simp only [mS_iff, eq_self, Int.reduceEq, true_and, and_true, false_and, and_false, and_self, ↓reduceIte] at *; omega)) ?_
            have gr := gr.pl (j := 3) (v := 1) lf.1 (by omega)
            have lf := (lf.put 1).2.2.2.1
            have fr := fr.pl (x := r) (j := 3) (v := 1) (by omega) (by omega)
            have hx := hx.pl (x := r) (j := 3) (v := 1) (by omega)
            obtain ⟨mw352, h353⟩ : ∃ z, z = (mS mw350 r 3 1) := ⟨_, rfl⟩
            rw [← h353] at lf fr hx gr ⊢
            have e0 : mw352 0 0 = mw350 0 0 := by rw [h353, mS_a _ _ _ _ (by omega)]
            have rl : r ≤ mw352 0 0 := by rw [e0]; exact rl
            have l1 := lf.1
            have cn := fr.1
            have cs := fr.2.1
            refine And.intro (rfl) ?_
            refine ct_157 (by omega) hT hx (by omega) (fun _ h354 mw355 h356 h357 => ?_) (fun h354 => ?_)
            · have lf := lf.fr (fr_t.P h356) (by omega)
              have l1 := lf.1
              have gr := gr.fr (fr_t.P h356) (by omega)
              have rl := Int.le_trans rl ((fr_t.P h356)).1.1
              have fr := fr.trans (fr_t.P h356)
              have hx := h357
              have cn := fr.1
              have cs := fr.2.1
              have k5 := h354
              refine And.intro (fun h => absurd h (by decide)) (fun _ => ?_)
              refine And.intro (rfl) ?_
              refine ct_157 (by omega) hT hx (by omega) (fun _ h358 mw359 h360 h361 => ?_) (fun h358 => ?_)
              · have lf := lf.fr (fr_t.P h360) (by omega)
                have l1 := lf.1
                have gr := gr.fr (fr_t.P h360) (by omega)
                have rl := Int.le_trans rl ((fr_t.P h360)).1.1
                have fr := fr.trans (fr_t.P h360)
                have hx := h361
                have cn := fr.1
                have cs := fr.2.1
                have k6 := h358
                refine And.intro (fun h => absurd h (by decide)) (fun _ => ?_)
                skip
                refine And.intro (show 0 < r ∧ (mw359 r (-1)) = 7 by first | omega | (simp only [mS_iff, eq_self, Int.reduceEq, true_and, and_true, false_and, and_false, and_self, ↓reduceIte]; omega) | (simp only [mS_iff, eq_self, Int.reduceEq, true_and, and_true, false_and, and_false, and_self, ↓reduceIte] at *; omega)) ?_
                have gr := gr.pl (j := 4) (v := 1) lf.1 (by omega)
                have lf := (lf.put 1).2.2.2.2
                have fr := fr.pl (x := r) (j := 4) (v := 1) (by omega) (by omega)
                have hx := hx.pl (x := r) (j := 4) (v := 1) (by omega)
                obtain ⟨mw362, h363⟩ : ∃ z, z = (mS mw359 r 4 1) := ⟨_, rfl⟩
                rw [← h363] at lf fr hx gr ⊢
                have e0 : mw362 0 0 = mw359 0 0 := by rw [h363, mS_a _ _ _ _ (by omega)]
                have rl : r ≤ mw362 0 0 := by rw [e0]; exact rl
                have l1 := lf.1
                have cn := fr.1
                have cs := fr.2.1
                refine hQ _ _ (l_mk v 1 1 l_no w345) (fr.mono (by omega) (by omega)) hx ?_ ?_
                · unfold p_lay1
                  rw [if_neg (by omega), if_neg (by omega), if_pos (by omega)]
                  rw [p_bd_r (h343)]
                  unfold p_part
                  rw [if_pos (by omega), if_pos (by omega), show q338 + 2 = q338 + 1 + 1 by omega]
                  rfl
                · exact hLay.mk lf ⟨by omega, by omega⟩ hv (by simp [l_mk]) (by simp [l_mk]) (by simp [l_mk]) (Or.inl ⟨rfl, by unfold noOrd; simp [l_mk, l_no]⟩) (gr.grp gk (by simp [l_mk]) (by simp [l_mk]) (by simp [l_mk]) (by simp [l_mk]) (by simp [l_mk]) (by simp [l_mk])) (by simp [l_mk, l_no]) (by simp [l_mk])
              · have g6 := h358
                refine And.intro (fun _ => ?_) (fun h => absurd h (by decide))
                refine And.intro (rfl) ?_
                refine ct_154 (by omega) hT hx (by omega) (by omega) (fun h => absurd rfl h) (fun _ h364 mw366 h368 h369 => ?_) (fun _ h364 mw367 h368 h369 => ?_)
                · have lf := lf.fr (fr_t.P h368) (by omega)
                  have l1 := lf.1
                  have gr := gr.fr (fr_t.P h368) (by omega)
                  have rl := Int.le_trans rl ((fr_t.P h368)).1.1
                  have fr := fr.trans (fr_t.P h368)
                  have hx := h369
                  have cn := fr.1
                  have cs := fr.2.1
                  have k7 := h364
                  refine And.intro (show -2147483648 ≤ 2 + (K (q338 + 1) - 48) ∧ 2 + (K (q338 + 1) - 48) ≤ 2147483647 by first | omega | (simp only [mS_iff, eq_self, Int.reduceEq, true_and, and_true, false_and, and_false, and_self, ↓reduceIte]; omega) | (simp only [mS_iff, eq_self, Int.reduceEq, true_and, and_true, false_and, and_false, and_self, ↓reduceIte] at *; omega)) ?_
                  skip
                  refine And.intro (show 0 < r ∧ (mw366 r (-1)) = 7 by first | omega | (simp only [mS_iff, eq_self, Int.reduceEq, true_and, and_true, false_and, and_false, and_self, ↓reduceIte]; omega) | (simp only [mS_iff, eq_self, Int.reduceEq, true_and, and_true, false_and, and_false, and_self, ↓reduceIte] at *; omega)) ?_
                  have gr := gr.pl (j := 4) (v := (2 + (K (q338 + 1) - 48))) lf.1 (by omega)
                  have lf := (lf.put (2 + (K (q338 + 1) - 48))).2.2.2.2
                  have fr := fr.pl (x := r) (j := 4) (v := (2 + (K (q338 + 1) - 48))) (by omega) (by omega)
                  have hx := hx.pl (x := r) (j := 4) (v := (2 + (K (q338 + 1) - 48))) (by omega)
                  obtain ⟨mw370, h371⟩ : ∃ z, z = (mS mw366 r 4 (2 + (K (q338 + 1) - 48))) := ⟨_, rfl⟩
                  rw [← h371] at lf fr hx gr ⊢
                  have e0 : mw370 0 0 = mw366 0 0 := by rw [h371, mS_a _ _ _ _ (by omega)]
                  have rl : r ≤ mw370 0 0 := by rw [e0]; exact rl
                  have l1 := lf.1
                  have cn := fr.1
                  have cs := fr.2.1
                  refine hQ _ _ (l_mk v 1 (2 + (K (q338 + 1) - 48)) l_no w345) (fr.mono (by omega) (by omega)) hx ?_ ?_
                  · unfold p_lay1
                    rw [if_neg (by omega), if_neg (by omega), if_pos (by omega)]
                    rw [p_bd_r (h343)]
                    unfold p_part
                    rw [if_pos (by omega), if_neg (by omega)]
                    rw [p_bd_r (p_want_y (by omega))]
                    rfl
                  · exact hLay.mk lf ⟨by omega, by omega⟩ hv (by simp [l_mk]) (by simp [l_mk]) (by simp [l_mk]) (Or.inl ⟨rfl, by unfold noOrd; simp [l_mk, l_no]⟩) (gr.grp gk (by simp [l_mk]) (by simp [l_mk]) (by simp [l_mk]) (by simp [l_mk]) (by simp [l_mk]) (by simp [l_mk]; omega)) (by simp [l_mk, l_no]) (by simp [l_mk])
                · have lf := lf.fr (fr_t.P h368) (by omega)
                  have l1 := lf.1
                  have gr := gr.fr (fr_t.P h368) (by omega)
                  have rl := Int.le_trans rl ((fr_t.P h368)).1.1
                  have fr := fr.trans (fr_t.P h368)
                  have hx := h369
                  have nz : x_wr (K (q338 + 1)) ≠ 0 := by unfold x_wr; omega
                  have er := h364
                  have cn := fr.1
                  have cs := fr.2.1
                  refine And.intro (show -2147483648 ≤ 2 + 0 ∧ 2 + 0 ≤ 2147483647 by first | omega | (simp only [mS_iff, eq_self, Int.reduceEq, true_and, and_true, false_and, and_false, and_self, ↓reduceIte]; omega) | (simp only [mS_iff, eq_self, Int.reduceEq, true_and, and_true, false_and, and_false, and_self, ↓reduceIte] at *; omega)) ?_
                  rw [show (2 : Int) + 0 = 2 from rfl]
                  refine And.intro (show 0 < r ∧ (mw367 r (-1)) = 7 by first | omega | (simp only [mS_iff, eq_self, Int.reduceEq, true_and, and_true, false_and, and_false, and_self, ↓reduceIte]; omega) | (simp only [mS_iff, eq_self, Int.reduceEq, true_and, and_true, false_and, and_false, and_self, ↓reduceIte] at *; omega)) ?_
                  have gr := gr.pl (j := 4) (v := 2) lf.1 (by omega)
                  have lf := (lf.put 2).2.2.2.2
                  have fr := fr.pl (x := r) (j := 4) (v := 2) (by omega) (by omega)
                  have hx := hx.pl (x := r) (j := 4) (v := 2) (by omega)
                  obtain ⟨mw372, h373⟩ : ∃ z, z = (mS mw367 r 4 2) := ⟨_, rfl⟩
                  rw [← h373] at lf fr hx gr ⊢
                  have e0 : mw372 0 0 = mw367 0 0 := by rw [h373, mS_a _ _ _ _ (by omega)]
                  have rl : r ≤ mw372 0 0 := by rw [e0]; exact rl
                  have l1 := lf.1
                  have cn := fr.1
                  have cs := fr.2.1
                  refine hQe _ _ _ _ (fr.mono (by omega) (by omega)) hx nz (by omega) (by omega) l1 ?_
                  unfold p_lay1
                  rw [if_neg (by omega), if_neg (by omega), if_pos (by omega)]
                  rw [p_bd_r (h343)]
                  unfold p_part
                  rw [if_pos (by omega), if_neg (by omega)]
                  rw [p_bd_l (p_want_n (by omega))]
                  rfl
            · have g5 := h354
              refine And.intro (fun _ => ?_) (fun h => absurd h (by decide))
              skip
              refine hQ _ _ (l_mk v 1 0 l_no w345) (fr.mono (by omega) (by omega)) hx ?_ ?_
              · unfold p_lay1
                rw [if_neg (by omega), if_neg (by omega), if_pos (by omega)]
                rw [p_bd_r (h343)]
                unfold p_part
                rw [if_neg (by omega)]
                rfl
              · exact hLay.mk lf ⟨by omega, by omega⟩ hv (by simp [l_mk]) (by simp [l_mk]) (by simp [l_mk]) (Or.inl ⟨rfl, by unfold noOrd; simp [l_mk, l_no]⟩) (gr.grp gk (by simp [l_mk]) (by simp [l_mk]) (by simp [l_mk]) (by simp [l_mk]) (by simp [l_mk]) (by simp [l_mk])) (by simp [l_mk, l_no]) (by simp [l_mk])
        · have g4 := h334
          refine And.intro (fun h => absurd h (by decide)) (fun _ => ?_)
          refine And.intro (rfl) ?_
          refine ct_155 (by omega) hT hx (fun mw374 h375 h376 => ?_)
          have lf := lf.fr (fr_t.P h375) (by omega)
          have l1 := lf.1
          have rl := Int.le_trans rl ((fr_t.P h375)).1.1
          have fr := fr.trans (fr_t.P h375)
          have hx : hTx mw374 K A V N q (x_wr (K q)) (A q) := h376
          have nz : x_wr (K q) ≠ 0 := by unfold x_wr; omega
          have cn := fr.1
          have cs := fr.2.1
          refine And.intro (rfl) ?_
          refine And.intro (fun h => absurd h (by have := hx.2.2.2.1; have := hx.2.2.2.2.1; omega)) (fun _ => ?_)
          refine And.intro (show 0 < r ∧ (mw374 r (-1)) = 7 by first | omega | (simp only [mS_iff, eq_self, Int.reduceEq, true_and, and_true, false_and, and_false, and_self, ↓reduceIte]; omega) | (simp only [mS_iff, eq_self, Int.reduceEq, true_and, and_true, false_and, and_false, and_self, ↓reduceIte] at *; omega)) ?_
          have lf := (lf.put 0).2.2.1
          have fr := fr.pl (x := r) (j := 2) (v := 0) (by omega) (by omega)
          have hx := hx.pl (x := r) (j := 2) (v := 0) (by omega)
          obtain ⟨mw377, h378⟩ : ∃ z, z = (mS mw374 r 2 0) := ⟨_, rfl⟩
          rw [← h378] at lf fr hx ⊢
          have e0 : mw377 0 0 = mw374 0 0 := by rw [h378, mS_a _ _ _ _ (by omega)]
          have rl : r ≤ mw377 0 0 := by rw [e0]; exact rl
          have l1 := lf.1
          have cn := fr.1
          have cs := fr.2.1
          refine And.intro (show 0 < r ∧ (mw377 r (-1)) = 7 by first | omega | (simp only [mS_iff, eq_self, Int.reduceEq, true_and, and_true, false_and, and_false, and_self, ↓reduceIte]; omega) | (simp only [mS_iff, eq_self, Int.reduceEq, true_and, and_true, false_and, and_false, and_self, ↓reduceIte] at *; omega)) ?_
          have lf := (lf.put 1).2.2.2.1
          have fr := fr.pl (x := r) (j := 3) (v := 1) (by omega) (by omega)
          have hx := hx.pl (x := r) (j := 3) (v := 1) (by omega)
          obtain ⟨mw379, h380⟩ : ∃ z, z = (mS mw377 r 3 1) := ⟨_, rfl⟩
          rw [← h380] at lf fr hx ⊢
          have e0 : mw379 0 0 = mw377 0 0 := by rw [h380, mS_a _ _ _ _ (by omega)]
          have rl : r ≤ mw379 0 0 := by rw [e0]; exact rl
          have l1 := lf.1
          have cn := fr.1
          have cs := fr.2.1
          refine And.intro (rfl) ?_
          refine ct_157 (by omega) hT hx (by omega) (fun h => absurd h nz) (fun _ => ?_)
          refine And.intro (fun _ => ?_) (fun h => absurd h (by decide))
          skip
          refine hQe _ _ _ _ (fr.mono (by omega) (by omega)) hx nz (by omega) (by omega) l1 ?_
          unfold p_lay1
          rw [if_neg (by omega), if_neg (by omega), if_neg (by omega)]
          rfl
theorem ct_49 {d : Nat} {m : aM} {Q : aO → aM → Prop} {K A V : Int → Int} {N q p c b : Int} (hd : 7 ≤ d) (hT : xT K A V N) (hx : hTx m K A V N q 0 p) (hcb : (c = 0 ∨ c = 1) ∧ (b = 0 ∨ b = 1)) (h0 : 77 ≤ m 0 0 ∧ m 0 0 + 7 ≤ amC ∧ 0 ≤ m 0 1 ∧ m 0 1 + 110 ≤ amS) (hQe : ∀ m' r q' f' p', fr_P 5 80 m m' → hTx m' K A V N q' f' p' → f' ≠ 0 → m 0 0 + 1 ≤ r → r ≤ m' 0 0 → m' r (-1) = 7 → p_lay K A V c b q = .inl (f', p') → Q (.inl (some (aR r))) m') (hQ : ∀ m' r q' l, fr_P 5 80 m m' → hTx m' K A V N q' 0 p → p_lay K A V c b q = .inr (q', l) → hLay m' (m 0 0 + 1) (m' 0 0) r l 0 → Q (.inl (some (aR r))) m') : am_wpc am_G am_T d 49 [aR 13, aI (p_tb c b)] m Q := by
  refine am_in rfl hd (fun d hd => ?_)
  refine am_go 400 [18] (am_wpc_cm _ _ _) wf_49 ?_
  refine And.intro (by first | omega | (simp only [mS_iff, eq_self, Int.reduceEq, true_and, and_true, false_and, and_false, and_self, ↓reduceIte]; omega) | (simp only [mS_iff, eq_self, Int.reduceEq, true_and, and_true, false_and, and_false, and_self, ↓reduceIte] at *; omega)) ?_
  generalize h3 : mN m 7 5 = mw1
  generalize h4 : m 0 0 + 1 = r2
  obtain ⟨n1, n2, n3, n4, n5, n6⟩ := mN_f h3 h4 (by omega)
  have hx := hx.keep (fun x j a b => n5 x j (by omega) (by omega))
  have fr : fr_P 1 10 m mw1 := ⟨by omega, by omega, fun x j a b _ => n5 x j a (by omega), n6⟩
  have cn := fr.1
  have cs := fr.2.1
  have lf : hLf mw1 r2 0 0 0 0 0 := ⟨n3, n4 0 (by omega), n4 1 (by omega), n4 2 (by omega), n4 3 (by omega), n4 4 (by omega)⟩
  have l1 := lf.1
  have rl : r2 ≤ mw1 0 0 := by omega
  refine And.intro (show 0 < r2 by first | omega | (simp only [mS_iff, eq_self, Int.reduceEq, true_and, and_true, false_and, and_false, and_self, ↓reduceIte]; omega) | (simp only [mS_iff, eq_self, Int.reduceEq, true_and, and_true, false_and, and_false, and_self, ↓reduceIte] at *; omega)) ?_
  refine am_in rfl (by omega) (fun d hd => ?_)
  refine am_go 400 [] (am_wpc_cm _ _ _) wf_170 ?_
  refine And.intro (show 0 < r2 by first | omega | (simp only [mS_iff, eq_self, Int.reduceEq, true_and, and_true, false_and, and_false, and_self, ↓reduceIte]; omega) | (simp only [mS_iff, eq_self, Int.reduceEq, true_and, and_true, false_and, and_false, and_self, ↓reduceIte] at *; omega)) ?_
  refine And.intro (rfl) ?_
  refine ct_157 (by omega) hT hx (by omega) (fun _ h5 mw6 h7 h8 => ?_) (fun h5 => ?_)
  · have lf := lf.fr (fr_t.P h7) (by omega)
    have l1 := lf.1
    have rl := Int.le_trans rl ((fr_t.P h7)).1.1
    have fr := fr.trans (fr_t.P h7)
    have hx := h8
    have cn := fr.1
    have cs := fr.2.1
    have k1 := h5
    skip
    refine And.intro (show 0 < r2 ∧ (mw6 r2 (-1)) = 7 ∧ (1 = 0 ∨ 1 = 1) by first | omega | (simp only [mS_iff, eq_self, Int.reduceEq, true_and, and_true, false_and, and_false, and_self, ↓reduceIte]; omega) | (simp only [mS_iff, eq_self, Int.reduceEq, true_and, and_true, false_and, and_false, and_self, ↓reduceIte] at *; omega)) ?_
    have lf := (lf.put 1).1
    have fr := fr.pl (x := r2) (j := 0) (v := 1) (by omega) (by omega)
    have hx := hx.pl (x := r2) (j := 0) (v := 1) (by omega)
    obtain ⟨mw9, h10⟩ : ∃ z, z = (mS mw6 r2 0 1) := ⟨_, rfl⟩
    rw [← h10] at lf fr hx ⊢
    have e0 : mw9 0 0 = mw6 0 0 := by rw [h10, mS_a _ _ _ _ (by omega)]
    have rl : r2 ≤ mw9 0 0 := by rw [e0]; exact rl
    have l1 := lf.1
    have cn := fr.1
    have cs := fr.2.1
    have e : p_lay K A V c b q = p_lay1 K A V c b 1 (q + 1) := by unfold p_lay; rw [if_pos (by omega)]
    rw [e] at hQ hQe
    exact lp_49 (by omega) hT hx hcb (by omega) lf (fr.mono (by omega) (by omega)) ⟨⟨by omega, by omega⟩, rfl⟩ (by omega) (fun m' q' f' p' a1 a2 a3 a4 a5 a6 a7 => hQe m' r2 q' f' p' a1 a2 a3 a4 a5 a6 a7) (fun m' q' l a1 a2 a3 a4 => hQ m' r2 q' l a1 a2 a3 (by rw [show m 0 0 + 1 = r2 by omega]; exact a4))
  · have g1 := h5
    skip
    refine And.intro (show 0 < r2 ∧ (mw1 r2 (-1)) = 7 ∧ (0 = 0 ∨ 0 = 1) by first | omega | (simp only [mS_iff, eq_self, Int.reduceEq, true_and, and_true, false_and, and_false, and_self, ↓reduceIte]; omega) | (simp only [mS_iff, eq_self, Int.reduceEq, true_and, and_true, false_and, and_false, and_self, ↓reduceIte] at *; omega)) ?_
    have lf := (lf.put 0).1
    have fr := fr.pl (x := r2) (j := 0) (v := 0) (by omega) (by omega)
    have hx := hx.pl (x := r2) (j := 0) (v := 0) (by omega)
    obtain ⟨mw11, h12⟩ : ∃ z, z = (mS mw1 r2 0 0) := ⟨_, rfl⟩
    rw [← h12] at lf fr hx ⊢
    have e0 : mw11 0 0 = mw1 0 0 := by rw [h12, mS_a _ _ _ _ (by omega)]
    have rl : r2 ≤ mw11 0 0 := by rw [e0]; exact rl
    have l1 := lf.1
    have cn := fr.1
    have cs := fr.2.1
    have e : p_lay K A V c b q = p_lay1 K A V c b 0 q := by unfold p_lay; rw [if_neg (by omega)]
    rw [e] at hQ hQe
    exact lp_49 (by omega) hT hx hcb (by omega) lf (fr.mono (by omega) (by omega)) ⟨⟨by omega, by omega⟩, rfl⟩ (by omega) (fun m' q' f' p' a1 a2 a3 a4 a5 a6 a7 => hQe m' r2 q' f' p' a1 a2 a3 a4 a5 a6 a7) (fun m' q' l a1 a2 a3 a4 => hQ m' r2 q' l a1 a2 a3 (by rw [show m 0 0 + 1 = r2 by omega]; exact a4))
