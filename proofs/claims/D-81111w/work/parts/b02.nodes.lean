/-! needs: b01 -/
/-! CONTRACTS: nodes: what they tell; by tools/genb2.py -/
set_option maxRecDepth 100000
/-- working a node: c cells and a third of 1000 c slots more at the most; whole numbers within lo .. hi and alo .. ahi may change, and the house's own places of faults -/
def fr_E (lo hi alo ahi c : Int) (m m' : aM) : Prop := (m 0 0 ≤ m' 0 0 ∧ m' 0 0 ≤ m 0 0 + c) ∧ (m 0 1 ≤ m' 0 1 ∧ 3 * m' 0 1 ≤ 3 * m 0 1 + 1000 * c) ∧ (∀ x j, x ≠ 0 → x ≤ m 0 0 → (x ≠ 1 ∨ (j ≠ 5 ∧ j ≠ 32 ∧ j ≠ 33)) → x ≠ 5 → (j ≠ 0 ∨ m x (-1) ≠ 6 ∨ ((x < lo ∨ hi < x) ∧ (x < alo ∨ ahi < x))) → m' x j = m x j) ∧ (∀ j, j ≠ 0 → j ≠ 1 → m' 0 j = m 0 j)
theorem fr_E.rfl (lo hi alo ahi : Int) (m : aM) : fr_E lo hi alo ahi 0 m m := ⟨by omega, by omega, fun _ _ _ _ _ _ _ => Eq.refl _, fun _ _ _ => Eq.refl _⟩
theorem fr_E.tag {lo hi alo ahi c : Int} {m m' : aM} (h : fr_E lo hi alo ahi c m m') {x : Int} (a : x ≠ 0) (b : x ≤ m 0 0) (g : x ≠ 5) : m' x (-1) = m x (-1) := h.2.2.1 x (-1) a b (by omega) g (by omega)
theorem fr_E.trans {lo hi alo ahi c c' : Int} {a b e : aM} (h : fr_E lo hi alo ahi c a b) (g : fr_E lo hi alo ahi c' b e) : fr_E lo hi alo ahi (c + c') a e := by
  have t := @fr_E.tag _ _ _ _ _ _ _ h
  obtain ⟨h1, h2, h3, h4⟩ := h
  obtain ⟨g1, g2, g3, g4⟩ := g
  exact ⟨by omega, by omega, fun x j u v w y z => (g3 x j u (by omega) w y (by rw [t u v y]; exact z)).trans (h3 x j u v w y z), fun j x y => (g4 j x y).trans (h4 j x y)⟩
theorem fr_E.wd {lo hi alo ahi c lo' hi' c' : Int} {a b : aM} (h : fr_E lo hi alo ahi c a b) (x : lo' ≤ lo) (y : hi ≤ hi') (z : c ≤ c') : fr_E lo' hi' alo ahi c' a b := ⟨by have := h.1; omega, by have := h.2.1; omega, fun u j p q r s t => h.2.2.1 u j p q r s (by omega), h.2.2.2⟩
theorem fr_E.kp {lo hi alo ahi c a b : Int} {m m' : aM} (h : fr_E lo hi alo ahi c m m') (ha : 6 ≤ a) (hb : b ≤ m 0 0) : hKeep m m' a b := fun r u v => ⟨h.tag (by omega) (by omega) (by omega), fun n => funext fun j => h.2.2.1 r j (by omega) (by omega) (by omega) (by omega) (by omega)⟩
theorem fr_E.arms {lo hi alo ahi c a b r : Int} {w : Int → Int} {m m' : aM} (h : fr_E lo hi alo ahi c m m') (g : hArms m a b r w) : hArms m' a b r w := g.keep (h.kp (by have := g.basic; omega) g.1.2) (by have := g.1.2; have := h.1; omega)
theorem hKeep.trans {a b c : aM} {lo hi : Int} (h : hKeep a b lo hi) (g : hKeep b c lo hi) : hKeep a c lo hi := fun r x y => ⟨(g r x y).1.trans (h r x y).1, fun n => by rw [(g r x y).2 (by rw [(h r x y).1]; exact n)]; exact (h r x y).2 n⟩
theorem hKeep.sub {a b : aM} {lo hi lo' hi' : Int} (h : hKeep a b lo hi) (x : lo ≤ lo') (y : hi' ≤ hi) : hKeep a b lo' hi' := fun r u v => h r (by omega) (by omega)
/-- x is a value: sort s, number v -/
def hVl (m : aM) (lo hi ar : Int) (w : Int → Int) (x s v : Int) : Prop :=
  (s = 0 ∧ (lo ≤ x ∧ x ≤ hi) ∧ m x (-1) = 6 ∧ m x 0 = v) ∨ (s = 1 ∧ v = 0 ∧ x = m ar 0) ∨ (s = 2 ∧ (0 ≤ v ∧ v < w 5) ∧ x = m (m ar 1) v) ∨ (s = 3 ∧ (0 ≤ v ∧ v < w 5) ∧ x = m (m (m ar 1) v) 2 ∧ x ≠ 0)
/-- the places of a node that all nodes have -/
def hNb (m : aM) (lo hi r a : Int) : Prop := (lo ≤ r ∧ r ≤ hi) ∧ (13 ≤ m r (-1) ∧ m r (-1) ≤ 17) ∧ m r 0 = a ∧ m r 2 = 1 ∧ (lo ≤ m r 1 ∧ m r 1 ≤ hi) ∧ m (m r 1) (-1) = 6
theorem hNb.keep {m m' : aM} {lo hi r a : Int} (h : hNb m lo hi r a) (k : hKeep m m' lo hi) : hNb m' lo hi r a := by
  obtain ⟨h1, h2, h3, h4, h5, h6⟩ := h
  have e := (k r h1.1 h1.2).2 (by omega)
  unfold hNb
  rw [e, (k _ h5.1 h5.2).1]
  exact ⟨h1, h2, h3, h4, h5, h6⟩
/-- what is asked ahead of working a node -/
def hRm (m : aM) (lo hi alo ahi p : Int) : Prop := (77 ≤ lo ∧ hi ≤ m 0 0) ∧ (hi < alo ∨ ahi < lo) ∧ m 26 (-1) = 3 ∧ 1 ≤ p ∧ m 0 0 + p + 1 ≤ amC ∧ 0 ≤ m 0 1 ∧ 3 * m 0 1 + 1000 * (p + 1) ≤ 3 * amS ∧ ∀ i, 0 ≤ i → i < 9 → m (-4) i = s_kd i
/-- node r says f, with p parts -/
def hSy (m : aM) (lo hi r : Int) (f : aD) (p : Int) : Prop := ∀ (d : Nat) (Q : aO → aM → Prop) (ar alo ahi : Int) (w : Int → Int), 2 * p + 10 ≤ (d : Int) → hArms m alo ahi ar w → hRm m lo hi alo ahi p → (∀ s v, f w = .inr (s, v) → ∀ m' x, fr_E lo hi alo ahi (p - 1) m m' → hVl m' lo hi ar w x s v → Q (.inl (some (aR x))) m') → (∀ c q, f w = .inl (c, q) → ∀ m', fr_E lo hi alo ahi (p + 1) m m' → m' 1 32 = c → m' 1 33 = q → Q (.inr (3, 26)) m') → am_wpc am_G am_T d 323 [aR r, aR ar] m Q
/-- the same of 'work', which faults by the machine's exceptions too -/
def hWk (m : aM) (lo hi r a : Int) (f : aD) (p : Int) : Prop := ∀ (d : Nat) (Q : aO → aM → Prop) (ar alo ahi : Int) (w : Int → Int), 2 * p + 9 ≤ (d : Int) → hArms m alo ahi ar w → hRm m lo hi alo ahi p → (∀ s v, f w = .inr (s, v) → ∀ m' x, fr_E lo hi alo ahi (p - 1) m m' → hVl m' lo hi ar w x s v → Q (.inl (some (aR x))) m') → (f w = .inl (1, a) → ∀ m' y, fr_E lo hi alo ahi (p + 1) m m' → Q (.inr (62, y)) m') → (f w = .inl (2, a) → ∀ m' y, fr_E lo hi alo ahi (p + 1) m m' → Q (.inr (63, y)) m') → (f w = .inl (3, a) → ∀ m' y, fr_E lo hi alo ahi (p + 1) m m' → Q (.inr (61, y)) m') → (f w = .inl (4, a) → ∀ m' y, fr_E lo hi alo ahi (p + 1) m m' → Q (.inr (64, y)) m') → (∀ c q, f w = .inl (c, q) → ∀ m', fr_E lo hi alo ahi (p + 1) m m' → m' 1 32 = c → m' 1 33 = q → Q (.inr (3, 26)) m') → am_wpc am_G am_T d (am_dsp 1000 (m r (-1))) [aR r, aR ar] m Q
/-- node r says f: on every memory that keeps its objects -/
def hNd (m : aM) (lo hi r : Int) (f : aD) (p : Int) : Prop := (lo ≤ r ∧ r ≤ hi) ∧ (13 ≤ m r (-1) ∧ m r (-1) ≤ 17) ∧ 1 ≤ p ∧ ∀ m', hKeep m m' lo hi → hSy m' lo hi r f p
theorem hNd.keep {m m' : aM} {lo hi r p : Int} {f : aD} (h : hNd m lo hi r f p) (k : hKeep m m' lo hi) : hNd m' lo hi r f p := ⟨h.1, by rw [(k r h.1.1 h.1.2).1]; exact h.2.1, h.2.2.1, fun m'' g => h.2.2.2 m'' (k.trans g)⟩
theorem lp_323 {m : aM} {lo hi r a p : Int} {f : aD} (hb : hNb m lo hi r a) (hw : hWk m lo hi r a f p) : hSy m lo hi r f p := by
  intro d Q ar alo ahi w hd hA hR hQ hQe
  obtain ⟨b1, b2, b3, b4, b5, b6⟩ := id hb
  obtain ⟨R1, R2, R3, R4, R5, R6, R7, R8⟩ := id hR
  obtain ⟨k, hk⟩ : ∃ k, d = k + 1 := ⟨d - 1, by omega⟩
  have kp : ∀ {m' : aM} {c : Int}, fr_E lo hi alo ahi c m m' → hKeep m m' lo hi := fun h => h.kp (by omega) R1.2
  refine am_in (k := k) rfl (by omega) (fun d hd => ?_)
  refine am_go 400 [] (am_wpc_cm _ _ _) wf_323 ?_
  refine And.intro (b2) ?_
  refine hw _ _ ar alo ahi w (by omega) hA hR (fun s v e mw1 x fe hv => ?_) (fun e mw2 y7 fe => ?_) (fun e mw3 y7 fe => ?_) (fun e mw4 y7 fe => ?_) (fun e mw5 y7 fe => ?_) (fun c q e mw6 fe e1 e2 => ?_)
  · exact hQ _ _ e _ _ fe hv
  · have hz := hb.keep (kp fe)
    have z0 := hz.1
    have z1 := hz.2.1
    have z2 := hz.2.2.1
    have z3 := hz.2.2.2.1
    have z4 : mw2 26 (-1) = 3 := (fe.tag (by omega) (by omega) (by omega)).trans R3
    refine And.intro (z1) ?_
    refine And.intro (z3) ?_
    refine And.intro (by rw [mS_iff, if_neg (by omega)]; exact z1) ?_
    refine And.intro (by rw [mS_iff, if_neg (by omega)]; exact z1) ?_
    refine And.intro (by rw [mS_iff, if_neg (by omega)]; exact z3) ?_
    refine And.intro (by rw [mS_iff, if_neg (by omega), mS_iff, if_neg (by omega)]; exact z1) ?_
    refine And.intro (by rw [mS_iff, if_neg (by omega), mS_iff, if_neg (by omega)]; exact z3) ?_
    refine And.intro ⟨by omega, Or.inl (by rw [mS_iff, if_neg (by omega), mS_iff, if_neg (by omega)]; exact z4)⟩ (And.intro rfl ?_)
    rw [show (mS (mS mw2 1 32 1) 1 33 ((mS mw2 1 32 1) r 0)) 26 (-1) = 3 by rw [mS_iff, if_neg (by omega), mS_iff, if_neg (by omega)]; exact z4]
    refine hQe _ _ e _ ⟨by rw [mS_a _ _ _ _ (by omega), mS_a _ _ _ _ (by omega)]; exact fe.1, by rw [mS_a _ _ _ _ (by omega), mS_a _ _ _ _ (by omega)]; exact fe.2.1, fun x j u v w y z => by rw [mS_iff, if_neg (by omega), mS_iff, if_neg (by omega)]; exact fe.2.2.1 x j u v w y z, fun j x y => by rw [mS_a _ _ _ _ (by omega), mS_a _ _ _ _ (by omega)]; exact fe.2.2.2 j x y⟩ rfl ?_
    rw [mS_iff, if_pos ⟨rfl, rfl⟩, mS_iff, if_neg (by omega)]; exact z2
  · have hz := hb.keep (kp fe)
    have z0 := hz.1
    have z1 := hz.2.1
    have z2 := hz.2.2.1
    have z3 := hz.2.2.2.1
    have z4 : mw3 26 (-1) = 3 := (fe.tag (by omega) (by omega) (by omega)).trans R3
    refine And.intro (z1) ?_
    refine And.intro (z3) ?_
    refine And.intro (by rw [mS_iff, if_neg (by omega)]; exact z1) ?_
    refine And.intro (by rw [mS_iff, if_neg (by omega)]; exact z1) ?_
    refine And.intro (by rw [mS_iff, if_neg (by omega)]; exact z3) ?_
    refine And.intro (by rw [mS_iff, if_neg (by omega), mS_iff, if_neg (by omega)]; exact z1) ?_
    refine And.intro (by rw [mS_iff, if_neg (by omega), mS_iff, if_neg (by omega)]; exact z3) ?_
    refine And.intro ⟨by omega, Or.inl (by rw [mS_iff, if_neg (by omega), mS_iff, if_neg (by omega)]; exact z4)⟩ (And.intro rfl ?_)
    rw [show (mS (mS mw3 1 32 2) 1 33 ((mS mw3 1 32 2) r 0)) 26 (-1) = 3 by rw [mS_iff, if_neg (by omega), mS_iff, if_neg (by omega)]; exact z4]
    refine hQe _ _ e _ ⟨by rw [mS_a _ _ _ _ (by omega), mS_a _ _ _ _ (by omega)]; exact fe.1, by rw [mS_a _ _ _ _ (by omega), mS_a _ _ _ _ (by omega)]; exact fe.2.1, fun x j u v w y z => by rw [mS_iff, if_neg (by omega), mS_iff, if_neg (by omega)]; exact fe.2.2.1 x j u v w y z, fun j x y => by rw [mS_a _ _ _ _ (by omega), mS_a _ _ _ _ (by omega)]; exact fe.2.2.2 j x y⟩ rfl ?_
    rw [mS_iff, if_pos ⟨rfl, rfl⟩, mS_iff, if_neg (by omega)]; exact z2
  · have hz := hb.keep (kp fe)
    have z0 := hz.1
    have z1 := hz.2.1
    have z2 := hz.2.2.1
    have z3 := hz.2.2.2.1
    have z4 : mw4 26 (-1) = 3 := (fe.tag (by omega) (by omega) (by omega)).trans R3
    refine And.intro (z1) ?_
    refine And.intro (z3) ?_
    refine And.intro (by rw [mS_iff, if_neg (by omega)]; exact z1) ?_
    refine And.intro (by rw [mS_iff, if_neg (by omega)]; exact z1) ?_
    refine And.intro (by rw [mS_iff, if_neg (by omega)]; exact z3) ?_
    refine And.intro (by rw [mS_iff, if_neg (by omega), mS_iff, if_neg (by omega)]; exact z1) ?_
    refine And.intro (by rw [mS_iff, if_neg (by omega), mS_iff, if_neg (by omega)]; exact z3) ?_
    refine And.intro ⟨by omega, Or.inl (by rw [mS_iff, if_neg (by omega), mS_iff, if_neg (by omega)]; exact z4)⟩ (And.intro rfl ?_)
    rw [show (mS (mS mw4 1 32 3) 1 33 ((mS mw4 1 32 3) r 0)) 26 (-1) = 3 by rw [mS_iff, if_neg (by omega), mS_iff, if_neg (by omega)]; exact z4]
    refine hQe _ _ e _ ⟨by rw [mS_a _ _ _ _ (by omega), mS_a _ _ _ _ (by omega)]; exact fe.1, by rw [mS_a _ _ _ _ (by omega), mS_a _ _ _ _ (by omega)]; exact fe.2.1, fun x j u v w y z => by rw [mS_iff, if_neg (by omega), mS_iff, if_neg (by omega)]; exact fe.2.2.1 x j u v w y z, fun j x y => by rw [mS_a _ _ _ _ (by omega), mS_a _ _ _ _ (by omega)]; exact fe.2.2.2 j x y⟩ rfl ?_
    rw [mS_iff, if_pos ⟨rfl, rfl⟩, mS_iff, if_neg (by omega)]; exact z2
  · have hz := hb.keep (kp fe)
    have z0 := hz.1
    have z1 := hz.2.1
    have z2 := hz.2.2.1
    have z3 := hz.2.2.2.1
    have z4 : mw5 26 (-1) = 3 := (fe.tag (by omega) (by omega) (by omega)).trans R3
    refine And.intro (z1) ?_
    refine And.intro (z3) ?_
    refine And.intro (by rw [mS_iff, if_neg (by omega)]; exact z1) ?_
    refine And.intro (by rw [mS_iff, if_neg (by omega)]; exact z1) ?_
    refine And.intro (by rw [mS_iff, if_neg (by omega)]; exact z3) ?_
    refine And.intro (by rw [mS_iff, if_neg (by omega), mS_iff, if_neg (by omega)]; exact z1) ?_
    refine And.intro (by rw [mS_iff, if_neg (by omega), mS_iff, if_neg (by omega)]; exact z3) ?_
    refine And.intro ⟨by omega, Or.inl (by rw [mS_iff, if_neg (by omega), mS_iff, if_neg (by omega)]; exact z4)⟩ (And.intro rfl ?_)
    rw [show (mS (mS mw5 1 32 4) 1 33 ((mS mw5 1 32 4) r 0)) 26 (-1) = 3 by rw [mS_iff, if_neg (by omega), mS_iff, if_neg (by omega)]; exact z4]
    refine hQe _ _ e _ ⟨by rw [mS_a _ _ _ _ (by omega), mS_a _ _ _ _ (by omega)]; exact fe.1, by rw [mS_a _ _ _ _ (by omega), mS_a _ _ _ _ (by omega)]; exact fe.2.1, fun x j u v w y z => by rw [mS_iff, if_neg (by omega), mS_iff, if_neg (by omega)]; exact fe.2.2.1 x j u v w y z, fun j x y => by rw [mS_a _ _ _ _ (by omega), mS_a _ _ _ _ (by omega)]; exact fe.2.2.2 j x y⟩ rfl ?_
    rw [mS_iff, if_pos ⟨rfl, rfl⟩, mS_iff, if_neg (by omega)]; exact z2
  · exact hQe _ _ e _ fe e1 e2
