/-! needs: b06 b07 -/
/-! CONTRACTS: what clauses are made of, house: frames, may, part; by tools/genb8.py -/
set_option maxRecDepth 100000
/-- parsing a clause: two cells, 30 slots for each part at the most; what stood ahead stands, but for the text's own places and the count of parts -/
def fr_Cl (m m' : aM) : Prop := (m 0 0 ≤ m' 0 0 ∧ m' 0 0 ≤ m 0 0 + 2 * (m' 1 34 - m 1 34)) ∧ (m 0 1 ≤ m' 0 1 ∧ m' 0 1 ≤ m 0 1 + 30 * (m' 1 34 - m 1 34)) ∧ (∀ x j, x ≠ 0 → x ≤ m 0 0 → (x ≠ 13 ∨ (j ≠ 5 ∧ j ≠ 6 ∧ j ≠ 7)) → (x ≠ 1 ∨ j ≠ 34) → m' x j = m x j) ∧ (∀ j, j ≠ 0 → j ≠ 1 → m' 0 j = m 0 j)
/-- all objects of a memory stand in another -/
def kK (m m' : aM) : Prop := m 0 0 ≤ m' 0 0 ∧ ∀ y j, 78 ≤ y → y ≤ m 0 0 → m' y j = m y j
theorem kK.rfl (m : aM) : kK m m := ⟨Int.le_refl _, fun _ _ _ _ => Eq.refl _⟩
theorem kK.trans {a b c : aM} (h : kK a b) (g : kK b c) : kK a c := ⟨Int.le_trans h.1 g.1, fun y j u v => (g.2 y j u (Int.le_trans v h.1)).trans (h.2 y j u v)⟩
theorem fr_Cl.K {a b : aM} (h : fr_Cl a b) : kK a b := ⟨h.1.1, fun y j u v => h.2.2.1 y j (by omega) v (by omega) (by omega)⟩
theorem fr_t.K {a b : aM} (h : fr_t a b) : kK a b := ⟨by rw [h 0 0 (by omega)]; omega, fun y j u v => h y j (by omega)⟩
theorem kK.N {a b c : aM} {r : Int} (h : kK a b) (n1 : c 0 0 = r) (n5 : ∀ x j, x ≠ 0 → x ≠ r → c x j = b x j) (hr : r = b 0 0 + 1) : kK a c := ⟨by have := h.1; omega, fun y j u v => (n5 y j (by omega) (by have := h.1; omega)).trans (h.2 y j u v)⟩
theorem fr_Cl.rfl (m : aM) : fr_Cl m m := ⟨by omega, by omega, fun _ _ _ _ _ _ => Eq.refl _, fun _ _ _ => Eq.refl _⟩
theorem fr_Cl.trans {a b e : aM} (h : fr_Cl a b) (g : fr_Cl b e) : fr_Cl a e := by
  obtain ⟨h1, h2, h3, h4⟩ := h
  obtain ⟨g1, g2, g3, g4⟩ := g
  exact ⟨by omega, by omega, fun x j u v w z => (g3 x j u (by omega) w z).trans (h3 x j u v w z), fun j u v => (g4 j u v).trans (h4 j u v)⟩
theorem fr_t.C {m m' : aM} (h : fr_t m m') : fr_Cl m m' := by
  have a := h 0 0 (by omega)
  have b := h 0 1 (by omega)
  have c := h 1 34 (by omega)
  exact ⟨by omega, by omega, fun x j _ _ c _ => h x j c, fun j _ _ => h 0 j (by omega)⟩
theorem fr_Cl.N {m a b : aM} {r t : Int} (h : fr_Cl m a) (n1 : b 0 0 = r) (n2 : b 0 1 = a 0 1 + t) (n5 : ∀ x j, x ≠ 0 → x ≠ r → b x j = a x j) (n6 : ∀ j, j ≠ 0 → j ≠ 1 → b 0 j = a 0 j) (hr : r = a 0 0 + 1) (hc : 1 ≤ m 0 0 ∧ a 0 0 + 1 ≤ m 0 0 + 2 * (a 1 34 - m 1 34)) (hs : 0 ≤ t ∧ a 0 1 + t ≤ m 0 1 + 30 * (a 1 34 - m 1 34)) : fr_Cl m b := by
  obtain ⟨h1, h2, h3, h4⟩ := h
  have e := n5 1 34 (by omega) (by omega)
  exact ⟨by omega, by omega, fun x j u v w z => (n5 x j u (by omega)).trans (h3 x j u v w z), fun j u v => (n6 j u v).trans (h4 j u v)⟩
theorem fr_Cl.O {m a b : aM} {r c s : Int} (h : fr_Cl m a) (g : fr_O r c s a b) (hr : m 0 0 < r) (h1 : 1 ≤ m 0 0) (hc : b 0 0 ≤ m 0 0 + 2 * (a 1 34 - m 1 34)) (hs : b 0 1 ≤ m 0 1 + 30 * (a 1 34 - m 1 34)) : fr_Cl m b := by
  obtain ⟨h1, h2, h3, h4⟩ := h
  obtain ⟨g1, g2, g3, g4⟩ := g
  have e := g3 1 34 (by omega) (by omega) (by omega)
  exact ⟨by omega, by omega, fun x j u v w z => (g3 x j u (by omega) (by omega)).trans (h3 x j u v w z), fun j u v => (g4 j u v).trans (h4 j u v)⟩
theorem hNd.mv {a b : aM} {lo hi x p : Int} {g : aD} (h : hNd a lo hi x g p) (e : ∀ y j, lo ≤ y → y ≤ hi → b y j = a y j) : hNd b lo hi x g p := h.keep (fun r u v => ⟨e r (-1) u v, fun _ => funext fun j => e r j u v⟩)
theorem hNd.hi {m : aM} {lo hi x p lo' hi' : Int} {g : aD} (h : hNd m lo hi x g p) (a : lo' ≤ lo) (b : hi ≤ hi') : hNd m lo' hi' x g p := by
  refine ⟨⟨by have := h.1; omega, by have := h.1; omega⟩, h.2.1, h.2.2.1, fun m2 k => ?_⟩
  have s := h.2.2.2 m2 (k.sub a b)
  intro d Q ar alo ahi w hd hA hR hQ hQe
  obtain ⟨R1, R2, R3⟩ := hR
  exact s d Q ar alo ahi w hd hA ⟨by omega, by omega, R3⟩ (fun t v e m' y fe hv => hQ t v e m' y (fe.wd a b (Int.le_refl _)) (hv.wd a b)) (fun c q e m' fe e1 e2 => hQe c q e m' (fe.wd a b (Int.le_refl _)) e1 e2)
theorem hNd.wd {m : aM} {lo hi x p p' : Int} {g : aD} (h : hNd m lo hi x g p) (e : p = p') : hNd m lo hi x g p' := e ▸ h
theorem ct_125 {d : Nat} {m : aM} {Q : aO → aM → Prop} {K A V : Int → Int} {N q f p : Int} (hd : 2 ≤ d) (hT : xT K A V N) (hx : hTx m K A V N q f p) (hQ1 : c_beg (K q) → Q (.inl (some (aI 1))) m) (hQ0 : ¬ c_beg (K q) → Q (.inl (some (aI 0))) m) : am_wpc am_G am_T d 125 [aR 1] m Q := by
  refine am_in rfl hd (fun d hd => ?_)
  refine am_go 400 [] (am_wpc_cm _ _ _) wf_125 ?_
  refine And.intro (rfl) ?_
  refine And.intro (rfl) ?_
  refine ct_161 (by omega) hT hx (fun v1 h2 => ?_)
  refine And.intro (fun h3 => ?_) (fun h3 => ?_)
  · refine And.intro (by first | omega | (simp only [mS_iff, eq_self, Int.reduceEq, true_and, and_true, false_and, and_false, and_self, ↓reduceIte]; omega) | (simp only [mS_iff, eq_self, Int.reduceEq, true_and, and_true, false_and, and_false, and_self, ↓reduceIte] at *; omega)) ?_
    exact hQ1 (by unfold c_beg; omega)
  · refine And.intro (fun h4 => ?_) (fun h4 => ?_)
    · refine And.intro (by first | omega | (simp only [mS_iff, eq_self, Int.reduceEq, true_and, and_true, false_and, and_false, and_self, ↓reduceIte]; omega) | (simp only [mS_iff, eq_self, Int.reduceEq, true_and, and_true, false_and, and_false, and_self, ↓reduceIte] at *; omega)) ?_
      exact hQ1 (by unfold c_beg; omega)
    · refine And.intro (fun h5 => ?_) (fun h5 => ?_)
      · refine And.intro (by first | omega | (simp only [mS_iff, eq_self, Int.reduceEq, true_and, and_true, false_and, and_false, and_self, ↓reduceIte]; omega) | (simp only [mS_iff, eq_self, Int.reduceEq, true_and, and_true, false_and, and_false, and_self, ↓reduceIte] at *; omega)) ?_
        exact hQ1 (by unfold c_beg; omega)
      · refine And.intro (fun h6 => ?_) (fun h6 => ?_)
        · refine And.intro (by first | omega | (simp only [mS_iff, eq_self, Int.reduceEq, true_and, and_true, false_and, and_false, and_self, ↓reduceIte]; omega) | (simp only [mS_iff, eq_self, Int.reduceEq, true_and, and_true, false_and, and_false, and_self, ↓reduceIte] at *; omega)) ?_
          exact hQ1 (by unfold c_beg; omega)
        · refine And.intro (fun h7 => ?_) (fun h7 => ?_)
          · refine And.intro (by first | omega | (simp only [mS_iff, eq_self, Int.reduceEq, true_and, and_true, false_and, and_false, and_self, ↓reduceIte]; omega) | (simp only [mS_iff, eq_self, Int.reduceEq, true_and, and_true, false_and, and_false, and_self, ↓reduceIte] at *; omega)) ?_
            exact hQ1 (by unfold c_beg; omega)
          · refine And.intro (fun h8 => ?_) (fun h8 => ?_)
            · refine And.intro (by first | omega | (simp only [mS_iff, eq_self, Int.reduceEq, true_and, and_true, false_and, and_false, and_self, ↓reduceIte]; omega) | (simp only [mS_iff, eq_self, Int.reduceEq, true_and, and_true, false_and, and_false, and_self, ↓reduceIte] at *; omega)) ?_
              exact hQ1 (by unfold c_beg; omega)
            · refine And.intro (fun h9 => ?_) (fun h9 => ?_)
              · refine And.intro (by first | omega | (simp only [mS_iff, eq_self, Int.reduceEq, true_and, and_true, false_and, and_false, and_self, ↓reduceIte]; omega) | (simp only [mS_iff, eq_self, Int.reduceEq, true_and, and_true, false_and, and_false, and_self, ↓reduceIte] at *; omega)) ?_
                exact hQ1 (by unfold c_beg; omega)
              · refine And.intro (fun h10 => ?_) (fun h10 => ?_)
                · refine And.intro (fun h11 => ?_) (fun h11 => ?_)
                  · refine And.intro (by first | omega | (simp only [mS_iff, eq_self, Int.reduceEq, true_and, and_true, false_and, and_false, and_self, ↓reduceIte]; omega) | (simp only [mS_iff, eq_self, Int.reduceEq, true_and, and_true, false_and, and_false, and_self, ↓reduceIte] at *; omega)) ?_
                    exact hQ0 (by unfold c_beg; omega)
                  · refine And.intro (by first | omega | (simp only [mS_iff, eq_self, Int.reduceEq, true_and, and_true, false_and, and_false, and_self, ↓reduceIte]; omega) | (simp only [mS_iff, eq_self, Int.reduceEq, true_and, and_true, false_and, and_false, and_self, ↓reduceIte] at *; omega)) ?_
                    exact hQ1 (by unfold c_beg; omega)
                · refine And.intro (fun h12 => ?_) (fun h12 => ?_)
                  · refine And.intro (by first | omega | (simp only [mS_iff, eq_self, Int.reduceEq, true_and, and_true, false_and, and_false, and_self, ↓reduceIte]; omega) | (simp only [mS_iff, eq_self, Int.reduceEq, true_and, and_true, false_and, and_false, and_self, ↓reduceIte] at *; omega)) ?_
                    exact hQ1 (by unfold c_beg; omega)
                  · refine And.intro (fun h13 => ?_) (fun h13 => ?_)
                    · refine And.intro (by first | omega | (simp only [mS_iff, eq_self, Int.reduceEq, true_and, and_true, false_and, and_false, and_self, ↓reduceIte]; omega) | (simp only [mS_iff, eq_self, Int.reduceEq, true_and, and_true, false_and, and_false, and_self, ↓reduceIte] at *; omega)) ?_
                      exact hQ0 (by unfold c_beg; omega)
                    · refine And.intro (by first | omega | (simp only [mS_iff, eq_self, Int.reduceEq, true_and, and_true, false_and, and_false, and_self, ↓reduceIte]; omega) | (simp only [mS_iff, eq_self, Int.reduceEq, true_and, and_true, false_and, and_false, and_self, ↓reduceIte] at *; omega)) ?_
                      exact hQ1 (by unfold c_beg; omega)
theorem ct_124 {d : Nat} {m : aM} {Q : aO → aM → Prop} {K A V : Int → Int} {N q f p : Int} {dep u : Int} (hd : 4 ≤ d) (hT : xT K A V N) (hx : hTx m K A V N q f p) (hu : u = 0 ∨ u = 1) (hdp : 0 ≤ dep ∧ dep ≤ 20) (hQf : f ≠ 0 → ∀ m', fr_t m m' → hTx m' K A V N q f p → Q (.inl (some (aI 0))) m') (hQw : f = 0 → ¬ (c_beg (K q) ∧ (u = 1 → K q ≠ 51)) → ∀ m', fr_t m m' → hTx m' K A V N q (x_wr (K q)) (A q) → Q (.inl (some (aI 0))) m') (hQd : f = 0 → (c_beg (K q) ∧ (u = 1 → K q ≠ 51)) → 15 ≤ dep → ∀ m', fr_t m m' → hTx m' K A V N q 5 (A q) → Q (.inl (some (aI 0))) m') (hQy : f = 0 → (c_beg (K q) ∧ (u = 1 → K q ≠ 51)) → ¬ 15 ≤ dep → Q (.inl (some (aI 1))) m) : am_wpc am_G am_T d 124 [aR 1, aI dep, aI u] m Q := by
  have hq := hx.2.1
  have hq2 := hx.2.2.1
  have hN := hT.1
  have hf := hx.2.2.2.1
  have hf2 := hx.2.2.2.2.1
  refine am_in rfl hd (fun d hd => ?_)
  refine am_go 400 [] (am_wpc_cm _ _ _) wf_124 ?_
  by_cases f0 : f = 0
  · skip
    refine And.intro (rfl) ?_
    refine And.intro (rfl) ?_
    refine And.intro (fun h => absurd h (by omega)) (fun _ => ?_)
    refine And.intro (rfl) ?_
    refine ct_125 (by omega) hT hx (fun h1 => ?_) (fun h1 => ?_)
    · have bg := h1
      refine And.intro (fun h => absurd h (by decide)) (fun _ => ?_)
      refine And.intro (fun h2 => ?_) (fun h2 => ?_)
      · refine And.intro (fun h3 => ?_) (fun h3 => ?_)
        · refine And.intro (rfl) ?_
          refine And.intro (rfl) ?_
          refine And.intro (fun h => absurd h (by have := hx.2.2.2.1; omega)) (fun _ => ?_)
          refine And.intro (by first | omega | (simp only [mS_iff, eq_self, Int.reduceEq, true_and, and_true, false_and, and_false, and_self, ↓reduceIte]; omega) | (simp only [mS_iff, eq_self, Int.reduceEq, true_and, and_true, false_and, and_false, and_self, ↓reduceIte] at *; omega)) ?_
          exact hQy f0 ⟨bg, fun _ => by omega⟩ (by omega)
        · refine And.intro (rfl) ?_
          refine And.intro (rfl) ?_
          refine And.intro (rfl) ?_
          refine And.intro (rfl) ?_
          refine And.intro (rfl) ?_
          have ax : m 16 (m 13 5) = A q := by rw [hx.2.1]; exact (hx.1 _ hx.2.2.1.1 hx.2.2.1.2).2.1
          refine And.intro (⟨rfl, by omega⟩) ?_
          refine And.intro (rfl) ?_
          refine ct_156 (by omega) hT hx (by omega) (fun mr ft2 hy => ?_)
          rw [if_pos f0, if_pos f0, ax] at hy
          have hx := hy
          refine And.intro (rfl) ?_
          refine And.intro (rfl) ?_
          refine And.intro (fun _ => ?_) (fun h => absurd h (by have := hx.2.2.2.1; omega))
          refine And.intro (by first | omega | (simp only [mS_iff, eq_self, Int.reduceEq, true_and, and_true, false_and, and_false, and_self, ↓reduceIte]; omega) | (simp only [mS_iff, eq_self, Int.reduceEq, true_and, and_true, false_and, and_false, and_self, ↓reduceIte] at *; omega)) ?_
          exact hQd f0 ⟨bg, fun _ => by omega⟩ (by omega) _ ft2 hx
      · refine And.intro (rfl) ?_
        refine And.intro (rfl) ?_
        refine ct_161 (by omega) hT hx (fun v4 h5 => ?_)
        refine And.intro (fun h6 => ?_) (fun h6 => ?_)
        · refine And.intro (fun h7 => ?_) (fun h7 => ?_)
          · refine And.intro (rfl) ?_
            refine And.intro (rfl) ?_
            refine And.intro (fun h => absurd h (by have := hx.2.2.2.1; omega)) (fun _ => ?_)
            refine And.intro (by first | omega | (simp only [mS_iff, eq_self, Int.reduceEq, true_and, and_true, false_and, and_false, and_self, ↓reduceIte]; omega) | (simp only [mS_iff, eq_self, Int.reduceEq, true_and, and_true, false_and, and_false, and_self, ↓reduceIte] at *; omega)) ?_
            exact hQy f0 ⟨bg, fun _ => by omega⟩ (by omega)
          · refine And.intro (rfl) ?_
            refine And.intro (rfl) ?_
            refine And.intro (rfl) ?_
            refine And.intro (rfl) ?_
            refine And.intro (rfl) ?_
            have ax : m 16 (m 13 5) = A q := by rw [hx.2.1]; exact (hx.1 _ hx.2.2.1.1 hx.2.2.1.2).2.1
            refine And.intro (⟨rfl, by omega⟩) ?_
            refine And.intro (rfl) ?_
            refine ct_156 (by omega) hT hx (by omega) (fun mr ft2 hy => ?_)
            rw [if_pos f0, if_pos f0, ax] at hy
            have hx := hy
            refine And.intro (rfl) ?_
            refine And.intro (rfl) ?_
            refine And.intro (fun _ => ?_) (fun h => absurd h (by have := hx.2.2.2.1; omega))
            refine And.intro (by first | omega | (simp only [mS_iff, eq_self, Int.reduceEq, true_and, and_true, false_and, and_false, and_self, ↓reduceIte]; omega) | (simp only [mS_iff, eq_self, Int.reduceEq, true_and, and_true, false_and, and_false, and_self, ↓reduceIte] at *; omega)) ?_
            exact hQd f0 ⟨bg, fun _ => by omega⟩ (by omega) _ ft2 hx
        · refine And.intro (rfl) ?_
          refine And.intro (rfl) ?_
          refine ct_155 (by omega) hT hx (fun mq ft hy => ?_)
          rw [if_pos f0, if_pos f0] at hy
          have hx := hy
          have nw : x_wr (K q) ≠ 0 := by unfold x_wr; omega
          have hq := hx.2.1
          have hq2 := hx.2.2.1
          refine And.intro (fun h8 => ?_) (fun h8 => ?_)
          · refine And.intro (rfl) ?_
            refine And.intro (rfl) ?_
            refine And.intro (fun _ => ?_) (fun h => absurd h (by have := hx.2.2.2.1; omega))
            refine And.intro (by first | omega | (simp only [mS_iff, eq_self, Int.reduceEq, true_and, and_true, false_and, and_false, and_self, ↓reduceIte]; omega) | (simp only [mS_iff, eq_self, Int.reduceEq, true_and, and_true, false_and, and_false, and_self, ↓reduceIte] at *; omega)) ?_
            exact hQw f0 (fun h => h.2 (by omega) (by omega)) _ ft hx
          · refine And.intro (rfl) ?_
            refine And.intro (rfl) ?_
            refine And.intro (rfl) ?_
            refine And.intro (rfl) ?_
            refine And.intro (rfl) ?_
            have ax : mq 16 (mq 13 5) = A q := by rw [hx.2.1]; exact (hx.1 _ hx.2.2.1.1 hx.2.2.1.2).2.1
            refine And.intro (⟨rfl, by omega⟩) ?_
            refine And.intro (rfl) ?_
            refine ct_156 (by omega) hT hx (by omega) (fun mr ft2 hy => ?_)
            rw [if_neg nw, if_neg nw] at hy
            have hx := hy
            refine And.intro (rfl) ?_
            refine And.intro (rfl) ?_
            refine And.intro (fun _ => ?_) (fun h => absurd h (by have := hx.2.2.2.1; omega))
            refine And.intro (by first | omega | (simp only [mS_iff, eq_self, Int.reduceEq, true_and, and_true, false_and, and_false, and_self, ↓reduceIte]; omega) | (simp only [mS_iff, eq_self, Int.reduceEq, true_and, and_true, false_and, and_false, and_self, ↓reduceIte] at *; omega)) ?_
            exact hQw f0 (fun h => h.2 (by omega) (by omega)) _ (ft.trans ft2) hx
    · have bg := h1
      refine And.intro (fun _ => ?_) (fun h => absurd h (by decide))
      refine And.intro (rfl) ?_
      refine And.intro (rfl) ?_
      refine ct_155 (by omega) hT hx (fun mq ft hy => ?_)
      rw [if_pos f0, if_pos f0] at hy
      have hx := hy
      have nw : x_wr (K q) ≠ 0 := by unfold x_wr; omega
      have hq := hx.2.1
      have hq2 := hx.2.2.1
      refine And.intro (fun h9 => ?_) (fun h9 => ?_)
      · refine And.intro (rfl) ?_
        refine And.intro (rfl) ?_
        refine And.intro (fun _ => ?_) (fun h => absurd h (by have := hx.2.2.2.1; omega))
        refine And.intro (by first | omega | (simp only [mS_iff, eq_self, Int.reduceEq, true_and, and_true, false_and, and_false, and_self, ↓reduceIte]; omega) | (simp only [mS_iff, eq_self, Int.reduceEq, true_and, and_true, false_and, and_false, and_self, ↓reduceIte] at *; omega)) ?_
        exact hQw f0 (fun h => bg h.1) _ ft hx
      · refine And.intro (rfl) ?_
        refine And.intro (rfl) ?_
        refine And.intro (rfl) ?_
        refine And.intro (rfl) ?_
        refine And.intro (rfl) ?_
        have ax : mq 16 (mq 13 5) = A q := by rw [hx.2.1]; exact (hx.1 _ hx.2.2.1.1 hx.2.2.1.2).2.1
        refine And.intro (⟨rfl, by omega⟩) ?_
        refine And.intro (rfl) ?_
        refine ct_156 (by omega) hT hx (by omega) (fun mr ft2 hy => ?_)
        rw [if_neg nw, if_neg nw] at hy
        have hx := hy
        refine And.intro (rfl) ?_
        refine And.intro (rfl) ?_
        refine And.intro (fun _ => ?_) (fun h => absurd h (by have := hx.2.2.2.1; omega))
        refine And.intro (by first | omega | (simp only [mS_iff, eq_self, Int.reduceEq, true_and, and_true, false_and, and_false, and_self, ↓reduceIte]; omega) | (simp only [mS_iff, eq_self, Int.reduceEq, true_and, and_true, false_and, and_false, and_self, ↓reduceIte] at *; omega)) ?_
        exact hQw f0 (fun h => bg h.1) _ (ft.trans ft2) hx
  · skip
    refine And.intro (rfl) ?_
    refine And.intro (rfl) ?_
    refine And.intro (fun _ => ?_) (fun h => absurd h (by omega))
    refine And.intro (fun h10 => ?_) (fun h10 => ?_)
    · refine And.intro (rfl) ?_
      refine And.intro (rfl) ?_
      refine And.intro (fun _ => ?_) (fun h => absurd h (by have := hx.2.2.2.1; omega))
      refine And.intro (by first | omega | (simp only [mS_iff, eq_self, Int.reduceEq, true_and, and_true, false_and, and_false, and_self, ↓reduceIte]; omega) | (simp only [mS_iff, eq_self, Int.reduceEq, true_and, and_true, false_and, and_false, and_self, ↓reduceIte] at *; omega)) ?_
      exact hQf f0 _ (fr_t.rfl m) hx
    · refine And.intro (rfl) ?_
      refine And.intro (rfl) ?_
      refine And.intro (rfl) ?_
      refine And.intro (rfl) ?_
      refine And.intro (rfl) ?_
      have ax : m 16 (m 13 5) = A q := by rw [hx.2.1]; exact (hx.1 _ hx.2.2.1.1 hx.2.2.1.2).2.1
      refine And.intro (⟨rfl, by omega⟩) ?_
      refine And.intro (rfl) ?_
      refine ct_156 (by omega) hT hx (by omega) (fun mr ft2 hy => ?_)
      rw [if_neg f0, if_neg f0] at hy
      have hx := hy
      refine And.intro (rfl) ?_
      refine And.intro (rfl) ?_
      refine And.intro (fun _ => ?_) (fun h => absurd h (by have := hx.2.2.2.1; omega))
      refine And.intro (by first | omega | (simp only [mS_iff, eq_self, Int.reduceEq, true_and, and_true, false_and, and_false, and_self, ↓reduceIte]; omega) | (simp only [mS_iff, eq_self, Int.reduceEq, true_and, and_true, false_and, and_false, and_self, ↓reduceIte] at *; omega)) ?_
      exact hQf f0 _ ft2 hx
theorem ct_128 {d : Nat} {m : aM} {Q : aO → aM → Prop} {K A V : Int → Int} {N q p : Int} {q0 : Int} (hd : 2 ≤ d) (hT : xT K A V N) (hx : hTx m K A V N q 0 p) (hq0 : q = q0 + 1) (hk : 0 ≤ q0 ∧ 0 ≤ m 1 34 ∧ m 1 34 ≤ 24) (hQ1 : ¬ 24 ≤ m 1 34 → ∀ m', fr_Cl m m' → m' 1 34 = m 1 34 + 1 → hTx m' K A V N q 0 p → m' 0 0 = m 0 0 → m' 0 1 = m 0 1 → Q (.inl none) m') (hQ0 : 24 ≤ m 1 34 → ∀ m', fr_Cl m m' → m' 1 34 = m 1 34 + 1 → hTx m' K A V N q 5 (A q0) → m' 0 0 = m 0 0 → m' 0 1 = m 0 1 → Q (.inl none) m') : am_wpc am_G am_T d 128 [aR 1] m Q := by
  have hq := hx.2.1
  have hq2 := hx.2.2.1
  have hN := hT.1
  refine am_in rfl hd (fun d hd => ?_)
  refine am_go 400 [] (am_wpc_cm _ _ _) wf_128 ?_
  refine And.intro (rfl) ?_
  refine And.intro (show -2147483648 ≤ (m 1 34) + 1 ∧ (m 1 34) + 1 ≤ 2147483647 by first | omega | (simp only [mS_iff, eq_self, Int.reduceEq, true_and, and_true, false_and, and_false, and_self, ↓reduceIte]; omega) | (simp only [mS_iff, eq_self, Int.reduceEq, true_and, and_true, false_and, and_false, and_self, ↓reduceIte] at *; omega)) ?_
  refine And.intro (rfl) ?_
  obtain ⟨ma, ea⟩ : ∃ z, z = (mS m 1 34 ((m 1 34) + 1)) := ⟨_, rfl⟩
  rw [← ea]
  have a1 : ma 1 34 = m 1 34 + 1 := by rw [ea, mS_iff, if_pos ⟨rfl, rfl⟩]
  have a2 : ∀ x j, (x ≠ 1 ∨ j ≠ 34) → ma x j = m x j := fun x j h => by rw [ea, mS_iff, if_neg (by omega)]
  have a00 := a2 0 0 (by omega)
  have a01 := a2 0 1 (by omega)
  have hx : hTx ma K A V N q 0 p := hx.keep (fun x j u v => a2 x j (by omega))
  have fc : fr_Cl m ma := ⟨by omega, by omega, fun x j _ _ _ z => a2 x j z, fun j _ _ => a2 0 j (by omega)⟩
  have hq := hx.2.1
  refine And.intro (rfl) ?_
  refine And.intro (fun h1 => ?_) (fun h1 => ?_)
  · exact hQ1 (by omega) _ fc a1 hx a00 a01
  · refine And.intro (rfl) ?_
    refine And.intro (rfl) ?_
    refine And.intro (rfl) ?_
    refine And.intro (rfl) ?_
    refine And.intro (rfl) ?_
    refine And.intro (show -2147483648 ≤ (ma 13 5) - 1 ∧ (ma 13 5) - 1 ≤ 2147483647 by first | omega | (simp only [mS_iff, eq_self, Int.reduceEq, true_and, and_true, false_and, and_false, and_self, ↓reduceIte]; omega) | (simp only [mS_iff, eq_self, Int.reduceEq, true_and, and_true, false_and, and_false, and_self, ↓reduceIte] at *; omega)) ?_
    have ax : ma 16 (ma 13 5 - 1) = A q0 := by rw [hx.2.1, show q - 1 = q0 by omega]; exact (hx.1 _ (by omega) (by omega)).2.1
    refine And.intro (⟨rfl, by omega⟩) ?_
    refine And.intro (rfl) ?_
    refine ct_156 (by omega) hT hx (by omega) (fun mr ft hy => ?_)
    rw [if_pos rfl, if_pos rfl, ax] at hy
    have hx := hy
    exact hQ0 (by omega) _ (fc.trans ft.C) (by rw [ft 1 34 (by omega)]; omega) hx (by rw [ft 0 0 (by omega)]; omega) (by rw [ft 0 1 (by omega)]; omega)
/-- the parser y of the house tells what the spec's mode j says, at fuel n -/
def hCa (K A V : Int → Int) (N : Int) (y : Nat) (j rk : Int) (n : Nat) : Prop := ∀ (d : Nat) (m : aM) (Q : aO → aM → Prop) (dep q f p : Int) (g0 : aD), 4 * (16 - dep) + rk + 8 ≤ (d : Int) → hTx m K A V N q f p → (0 ≤ dep ∧ dep ≤ 15 ∧ (j = 2 ∨ j = 5 ∨ j = 7 → dep ≤ 14)) → (77 ≤ m 0 0 ∧ m 0 0 + 2 * (25 - m 1 34) ≤ amC ∧ 0 ≤ m 0 1 ∧ m 0 1 + 30 * (25 - m 1 34) ≤ amS ∧ 0 ≤ m 1 34 ∧ m 1 34 ≤ 25) → (f = 0 → m 1 34 ≤ 24) → 20 * (N - q) + (10 - j) ≤ (n : Int) →
  (f ≠ 0 → ∀ m', fr_Cl m m' → m' 1 34 = m 1 34 → hTx m' K A V N q f p → Q (.inl (some (aR 0))) m') →
  (f = 0 → ∀ c pl, c_x K A V n j dep q (m 1 34) g0 = .inl (c, pl) → ∀ m' r q', fr_Cl m m' → m' 1 34 ≤ 25 → hTx m' K A V N q' c pl → c ≠ 0 → q ≤ q' → Q (.inl (some (aR r))) m') →
  (f = 0 → ∀ q' k' g, c_x K A V n j dep q (m 1 34) g0 = .inr (q', k', g) → ∀ m' r, fr_Cl m m' → m' 1 34 = k' → m 1 34 < k' ∧ k' ≤ 24 → q < q' → hTx m' K A V N q' 0 p → hNd m' (m 0 0 + 1) (m' 0 0) r g (k' - m 1 34) → Q (.inl (some (aR r))) m') → am_wpc am_G am_T d y [aR 1, aI dep] m Q
def hCP (K A V : Int → Int) (N : Int) (n : Nat) : Prop := hCa K A V N 123 0 3 n ∧ hCa K A V N 126 2 2 n ∧ hCa K A V N 127 4 3 n ∧ hCa K A V N 129 5 2 n ∧ hCa K A V N 130 7 1 n ∧ hCa K A V N 131 9 3 n
