/-! needs: a06 -/
/-! CONTRACTS: settling of the house; by tools/gena7.py -/
set_option maxRecDepth 100000
def e_ip (m : aM) (r : Int) : Prop := m r 3 = 1 ∧ 0 < m r 4 ∧ m r 0 = 0
/-- the part of a layer that may change places, else none -/
noncomputable def e_kr (m : aM) (r : Int) : Nat := @ite _ (e_ip m r) (Classical.propDecidable _) (m r 4).toNat 0
/-- an array of layers -/
def aLs (m : aM) (a : Int) (l : List Int) : Prop := m a (-1) = 45 ∧ m a (-2) = l.length ∧ ∀ k : Nat, k < l.length → m a k = l.getD k 0
theorem e_kr_y {m : aM} {r : Int} (h : e_ip m r) : e_kr m r = (m r 4).toNat := by unfold e_kr; rw [if_pos h]
theorem e_kr_n {m : aM} {r : Int} (h : ¬ e_ip m r) : e_kr m r = 0 := by unfold e_kr; rw [if_neg h]
theorem e_kr_c {m m' : aM} {r : Int} (h : ∀ j, m' r j = m r j) : e_kr m' r = e_kr m r := by
  by_cases c : e_ip m r
  · rw [e_kr_y c, e_kr_y (by unfold e_ip at *; rw [h, h, h]; exact c), h]
  · rw [e_kr_n c, e_kr_n (by unfold e_ip at *; rw [h, h, h]; exact c)]
theorem e_leg_y {m : aM} {x y : Int} (hx : e_ip m x) (hy : e_ip m y) (h : m y 4 < m x 4) : e_leg (e_kr m) x y = true := by
  unfold e_leg; rw [e_kr_y hx, e_kr_y hy]
  have := hx.2.1; have := hy.2.1
  simp only [Bool.and_eq_true, Nat.ble_eq]
  exact ⟨by omega, by rw [Nat.blt_eq]; omega⟩
theorem e_leg_n {m : aM} {x y : Int} (h : ¬ (e_ip m x ∧ e_ip m y ∧ m y 4 < m x 4)) : e_leg (e_kr m) x y = false := by
  by_cases hy : e_ip m y
  · by_cases hx : e_ip m x
    · have h3 : ¬ m y 4 < m x 4 := fun z => h ⟨hx, hy, z⟩
      unfold e_leg; rw [e_kr_y hx, e_kr_y hy]
      have := hx.2.1; have := hy.2.1
      rw [Bool.and_eq_false_iff]
      exact Or.inr (by rw [Bool.eq_false_iff]; intro z; rw [Nat.blt_eq] at z; omega)
    · unfold e_leg; rw [e_kr_n hx, Bool.and_eq_false_iff]
      exact Or.inr (by rw [Bool.eq_false_iff]; intro z; rw [Nat.blt_eq] at z; omega)
  · unfold e_leg; rw [e_kr_n hy]; rfl
theorem aLs.at {m : aM} {a : Int} {l : List Int} (h : aLs m a l) {i : Int} {u v : List Int} {x : Int} (e : l = u ++ x :: v) (hi : i = u.length) : m a i = x := by
  have := h.2.2 u.length (by rw [e]; simp)
  rw [hi, this, e]
  simp [List.getD]
theorem aLs.sw {m : aM} {a : Int} {u v : List Int} {x y i j : Int} (h : aLs m a (u ++ x :: y :: v)) (hi : i = u.length) (hj : j = u.length + 1) : aLs (mS (mS m a j x) a i y) a (u ++ y :: x :: v) := by
  obtain ⟨h1, h2, h3⟩ := h
  refine ⟨by rw [mS_iff, if_neg (by omega), mS_iff, if_neg (by omega)]; exact h1, by rw [mS_iff, if_neg (by omega), mS_iff, if_neg (by omega), h2]; simp, fun k hk => ?_⟩
  have hk' : k < (u ++ x :: y :: v).length := by simpa using hk
  have h4 := h3 k hk'
  by_cases e1 : k = u.length
  · rw [mS_iff, if_pos ⟨rfl, by omega⟩, e1]; simp [List.getD]
  · rw [mS_iff, if_neg (by omega)]
    by_cases e2 : k = u.length + 1
    · rw [mS_iff, if_pos ⟨rfl, by omega⟩, e2]
      rw [List.getD_eq_getElem?_getD, List.getElem?_append_right (by omega)]
      simp
    · rw [mS_iff, if_neg (by omega), h4]
      by_cases e3 : k < u.length
      · rw [List.getD_eq_getElem?_getD, List.getD_eq_getElem?_getD, List.getElem?_append_left e3, List.getElem?_append_left e3]
      · rw [List.getD_eq_getElem?_getD, List.getD_eq_getElem?_getD, List.getElem?_append_right (by omega), List.getElem?_append_right (by omega)]
        obtain ⟨z, hz⟩ : ∃ z, k - u.length = z + 2 := ⟨k - u.length - 2, by omega⟩
        rw [hz]; simp
theorem e_nil {xs : List Int} (h : (xs.length : Int) ≤ 0) : xs = [] := by
  cases xs with
  | nil => rfl
  | cons _ _ => exfalso; simp at h; omega
/-- the first layer is not overall -/
def e_m1 (m : aM) : List Int → aM
  | [] => m
  | x :: _ => mS m x 0 0
theorem ct_171 {d : Nat} {m : aM} {Q : aO → aM → Prop} {r : Int} (hd : 1 ≤ d) (ht : 0 < r ∧ m r (-1) = 7) (hQ1 : e_ip m r → Q (.inl (some (aI 1))) m) (hQ0 : ¬ (e_ip m r) → Q (.inl (some (aI 0))) m) : am_wpc am_G am_T d 171 [aR r] m Q := by
  refine am_in rfl hd (fun d hd => ?_)
  refine am_go 400 [] (am_wpc_cm _ _ _) wf_171 ?_
  refine And.intro (show (m r (-1)) = 7 by first | assumption | omega | (simp only [mS_iff, eq_self, Int.reduceEq, true_and, and_true, false_and, and_false, and_self, ↓reduceIte]; omega) | (simp only [mS_iff, eq_self, Int.reduceEq, true_and, and_true, false_and, and_false, and_self, ↓reduceIte] at *; omega)) ?_
  refine And.intro (fun h1 => ?_) (fun h1 => ?_)
  · refine And.intro (by first | omega | (simp only [mS_iff, eq_self, Int.reduceEq, true_and, and_true, false_and, and_false, and_self, ↓reduceIte]; omega) | (simp only [mS_iff, eq_self, Int.reduceEq, true_and, and_true, false_and, and_false, and_self, ↓reduceIte] at *; omega)) ?_
    exact hQ0 (by unfold e_ip; omega)
  · refine And.intro (show (m r (-1)) = 7 by first | assumption | omega | (simp only [mS_iff, eq_self, Int.reduceEq, true_and, and_true, false_and, and_false, and_self, ↓reduceIte]; omega) | (simp only [mS_iff, eq_self, Int.reduceEq, true_and, and_true, false_and, and_false, and_self, ↓reduceIte] at *; omega)) ?_
    refine And.intro (fun h2 => ?_) (fun h2 => ?_)
    · refine And.intro (by first | omega | (simp only [mS_iff, eq_self, Int.reduceEq, true_and, and_true, false_and, and_false, and_self, ↓reduceIte]; omega) | (simp only [mS_iff, eq_self, Int.reduceEq, true_and, and_true, false_and, and_false, and_self, ↓reduceIte] at *; omega)) ?_
      exact hQ0 (by unfold e_ip; omega)
    · refine And.intro (show (m r (-1)) = 7 by first | assumption | omega | (simp only [mS_iff, eq_self, Int.reduceEq, true_and, and_true, false_and, and_false, and_self, ↓reduceIte]; omega) | (simp only [mS_iff, eq_self, Int.reduceEq, true_and, and_true, false_and, and_false, and_self, ↓reduceIte] at *; omega)) ?_
      refine And.intro (fun h3 => ?_) (fun h3 => ?_)
      · refine And.intro (by first | omega | (simp only [mS_iff, eq_self, Int.reduceEq, true_and, and_true, false_and, and_false, and_self, ↓reduceIte]; omega) | (simp only [mS_iff, eq_self, Int.reduceEq, true_and, and_true, false_and, and_false, and_self, ↓reduceIte] at *; omega)) ?_
        exact hQ0 (by unfold e_ip; omega)
      · refine And.intro (by first | omega | (simp only [mS_iff, eq_self, Int.reduceEq, true_and, and_true, false_and, and_false, and_self, ↓reduceIte]; omega) | (simp only [mS_iff, eq_self, Int.reduceEq, true_and, and_true, false_and, and_false, and_self, ↓reduceIte] at *; omega)) ?_
        exact hQ1 (by unfold e_ip; omega)
theorem ct_54 {d : Nat} {m : aM} {Q : aO → aM → Prop} {a : Int} {l : List Int} (hd : 2 ≤ d) (ha : 0 < a) (hl : l.length ≤ 6) (hc : aLs m a l) (ht : ∀ x ∈ l, 0 < x ∧ m x (-1) = 7) (hQ : ∀ m', (∀ x j, x ≠ a → m' x j = e_m1 m l x j) → aLs m' a (e_ins (e_kr (e_m1 m l)) [] l) → Q (.inl none) m') : am_wpc am_G am_T d 54 [aR a] m Q := by
  have tg : ∀ y, e_m1 m l y (-1) = m y (-1) := fun y => by cases l with
    | nil => rfl
    | cons z l' => show mS m z 0 0 y (-1) = _; rw [mS_iff, if_neg (by omega)]
  obtain ⟨m1, em1⟩ : ∃ z, z = e_m1 m l := ⟨_, rfl⟩
  rw [← em1] at hQ tg
  have hP0 : ∀ x ∈ l, 0 < x ∧ x ≠ a ∧ m1 x (-1) = 7 := fun x hx => ⟨(ht x hx).1, fun e => by have := (ht x hx).2; have := hc.1; rw [e] at *; omega, by rw [tg]; exact (ht x hx).2⟩
  obtain ⟨FIN, eF⟩ : ∃ z, z = e_ins (e_kr m1) [] l := ⟨_, rfl⟩
  rw [← eF] at hQ
  have hc1 := hc.1
  have hc2 := hc.2.1
  refine am_in rfl hd (fun d hd => ?_)
  have K14 : ∀ (N : Nat), ∀ (i : Int) (acc : List Int) (rest : List Int) (zz : aV) (z : aV), ∀ (mw : aM), ((rest.length : Int)).toNat = N → ((acc.length : Int) ≤ i ∧ (rest ≠ [] → i = (acc.length : Int)) ∧ i ≤ 6 ∧ (acc.length : Int) + (rest.length : Int) ≤ 6) → (aLs mw a (acc.reverse ++ rest)) → (∀ x ∈ acc.reverse ++ rest, 0 < x ∧ x ≠ a ∧ m1 x (-1) = 7) → (e_ins (e_kr m1) acc rest = FIN) → (∀ x j, x ≠ a → mw x j = m1 x j) → am_WP am_G (am_wpc am_G am_T d) [] cd_54 Q 14 [aR a, aI i, zz, z] [] mw := by
    intro N
    induction N using Nat.strongRecOn with
    | _ N ih14 =>
      intro i acc rest zz z mw hN hi hcn hP hF fm
      have hn2 := hcn.2.1
      have hn1 := hcn.1
      have hln : (acc.reverse ++ rest).length = acc.length + rest.length := by simp
      rw [hln] at hn2
      have K22 : ∀ (N : Nat), ∀ (j : Int) (xs : List Int) (ps : List Int) (y : Int) (rest' : List Int) (z : aV), ∀ (mu : aM), ((xs.length : Int)).toNat = N → (j = (xs.length : Int)) → (i = (xs.length : Int) + (ps.length : Int) ∧ i ≤ 5 ∧ (xs.length : Int) + (ps.length : Int) + 1 + (rest'.length : Int) ≤ 6) → (rest'.length + 1 = rest.length) → (aLs mu a (xs.reverse ++ y :: (ps ++ rest'))) → (∀ x ∈ xs.reverse ++ y :: (ps ++ rest'), 0 < x ∧ x ≠ a ∧ m1 x (-1) = 7) → (e_ins (e_kr m1) (ps.reverse ++ e_insR (e_kr m1) xs y) rest' = FIN) → (∀ x j, x ≠ a → mu x j = m1 x j) → am_WP am_G (am_wpc am_G am_T d) [] cd_54 Q 22 [aR a, aI i, aI j, z] [] mu := by
        intro N
        induction N using Nat.strongRecOn with
        | _ N ih22 =>
          intro j xs ps y rest' z mu hN hj hi2 hlt hcn hP hE fm
          have hn2 := hcn.2.1
          have hn1 := hcn.1
          have hln : (xs.reverse ++ y :: (ps ++ rest')).length = xs.length + 1 + ps.length + rest'.length := by simp; omega
          rw [hln] at hn2
          have K87 : (e_insR (e_kr m1) xs y = y :: xs) → am_WP am_G (am_wpc am_G am_T d) [] cd_54 Q 87 [aR a, aI i, aI j, z] [] mu := by
            intro hno
            refine am_go 400 [14, 22, 87] (am_wpc_cm _ _ _) wf_54 ?_
            refine And.intro (show -2147483648 ≤ i + 1 ∧ i + 1 ≤ 2147483647 by first | omega | (simp only [mS_iff, eq_self, Int.reduceEq, true_and, and_true, false_and, and_false, and_self, ↓reduceIte]; omega) | (simp only [mS_iff, eq_self, Int.reduceEq, true_and, and_true, false_and, and_false, and_self, ↓reduceIte] at *; omega)) ?_
            refine ih14 _ ?_ _ (ps.reverse ++ y :: xs) (rest') _ _ _ (Eq.refl _) ?_ ?_ ?_ ?_ ?_
            · omega
            · simp
              omega
            · rw [hno] at hE; simpa using hcn
            · simpa using hP
            · rw [hno] at hE; exact hE
            · exact fm
          refine am_go 400 [14, 22, 87] (am_wpc_cm _ _ _) wf_54 ?_
          refine And.intro (fun h1 => ?_) (fun h1 => ?_)
          · refine K87 ?_
            · first
                | (rw [show xs = [] from e_nil (by omega)]; rfl)
                | exact NO (fun z => cy z.2.1)
                | exact NO (fun z => cx z.1)
                | exact NO (fun z => by have := z.2.2; omega)
          · obtain ⟨x, xs', er⟩ : ∃ x r', xs = x :: r' := by (cases xs with | nil => (simp at hj; omega) | cons y r' => exact ⟨y, r', rfl⟩)
            subst er
            have hcx : aLs mu a (xs'.reverse ++ x :: y :: (ps ++ rest')) := by simpa using hcn
            have hj' : j = (xs'.length : Int) + 1 := by simpa using hj
            have rj : mu a j = y := hcx.at (u := xs'.reverse ++ [x]) (v := ps ++ rest') (by simp) (by simp; omega)
            have rx : mu a (j - 1) = x := hcx.at (u := xs'.reverse) (v := y :: (ps ++ rest')) (by simp) (by simp; omega)
            have px := hP x (by simp)
            have py := hP y (by simp)
            have fx : ∀ j, mu x j = m1 x j := fun j => fm x j px.2.1
            have fy : ∀ j, mu y j = m1 y j := fun j => fm y j py.2.1
            have tx : mu x (-1) = 7 := by rw [fx]; exact px.2.2
            have ty : mu y (-1) = 7 := by rw [fy]; exact py.2.2
            have ix : e_ip mu x ↔ e_ip m1 x := by unfold e_ip; rw [fx, fx, fx]
            have iy : e_ip mu y ↔ e_ip m1 y := by unfold e_ip; rw [fy, fy, fy]
            have ax : mu (mu a (j - 1)) 4 = m1 x 4 := by rw [rx]; exact fx 4
            have ay : mu (mu a j) 4 = m1 y 4 := by rw [rj]; exact fy 4
            have bx : mu (mu a (j - 1)) (-1) = 7 := by rw [rx]; exact tx
            have by' : mu (mu a j) (-1) = 7 := by rw [rj]; exact ty
            have NO : ¬ (e_ip m1 x ∧ e_ip m1 y ∧ m1 y 4 < m1 x 4) → e_insR (e_kr m1) (x :: xs') y = y :: x :: xs' := fun z => by show (bif e_leg (e_kr m1) x y then _ else _) = _; rw [e_leg_n z]; rfl
            have sw := hcx.sw (i := j - 1) (j := j) (by simp; omega) (by simp; omega)
            refine And.intro (⟨by first | assumption | omega | (simp only [mS_iff, eq_self, Int.reduceEq, true_and, and_true, false_and, and_false, and_self, ↓reduceIte]; omega), by first | omega | (simp only [mS_iff, eq_self, Int.reduceEq, true_and, and_true, false_and, and_false, and_self, ↓reduceIte]; omega) | (simp only [mS_iff, eq_self, Int.reduceEq, true_and, and_true, false_and, and_false, and_self, ↓reduceIte] at *; omega)⟩) ?_
            refine And.intro (by first | assumption | omega | (simp only [mS_iff, eq_self, Int.reduceEq, true_and, and_true, false_and, and_false, and_self, ↓reduceIte]; omega)) ?_
            refine ct_171 (by omega) (by rw [rj]; exact ⟨py.1, ty⟩) (fun h2 => ?_) (fun h2 => ?_)
            · have cy : e_ip m1 y := iy.mp (by rw [rj] at h2; exact h2)
              refine And.intro (fun h => absurd h (by decide)) (fun _ => ?_)
              refine And.intro (show -2147483648 ≤ j - 1 ∧ j - 1 ≤ 2147483647 by first | omega | (simp only [mS_iff, eq_self, Int.reduceEq, true_and, and_true, false_and, and_false, and_self, ↓reduceIte]; omega) | (simp only [mS_iff, eq_self, Int.reduceEq, true_and, and_true, false_and, and_false, and_self, ↓reduceIte] at *; omega)) ?_
              refine And.intro (⟨by first | assumption | omega | (simp only [mS_iff, eq_self, Int.reduceEq, true_and, and_true, false_and, and_false, and_self, ↓reduceIte]; omega), by first | omega | (simp only [mS_iff, eq_self, Int.reduceEq, true_and, and_true, false_and, and_false, and_self, ↓reduceIte]; omega) | (simp only [mS_iff, eq_self, Int.reduceEq, true_and, and_true, false_and, and_false, and_self, ↓reduceIte] at *; omega)⟩) ?_
              refine And.intro (by first | assumption | omega | (simp only [mS_iff, eq_self, Int.reduceEq, true_and, and_true, false_and, and_false, and_self, ↓reduceIte]; omega)) ?_
              refine ct_171 (by omega) (by rw [rx]; exact ⟨px.1, tx⟩) (fun h3 => ?_) (fun h3 => ?_)
              · have cx : e_ip m1 x := ix.mp (by rw [rx] at h3; exact h3)
                refine And.intro (fun h => absurd h (by decide)) (fun _ => ?_)
                refine And.intro (show -2147483648 ≤ j - 1 ∧ j - 1 ≤ 2147483647 by first | omega | (simp only [mS_iff, eq_self, Int.reduceEq, true_and, and_true, false_and, and_false, and_self, ↓reduceIte]; omega) | (simp only [mS_iff, eq_self, Int.reduceEq, true_and, and_true, false_and, and_false, and_self, ↓reduceIte] at *; omega)) ?_
                refine And.intro (⟨by first | assumption | omega | (simp only [mS_iff, eq_self, Int.reduceEq, true_and, and_true, false_and, and_false, and_self, ↓reduceIte]; omega), by first | omega | (simp only [mS_iff, eq_self, Int.reduceEq, true_and, and_true, false_and, and_false, and_self, ↓reduceIte]; omega) | (simp only [mS_iff, eq_self, Int.reduceEq, true_and, and_true, false_and, and_false, and_self, ↓reduceIte] at *; omega)⟩) ?_
                refine And.intro (show (mu (mu a (j - 1)) (-1)) = 7 by first | assumption | omega | (simp only [mS_iff, eq_self, Int.reduceEq, true_and, and_true, false_and, and_false, and_self, ↓reduceIte]; omega) | (simp only [mS_iff, eq_self, Int.reduceEq, true_and, and_true, false_and, and_false, and_self, ↓reduceIte] at *; omega)) ?_
                refine And.intro (⟨by first | assumption | omega | (simp only [mS_iff, eq_self, Int.reduceEq, true_and, and_true, false_and, and_false, and_self, ↓reduceIte]; omega), by first | omega | (simp only [mS_iff, eq_self, Int.reduceEq, true_and, and_true, false_and, and_false, and_self, ↓reduceIte]; omega) | (simp only [mS_iff, eq_self, Int.reduceEq, true_and, and_true, false_and, and_false, and_self, ↓reduceIte] at *; omega)⟩) ?_
                refine And.intro (show (mu (mu a j) (-1)) = 7 by first | assumption | omega | (simp only [mS_iff, eq_self, Int.reduceEq, true_and, and_true, false_and, and_false, and_self, ↓reduceIte]; omega) | (simp only [mS_iff, eq_self, Int.reduceEq, true_and, and_true, false_and, and_false, and_self, ↓reduceIte] at *; omega)) ?_
                refine And.intro (fun h4 => ?_) (fun h4 => ?_)
                · refine K87 ?_
                  · first
                      | (rw [show xs = [] from e_nil (by omega)]; rfl)
                      | exact NO (fun z => cy z.2.1)
                      | exact NO (fun z => cx z.1)
                      | exact NO (fun z => by have := z.2.2; omega)
                · refine And.intro (⟨by first | assumption | omega | (simp only [mS_iff, eq_self, Int.reduceEq, true_and, and_true, false_and, and_false, and_self, ↓reduceIte]; omega), by first | omega | (simp only [mS_iff, eq_self, Int.reduceEq, true_and, and_true, false_and, and_false, and_self, ↓reduceIte]; omega) | (simp only [mS_iff, eq_self, Int.reduceEq, true_and, and_true, false_and, and_false, and_self, ↓reduceIte] at *; omega)⟩) ?_
                  refine And.intro (show -2147483648 ≤ j - 1 ∧ j - 1 ≤ 2147483647 by first | omega | (simp only [mS_iff, eq_self, Int.reduceEq, true_and, and_true, false_and, and_false, and_self, ↓reduceIte]; omega) | (simp only [mS_iff, eq_self, Int.reduceEq, true_and, and_true, false_and, and_false, and_self, ↓reduceIte] at *; omega)) ?_
                  refine And.intro (⟨by first | assumption | omega | (simp only [mS_iff, eq_self, Int.reduceEq, true_and, and_true, false_and, and_false, and_self, ↓reduceIte]; omega), by first | omega | (simp only [mS_iff, eq_self, Int.reduceEq, true_and, and_true, false_and, and_false, and_self, ↓reduceIte]; omega) | (simp only [mS_iff, eq_self, Int.reduceEq, true_and, and_true, false_and, and_false, and_self, ↓reduceIte] at *; omega)⟩) ?_
                  refine And.intro (⟨ha, hn1, by omega, by omega, Or.inr ⟨by omega, bx⟩⟩) ?_
                  refine And.intro (show -2147483648 ≤ j - 1 ∧ j - 1 ≤ 2147483647 by first | omega | (simp only [mS_iff, eq_self, Int.reduceEq, true_and, and_true, false_and, and_false, and_self, ↓reduceIte]; omega) | (simp only [mS_iff, eq_self, Int.reduceEq, true_and, and_true, false_and, and_false, and_self, ↓reduceIte] at *; omega)) ?_
                  refine And.intro (⟨ha, by rw [mS_iff, if_neg (by omega)]; exact hn1, by omega, by rw [mS_iff, if_neg (by omega)]; omega, Or.inr ⟨by omega, by rw [mS_iff, if_neg (by omega)]; exact by'⟩⟩) ?_
                  refine And.intro (show -2147483648 ≤ j + (-1) ∧ j + (-1) ≤ 2147483647 by first | omega | (simp only [mS_iff, eq_self, Int.reduceEq, true_and, and_true, false_and, and_false, and_self, ↓reduceIte]; omega) | (simp only [mS_iff, eq_self, Int.reduceEq, true_and, and_true, false_and, and_false, and_self, ↓reduceIte] at *; omega)) ?_
                  refine ih22 _ ?_ _ (xs') (x :: ps) (y) (rest') _ _ (Eq.refl _) ?_ ?_ ?_ ?_ ?_ ?_ ?_
                  · simp at hN; simp; omega
                  · omega
                  · simp at hi2 ⊢; omega
                  · exact hlt
                  · rw [rx, rj]
                    exact sw
                  · intro x hx
                    apply hP
                    simp only [List.mem_append, List.mem_reverse, List.mem_cons, List.not_mem_nil] at hx ⊢
                    grind
                  · rw [← hE]
                    have hz : e_insR (e_kr m1) (x :: xs') y = x :: e_insR (e_kr m1) xs' y := by (show (bif e_leg (e_kr m1) x y then _ else _) = _; rw [e_leg_y cx cy (by omega)]; rfl)
                    rw [hz]
                    simp
                  · intro u v huv
                    rw [mS_a _ _ _ _ huv, mS_a _ _ _ _ huv]
                    exact fm u v huv
              · have cx : ¬ e_ip m1 x := fun z => h3 (by rw [rx]; exact ix.mpr z)
                refine And.intro (fun _ => ?_) (fun h => absurd h (by decide))
                refine K87 ?_
                · first
                    | (rw [show xs = [] from e_nil (by omega)]; rfl)
                    | exact NO (fun z => cy z.2.1)
                    | exact NO (fun z => cx z.1)
                    | exact NO (fun z => by have := z.2.2; omega)
            · have cy : ¬ e_ip m1 y := fun z => h2 (by rw [rj]; exact iy.mpr z)
              refine And.intro (fun _ => ?_) (fun h => absurd h (by decide))
              refine K87 ?_
              · first
                  | (rw [show xs = [] from e_nil (by omega)]; rfl)
                  | exact NO (fun z => cy z.2.1)
                  | exact NO (fun z => cx z.1)
                  | exact NO (fun z => by have := z.2.2; omega)
      refine am_go 400 [14, 22, 87] (am_wpc_cm _ _ _) wf_54 ?_
      refine And.intro (by first | omega | (simp only [mS_iff, eq_self, Int.reduceEq, true_and, and_true, false_and, and_false, and_self, ↓reduceIte]; omega) | (simp only [mS_iff, eq_self, Int.reduceEq, true_and, and_true, false_and, and_false, and_self, ↓reduceIte] at *; omega)) ?_
      refine And.intro (fun h5 => ?_) (fun h5 => ?_)
      · have hr0 : rest = [] := Decidable.byContradiction (fun hne => by have := hi.2.1 hne; have : rest.length ≠ 0 := (fun e => hne (List.length_eq_zero_iff.mp e)); omega)
        subst hr0
        have : acc.reverse = FIN := by rw [← hF]; rfl
        refine hQ _ fm ?_
        rw [← this]; simpa using hcn
      · have hne : rest ≠ [] := fun e => by (have : rest.length = 0 := (by rw [e]; rfl)); omega
        have hia := hi.2.1 hne
        obtain ⟨y, rest', er⟩ : ∃ y r', rest = y :: r' := by (cases rest with | nil => exact absurd rfl hne | cons y r' => exact ⟨y, r', rfl⟩)
        subst er
        refine K22 _ _ (acc) ([]) (y) (rest') _ _ (Eq.refl _) ?_ ?_ ?_ ?_ ?_ ?_ ?_
        · first | omega | (simp only [mS_iff, eq_self, Int.reduceEq, true_and, and_true, false_and, and_false, and_self, ↓reduceIte] at *; omega)
        · have := List.length_cons (a := y) (as := rest'); simp; omega
        · simp
        · simpa using hcn
        · simpa using hP
        · simpa [e_ins] using hF
        · exact fm
  refine am_go 400 [14, 22, 87] (am_wpc_cm _ _ _) wf_54 ?_
  refine And.intro (by first | omega | (simp only [mS_iff, eq_self, Int.reduceEq, true_and, and_true, false_and, and_false, and_self, ↓reduceIte]; omega) | (simp only [mS_iff, eq_self, Int.reduceEq, true_and, and_true, false_and, and_false, and_self, ↓reduceIte] at *; omega)) ?_
  refine And.intro (fun h6 => ?_) (fun h6 => ?_)
  · refine K14 _ _ (l.take 1) (l.drop 1) _ _ _ (Eq.refl _) ?_ ?_ ?_ ?_ ?_
    · cases l with
      | nil => simp
      | cons x l => simp at hl ⊢; omega
    · cases l with
      | nil => first | exact hc | (exfalso; simp at hc2; omega)
      | cons x l => 
        have r0 := hc.at (u := []) (v := l) (x := x) (i := 0) rfl rfl
        obtain ⟨u1, u2, u3⟩ := hc
        have nx : m a 0 ≠ a := by rw [r0]; exact (hP0 x (by simp)).2.1
        first
          | exact ⟨by rw [mS_a _ _ _ _ (Ne.symm nx)]; exact u1, by rw [mS_a _ _ _ _ (Ne.symm nx)]; exact u2, fun k hk => by rw [mS_a _ _ _ _ (Ne.symm nx)]; exact u3 k hk⟩
          | (exfalso; simp at hc2; omega)
    · intro x hx
      apply hP0
      cases l with
      | nil => simp at hx
      | cons u v => simpa using hx
    · rw [eF]
      cases l with
      | nil => rfl
      | cons x l => rfl
    · intro u v huv
      rw [em1]
      cases l with
      | nil => first | rfl | (exfalso; simp at hc2; omega)
      | cons x l =>
        have r0 := hc.at (u := []) (v := l) (x := x) (i := 0) rfl rfl
        first | (rw [r0]; rfl) | (exfalso; simp at hc2; omega)
  · obtain ⟨x, l', el⟩ : ∃ x r', l = x :: r' := by (cases l with | nil => (simp at hc2; omega) | cons y r' => exact ⟨y, r', rfl⟩)
    have r0 : m a 0 = x := hc.at (u := []) (v := l') (x := x) el rfl
    have t0 : 0 < m a 0 ∧ m (m a 0) (-1) = 7 := by rw [r0]; exact ht x (by rw [el]; simp)
    refine And.intro (⟨by first | assumption | omega | (simp only [mS_iff, eq_self, Int.reduceEq, true_and, and_true, false_and, and_false, and_self, ↓reduceIte]; omega), by first | omega | (simp only [mS_iff, eq_self, Int.reduceEq, true_and, and_true, false_and, and_false, and_self, ↓reduceIte]; omega) | (simp only [mS_iff, eq_self, Int.reduceEq, true_and, and_true, false_and, and_false, and_self, ↓reduceIte] at *; omega)⟩) ?_
    refine And.intro (show 0 < (m a 0) ∧ (m (m a 0) (-1)) = 7 ∧ (0 = 0 ∨ 0 = 1) by first | omega | (simp only [mS_iff, eq_self, Int.reduceEq, true_and, and_true, false_and, and_false, and_self, ↓reduceIte]; omega) | (simp only [mS_iff, eq_self, Int.reduceEq, true_and, and_true, false_and, and_false, and_self, ↓reduceIte] at *; omega)) ?_
    refine K14 _ _ (l.take 1) (l.drop 1) _ _ _ (Eq.refl _) ?_ ?_ ?_ ?_ ?_
    · cases l with
      | nil => simp
      | cons x l => simp at hl ⊢; omega
    · cases l with
      | nil => first | exact hc | (exfalso; simp at hc2; omega)
      | cons x l => 
        have r0 := hc.at (u := []) (v := l) (x := x) (i := 0) rfl rfl
        obtain ⟨u1, u2, u3⟩ := hc
        have nx : m a 0 ≠ a := by rw [r0]; exact (hP0 x (by simp)).2.1
        first
          | exact ⟨by rw [mS_a _ _ _ _ (Ne.symm nx)]; exact u1, by rw [mS_a _ _ _ _ (Ne.symm nx)]; exact u2, fun k hk => by rw [mS_a _ _ _ _ (Ne.symm nx)]; exact u3 k hk⟩
          | (exfalso; simp at hc2; omega)
    · intro x hx
      apply hP0
      cases l with
      | nil => simp at hx
      | cons u v => simpa using hx
    · rw [eF]
      cases l with
      | nil => rfl
      | cons x l => rfl
    · intro u v huv
      rw [em1]
      cases l with
      | nil => first | rfl | (exfalso; simp at hc2; omega)
      | cons x l =>
        have r0 := hc.at (u := []) (v := l) (x := x) (i := 0) rfl rfl
        first | (rw [r0]; rfl) | (exfalso; simp at hc2; omega)
