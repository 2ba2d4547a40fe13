/-! needs: c04 -/
/-! CALLS that draw, reference; quarters and marks, both; by tools/genc5.py -/
set_option maxRecDepth 100000
set_option maxHeartbeats 8000000
def mZ (k : Int) (S : aM) (F : Int → aD) (m : aM) : Prop := mI S F m ∧ mRo k m
theorem mZ.fr {k : Int} {S : aM} {F : Int → aD} {m m' : aM} (h : mZ (k + 1) S F m) (f : mFr m m') : mZ k S F m' := by
  have e := f.2 41 27 (by omega) (by omega) (by unfold mKpt; omega)
  obtain ⟨h1, h2, h3⟩ := h
  exact ⟨h1.fr f, by omega, by omega⟩
theorem mZ.D {k a : Int} {S : aM} {F : Int → aD} {m m' : aM} (h : mZ (k + 1) S F m) (f : fr_mD m m') (ha : 0 ≤ a ∧ a < S 0 3) (e : m' 41 23 = a) (d : mDr m' (S (100 + a))) (t : mTk m') (b : m 41 27 ≤ m' 41 27 ∧ m' 41 27 ≤ m 41 27 + 126) : mZ k S F m' := by
  obtain ⟨⟨i1, i2, i3, i4, i5, i6, i7, i8⟩, r1, r2⟩ := h
  have E : ∀ x, (x < 51 ∨ 55 < x) → x ≠ 41 → m' x = m x := fun x a b => funext fun j => f x j a (by omega)
  have e1 : ∀ j, j ≠ 23 → j ≠ 27 → m' 41 j = m 41 j := fun j a b => f 41 j (by omega) (by omega)
  refine ⟨⟨?_, ?_, ?_, ?_, ?_, ⟨by omega, fun i u v q => ?_⟩, t, ?_⟩, by omega, by omega⟩
  · unfold mNm
    rw [e1 3 (by omega) (by omega), e1 5 (by omega) (by omega), e1 17 (by omega) (by omega), e1 62 (by omega) (by omega), e1 63 (by omega) (by omega), e1 67 (by omega) (by omega), E 43 (by omega) (by omega), E 44 (by omega) (by omega)]
    exact i1
  · unfold mAs mRow
    rw [e1 1 (by omega) (by omega), E 42 (by omega) (by omega)]
    exact i2
  · unfold mEs
    rw [e1 40 (by omega) (by omega), E 65 (by omega) (by omega), E 66 (by omega) (by omega), E 67 (by omega) (by omega)]
    exact i3
  · unfold mPs
    rw [e1 28 (by omega) (by omega), E 56 (by omega) (by omega), E 57 (by omega) (by omega), E 58 (by omega) (by omega), E 59 (by omega) (by omega), E 60 (by omega) (by omega), E 61 (by omega) (by omega)]
    exact i4
  · obtain ⟨a1, a2, a3⟩ := i5
    refine ⟨a1, by rw [e1 46 (by omega) (by omega)]; exact a2, fun i a b => ?_⟩
    obtain ⟨⟨p, hi, c1, c2, c3⟩, c4⟩ := a3 i a b
    refine ⟨⟨p, hi, c1, c2, ?_⟩, by rw [E 70 (by omega) (by omega)]; exact c4⟩
    rw [E 69 (by omega) (by omega)]
    exact c3.keep (fun x j u v _ _ => by rw [E x (by omega) (by omega)])
  · rw [← q, e]
    exact d
  · unfold mOn mW5 mWr mWd
    rw [E 45 (by omega) (by omega), E 46 (by omega) (by omega), E 47 (by omega) (by omega), E 48 (by omega) (by omega), E 49 (by omega) (by omega), E 50 (by omega) (by omega)]
    exact i8
theorem ms_236 {d : Nat} {m : aM} {Q : aO → aM → Prop} {S : aM} {F : Int → aD} {a x y : Int} {k : Int} (hd : 60 ≤ d) (hk : 0 ≤ k) (hz0 : mZ (k + 1) S F m) (hQ : ∀ m', mZ k S F m' → (∀ x j, x < 41 ∨ 76 < x → m' x j = m x j) → Q (.inl (some (aI (c_dot S a x y)))) m') : am_wpc am_G am_T d 236 [aR 41, aI a, aI x, aI y] m Q := by
  have h := hz0.1
  obtain ⟨r1, r2⟩ := hz0.2
  have fr := mFr.rfl m
  have hS := h.2.1
  have s1 := hS.1
  obtain ⟨dk, hdk⟩ : ∃ k, d = k + 1 := ⟨d - 1, by omega⟩
  refine am_in (k := dk) rfl (by omega) (fun d hd => ?_)
  refine am_go 400 [] (am_wpc_cm _ _ _) wf_236 ?_
  refine And.intro (rfl) ?_
  refine ct_222 (by omega) h (fun t1 => ?_) (fun t1 => ?_)
  · have hA1 := (hS.2.2 a t1.1 t1.2).1
    have ok1 := (hS.2.2 a t1.1 t1.2).2
    refine And.intro (fun _ => ?_) (fun h => absurd h (by decide))
    refine And.intro (fun h1 => ?_) (fun h1 => ?_)
    · have ev0 : c_dot S a x y = (-3) := by
        unfold c_dot
        repeat' split
        all_goals omega
      have hzz := hQ m (hz0.fr fr) fr.1
      rw [ev0] at hzz
      exact hzz
    · refine And.intro (fun h2 => ?_) (fun h2 => ?_)
      · have ev0 : c_dot S a x y = (-3) := by
          unfold c_dot
          repeat' split
          all_goals omega
        have hzz := hQ m (hz0.fr fr) fr.1
        rw [ev0] at hzz
        exact hzz
      · refine And.intro (fun h3 => ?_) (fun h3 => ?_)
        · have ev0 : c_dot S a x y = (-3) := by
            unfold c_dot
            repeat' split
            all_goals omega
          have hzz := hQ m (hz0.fr fr) fr.1
          rw [ev0] at hzz
          exact hzz
        · refine And.intro (fun h4 => ?_) (fun h4 => ?_)
          · refine And.intro (rfl) ?_
            refine ct_237 (by omega) hA1 ok1 h.2.2.2.2.2.2.1 (by omega) (fun z => h.2.2.2.2.2.1.2 a t1.1 t1.2 z) (fun md fd d1 d2 d3 d4 => ?_)
            have hz := mZ.D hz0 fd t1 d1 d2 d3 d4
            have fo : ∀ x j, x < 41 ∨ 76 < x → md x j = m x j := fun x j u => fd x j (by omega) (by omega)
            refine And.intro (rfl) ?_
            refine And.intro (show -2147483648 ≤ 48 * y ∧ 48 * y ≤ 2147483647 by first | omega | (simp only [mS_iff, eq_self, Int.reduceEq, true_and, and_true, false_and, and_false, and_self, ↓reduceIte]; omega) | (simp only [mS_iff, eq_self, Int.reduceEq, true_and, and_true, false_and, and_false, and_self, ↓reduceIte] at *; omega)) ?_
            refine And.intro (show -2147483648 ≤ (48 * y) + x ∧ (48 * y) + x ≤ 2147483647 by first | omega | (simp only [mS_iff, eq_self, Int.reduceEq, true_and, and_true, false_and, and_false, and_self, ↓reduceIte]; omega) | (simp only [mS_iff, eq_self, Int.reduceEq, true_and, and_true, false_and, and_false, and_self, ↓reduceIte] at *; omega)) ?_
            refine And.intro (⟨rfl, by first | omega | (simp only [mS_iff, eq_self, Int.reduceEq, true_and, and_true, false_and, and_false, and_self, ↓reduceIte]; omega) | (simp only [mS_iff, eq_self, Int.reduceEq, true_and, and_true, false_and, and_false, and_self, ↓reduceIte] at *; omega)⟩) ?_
            have ev := d2.1 (48 * y + x) (by omega) (by omega)
            have ev0 : c_dot S a x y = (md 51 ((48 * y) + x)) := by
              unfold c_dot
              repeat' split
              all_goals omega
            have hzz := hQ md hz fo
            rw [ev0] at hzz
            exact hzz
          · have ev0 : c_dot S a x y = (-3) := by
              unfold c_dot
              repeat' split
              all_goals omega
            have hzz := hQ m (hz0.fr fr) fr.1
            rw [ev0] at hzz
            exact hzz
  · refine And.intro (fun h => absurd h (by decide)) (fun _ => ?_)
    have ev0 : c_dot S a x y = (-2) := by
      unfold c_dot
      repeat' split
      all_goals omega
    have hzz := hQ m (hz0.fr fr) fr.1
    rw [ev0] at hzz
    exact hzz
theorem ms_251 {d : Nat} {m : aM} {Q : aO → aM → Prop} {S : aM} {F : Int → aD} {a l : Int} {k : Int} (hd : 60 ≤ d) (hk : 0 ≤ k) (hz0 : mZ (k + 1) S F m) (hQ : ∀ m', mZ k S F m' → (∀ x j, x < 41 ∨ 76 < x → m' x j = m x j) → Q (.inl (some (aI (c_size S a l)))) m') : am_wpc am_G am_T d 251 [aR 41, aI a, aI l] m Q := by
  have h := hz0.1
  obtain ⟨r1, r2⟩ := hz0.2
  have fr := mFr.rfl m
  have hS := h.2.1
  have s1 := hS.1
  obtain ⟨dk, hdk⟩ : ∃ k, d = k + 1 := ⟨d - 1, by omega⟩
  refine am_in (k := dk) rfl (by omega) (fun d hd => ?_)
  refine am_go 400 [] (am_wpc_cm _ _ _) wf_251 ?_
  refine And.intro (rfl) ?_
  refine ct_222 (by omega) h (fun t1 => ?_) (fun t1 => ?_)
  · have hA1 := (hS.2.2 a t1.1 t1.2).1
    have ok1 := (hS.2.2 a t1.1 t1.2).2
    refine And.intro (fun h => absurd h (by decide)) (fun _ => ?_)
    refine And.intro (fun h1 => ?_) (fun h1 => ?_)
    · have ev0 : c_size S a l = (-2) := by
        unfold c_size
        repeat' split
        all_goals omega
      have hzz := hQ m (hz0.fr fr) fr.1
      rw [ev0] at hzz
      exact hzz
    · refine And.intro (rfl) ?_
      refine ct_186 (by omega) hA1 (by omega) (fun v2 h3 => ?_)
      have ev := h3
      refine And.intro (fun h4 => ?_) (fun h4 => ?_)
      · have cb := ok1.cnt
        refine And.intro (rfl) ?_
        refine ct_188 (by omega) hA1 (by omega) (by omega) (fun v5 h6 => ?_)
        have ev := h6
        refine And.intro (fun h7 => ?_) (fun h7 => ?_)
        · refine And.intro (rfl) ?_
          refine ct_237 (by omega) hA1 ok1 h.2.2.2.2.2.2.1 (by omega) (fun z => h.2.2.2.2.2.1.2 a t1.1 t1.2 z) (fun md fd d1 d2 d3 d4 => ?_)
          have hz := mZ.D hz0 fd t1 d1 d2 d3 d4
          have fo : ∀ x j, x < 41 ∨ 76 < x → md x j = m x j := fun x j u => fd x j (by omega) (by omega)
          refine And.intro (rfl) ?_
          refine And.intro (⟨rfl, by first | omega | (simp only [mS_iff, eq_self, Int.reduceEq, true_and, and_true, false_and, and_false, and_self, ↓reduceIte]; omega) | (simp only [mS_iff, eq_self, Int.reduceEq, true_and, and_true, false_and, and_false, and_self, ↓reduceIte] at *; omega)⟩) ?_
          have ev := d2.2 l (by omega) (by omega)
          have ev0 : c_size S a l = (md 52 l) := by
            unfold c_size
            repeat' split
            all_goals omega
          have hzz := hQ md hz fo
          rw [ev0] at hzz
          exact hzz
        · have ev0 : c_size S a l = (-4) := by
            unfold c_size
            repeat' split
            all_goals omega
          have hzz := hQ m (hz0.fr fr) fr.1
          rw [ev0] at hzz
          exact hzz
      · have ev0 : c_size S a l = (-2) := by
          unfold c_size
          repeat' split
          all_goals omega
        have hzz := hQ m (hz0.fr fr) fr.1
        rw [ev0] at hzz
        exact hzz
  · refine And.intro (fun _ => ?_) (fun h => absurd h (by decide))
    have ev0 : c_size S a l = (-2) := by
      unfold c_size
      repeat' split
      all_goals omega
    have hzz := hQ m (hz0.fr fr) fr.1
    rw [ev0] at hzz
    exact hzz
theorem ms_250 {d : Nat} {m : aM} {Q : aO → aM → Prop} {S : aM} {F : Int → aD} {a t : Int} {k : Int} (hd : 60 ≤ d) (hk : 0 ≤ k) (hz0 : mZ (k + 1) S F m) (hQ : ∀ m', mZ k S F m' → (∀ x j, x < 41 ∨ 76 < x → m' x j = m x j) → Q (.inl (some (aI (c_dots S a t)))) m') : am_wpc am_G am_T d 250 [aR 41, aI a, aI t] m Q := by
  have h := hz0.1
  obtain ⟨r1, r2⟩ := hz0.2
  have fr := mFr.rfl m
  have hS := h.2.1
  have s1 := hS.1
  obtain ⟨dk, hdk⟩ : ∃ k, d = k + 1 := ⟨d - 1, by omega⟩
  refine am_in (k := dk) rfl (by omega) (fun d hd => ?_)
  have K34 : ∀ (Nm : Nat), ∀ (n : Int) (i : Int), ∀ (md2 : aM), (2880 - i).toNat = Nm → (0 ≤ i ∧ i ≤ 2880) → (0 ≤ n ∧ n ≤ i) → (n = s_sum (fun i => if s_dot (S (100 + a)) i = t then 1 else 0) i.toNat) → (∀ j, 0 ≤ j → j < 2880 → md2 51 j = s_dot (S (100 + a)) j) → (Q (.inl (some (aI (s_sum (fun i => if s_dot (S (100 + a)) i = t then 1 else 0) 2880)))) md2) → am_WP am_G (am_wpc am_G am_T d) [] cd_250 Q 34 [aR 41, aI a, aI t, aI n, aI i] [] md2 := by
    intro Nm
    induction Nm using Nat.strongRecOn with
    | _ Nm ih34 =>
      intro n i md2 hN hi2 nb hn dd qq
      refine am_go 400 [34] (am_wpc_cm _ _ _) wf_250 ?_
      refine And.intro (fun h1 => ?_) (fun h1 => ?_)
      · rw [hn, show i = 2880 by omega]
        exact qq
      · refine And.intro (rfl) ?_
        refine And.intro (⟨rfl, by first | omega | (simp only [mS_iff, eq_self, Int.reduceEq, true_and, and_true, false_and, and_false, and_self, ↓reduceIte]; omega) | (simp only [mS_iff, eq_self, Int.reduceEq, true_and, and_true, false_and, and_false, and_self, ↓reduceIte] at *; omega)⟩) ?_
        refine And.intro (fun h2 => ?_) (fun h2 => ?_)
        · refine And.intro (show -2147483648 ≤ n + 0 ∧ n + 0 ≤ 2147483647 by first | omega | (simp only [mS_iff, eq_self, Int.reduceEq, true_and, and_true, false_and, and_false, and_self, ↓reduceIte]; omega) | (simp only [mS_iff, eq_self, Int.reduceEq, true_and, and_true, false_and, and_false, and_self, ↓reduceIte] at *; omega)) ?_
          refine And.intro (show -2147483648 ≤ i + 1 ∧ i + 1 ≤ 2147483647 by first | omega | (simp only [mS_iff, eq_self, Int.reduceEq, true_and, and_true, false_and, and_false, and_self, ↓reduceIte]; omega) | (simp only [mS_iff, eq_self, Int.reduceEq, true_and, and_true, false_and, and_false, and_self, ↓reduceIte] at *; omega)) ?_
          refine ih34 _ ?_ _ _ _ (Eq.refl _) ?_ ?_ ?_ ?_ ?_
          · omega
          · omega
          · omega
          · rw [s_sum_i (by omega)]; rw [if_neg (by have := dd i (by omega) (by omega); omega)]; omega
          · exact dd
          · exact qq
        · refine And.intro (show -2147483648 ≤ n + 1 ∧ n + 1 ≤ 2147483647 by first | omega | (simp only [mS_iff, eq_self, Int.reduceEq, true_and, and_true, false_and, and_false, and_self, ↓reduceIte]; omega) | (simp only [mS_iff, eq_self, Int.reduceEq, true_and, and_true, false_and, and_false, and_self, ↓reduceIte] at *; omega)) ?_
          refine And.intro (show -2147483648 ≤ i + 1 ∧ i + 1 ≤ 2147483647 by first | omega | (simp only [mS_iff, eq_self, Int.reduceEq, true_and, and_true, false_and, and_false, and_self, ↓reduceIte]; omega) | (simp only [mS_iff, eq_self, Int.reduceEq, true_and, and_true, false_and, and_false, and_self, ↓reduceIte] at *; omega)) ?_
          refine ih34 _ ?_ _ _ _ (Eq.refl _) ?_ ?_ ?_ ?_ ?_
          · omega
          · omega
          · omega
          · rw [s_sum_i (by omega)]; rw [if_pos (by have := dd i (by omega) (by omega); omega)]; omega
          · exact dd
          · exact qq
  refine am_go 400 [34] (am_wpc_cm _ _ _) wf_250 ?_
  refine And.intro (rfl) ?_
  refine ct_222 (by omega) h (fun t1 => ?_) (fun t1 => ?_)
  · have hA1 := (hS.2.2 a t1.1 t1.2).1
    have ok1 := (hS.2.2 a t1.1 t1.2).2
    refine And.intro (fun _ => ?_) (fun h => absurd h (by decide))
    refine And.intro (fun h3 => ?_) (fun h3 => ?_)
    · have ev0 : c_dots S a t = (-3) := by
        unfold c_dots
        repeat' split
        all_goals omega
      have hzz := hQ m (hz0.fr fr) fr.1
      rw [ev0] at hzz
      exact hzz
    · refine And.intro (fun h4 => ?_) (fun h4 => ?_)
      · refine And.intro (rfl) ?_
        refine ct_237 (by omega) hA1 ok1 h.2.2.2.2.2.2.1 (by omega) (fun z => h.2.2.2.2.2.1.2 a t1.1 t1.2 z) (fun md fd d1 d2 d3 d4 => ?_)
        have hz := mZ.D hz0 fd t1 d1 d2 d3 d4
        have fo : ∀ x j, x < 41 ∨ 76 < x → md x j = m x j := fun x j u => fd x j (by omega) (by omega)
        refine K34 _ _ _ _ (Eq.refl _) ?_ ?_ ?_ ?_ ?_
        · omega
        · omega
        · exact rfl
        · exact d2.1
        · have hzz := hQ md hz fo
          have ev0 : c_dots S a t = s_sum (fun i => if s_dot (S (100 + a)) i = t then 1 else 0) 2880 := by
            unfold c_dots
            rw [if_pos t1, if_pos (by omega)]
          rw [ev0] at hzz
          exact hzz
      · have ev0 : c_dots S a t = (-3) := by
          unfold c_dots
          repeat' split
          all_goals omega
        have hzz := hQ m (hz0.fr fr) fr.1
        rw [ev0] at hzz
        exact hzz
  · refine And.intro (fun h => absurd h (by decide)) (fun _ => ?_)
    have ev0 : c_dots S a t = (-2) := by
      unfold c_dots
      repeat' split
      all_goals omega
    have hzz := hQ m (hz0.fr fr) fr.1
    rw [ev0] at hzz
    exact hzz
noncomputable def c_qr (S : aM) (p day j : Int) : Int := if 0 ≤ p ∧ p < S 0 4 then (if v_day day then (if j = -1 then ((q_Q S day p).length : Int) else if 0 ≤ j ∧ j < ((q_Q S day p).length : Int) then (q_Q S day p).getD j.toNat 0 else -3) else -3) else -2
noncomputable def c_mk (S : aM) (p day g : Int) : Int := if (0 ≤ p ∧ p < S 0 4) ∧ 0 ≤ g ∧ s_fore S p g.toNat ≠ -1 then (if v_day day then s_mark S day (s_fore S p g.toNat) else -3) else -2
theorem ms_256 {d : Nat} {m : aM} {Q : aO → aM → Prop} {S : aM} {F : Int → aD} {p day j : Int} (hd : 60 ≤ d) (h : mI S F m)  (hQ : ∀ m', mFr m m' → Q (.inl (some (aI (c_qr S p day j)))) m') : am_wpc am_G am_T d 256 [aR 41, aI p, aI day, aI j] m Q := by
  have fr := mFr.rfl m
  have hS := h.2.1
  have s1 := hS.1
  obtain ⟨dk, hdk⟩ : ∃ k, d = k + 1 := ⟨d - 1, by omega⟩
  refine am_in (k := dk) rfl (by omega) (fun d hd => ?_)
  refine am_go 400 [] (am_wpc_cm _ _ _) wf_256 ?_
  refine And.intro (rfl) ?_
  refine ct_253 (by omega) h (fun t1 => ?_) (fun t1 => ?_)
  · refine And.intro (fun _ => ?_) (fun h => absurd h (by decide))
    refine ct_254 (by omega) (fun h1 => ?_) (fun h1 => ?_)
    · have dy := h1
      refine And.intro (fun _ => ?_) (fun h => absurd h (by decide))
      refine And.intro (rfl) ?_
      refine ct_257 (by omega) t1 hS h.2.2.2.1 (fun mq fq qr => ?_)
      have fr := fr.trans fq.R
      have q1 := qr.1
      have q2 := qr.2
      have qo := (q_Q_ok h.2.2.2.1.1 (day := day) (p := p) (by omega) (by omega)).1
      refine And.intro (fun h2 => ?_) (fun h2 => ?_)
      · refine And.intro (fun h3 => ?_) (fun h3 => ?_)
        · have ev0 : c_qr S p day j = (-3) := by
            unfold c_qr
            repeat' split
            all_goals omega
          have hz := hQ mq fr
          rw [ev0] at hz
          exact hz
        · refine And.intro (rfl) ?_
          refine And.intro (fun h4 => ?_) (fun h4 => ?_)
          · skip
            refine And.intro (rfl) ?_
            refine And.intro (⟨rfl, by omega⟩) ?_
            have ev := q2 j.toNat (by omega)
            rw [show ((j.toNat : Nat) : Int) = j by omega] at ev
            have ev0 : c_qr S p day j = (mq 62 j) := by
              unfold c_qr
              repeat' split
              all_goals omega
            have hz := hQ mq fr
            rw [ev0] at hz
            exact hz
          · have ev0 : c_qr S p day j = (-3) := by
              unfold c_qr
              repeat' split
              all_goals omega
            have hz := hQ mq fr
            rw [ev0] at hz
            exact hz
      · refine And.intro (rfl) ?_
        have ev0 : c_qr S p day j = (mq 41 36) := by
          unfold c_qr
          repeat' split
          all_goals omega
        have hz := hQ mq fr
        rw [ev0] at hz
        exact hz
    · have dn := h1
      refine And.intro (fun h => absurd h (by decide)) (fun _ => ?_)
      have ev0 : c_qr S p day j = (-3) := by
        unfold c_qr
        repeat' split
        all_goals omega
      have hz := hQ m fr
      rw [ev0] at hz
      exact hz
  · refine And.intro (fun h => absurd h (by decide)) (fun _ => ?_)
    have ev0 : c_qr S p day j = (-2) := by
      unfold c_qr
      repeat' split
      all_goals omega
    have hz := hQ m fr
    rw [ev0] at hz
    exact hz
