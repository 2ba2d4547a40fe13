/-! needs: c05 -/
/-! CALLS: quarter, mark, both; the state under changes; by tools/genc6.py -/
set_option maxRecDepth 100000
set_option maxHeartbeats 8000000
theorem ms_260 {d : Nat} {m : aM} {Q : aO → aM → Prop} {S : aM} {F : Int → aD} {p day g : Int} (hd : 60 ≤ d) (h : mI S F m) (hg : g ≤ 2147483647) (hQ : ∀ m', mFr m m' → Q (.inl (some (aI (c_mk S p day g)))) m') : am_wpc am_G am_T d 260 [aR 41, aI p, aI day, aI g] m Q := by
  have fr := mFr.rfl m
  have hS := h.2.1
  have s1 := hS.1
  obtain ⟨dk, hdk⟩ : ∃ k, d = k + 1 := ⟨d - 1, by omega⟩
  refine am_in (k := dk) rfl (by omega) (fun d hd => ?_)
  refine am_go 400 [] (am_wpc_cm _ _ _) wf_260 ?_
  refine And.intro (rfl) ?_
  refine ct_253 (by omega) h (fun t1 => ?_) (fun t1 => ?_)
  · refine And.intro (fun h => absurd h (by decide)) (fun _ => ?_)
    refine And.intro (fun h1 => ?_) (fun h1 => ?_)
    · have ev0 : c_mk S p day g = (-2) := by
        unfold c_mk
        repeat' split
        all_goals omega
      have hz := hQ m fr
      rw [ev0] at hz
      exact hz
    · have fb := s_fore_b h.2.2.2.1.1 (p := p) (by omega) (by omega) g.toNat
      refine And.intro (rfl) ?_
      refine ct_261 (by omega) h.2.2.2.1 (by omega) (by omega) (fun v2 h3 => ?_)
      have ef1 := h3
      refine And.intro (fun h4 => ?_) (fun h4 => ?_)
      · refine ct_254 (by omega) (fun h5 => ?_) (fun h5 => ?_)
        · have dy := h5
          refine And.intro (fun h => absurd h (by decide)) (fun _ => ?_)
          refine And.intro (rfl) ?_
          refine ct_261 (by omega) h.2.2.2.1 (by omega) (by omega) (fun v6 h7 => ?_)
          have ef1 := h7
          refine And.intro (rfl) ?_
          refine ct_262 (by omega) h.2.2.2.1 (by omega) (fun v8 h9 => ?_)
          have em := h9
          skip
          rw [ef1] at em
          have ev0 : c_mk S p day g = v8 := by
            unfold c_mk
            repeat' split
            all_goals omega
          have hz := hQ m fr
          rw [ev0] at hz
          exact hz
        · have dn := h5
          refine And.intro (fun _ => ?_) (fun h => absurd h (by decide))
          have ev0 : c_mk S p day g = (-3) := by
            unfold c_mk
            repeat' split
            all_goals omega
          have hz := hQ m fr
          rw [ev0] at hz
          exact hz
      · have ev0 : c_mk S p day g = (-2) := by
          unfold c_mk
          repeat' split
          all_goals omega
        have hz := hQ m fr
        rw [ev0] at hz
        exact hz
  · refine And.intro (fun _ => ?_) (fun h => absurd h (by decide))
    have ev0 : c_mk S p day g = (-2) := by
      unfold c_mk
      repeat' split
      all_goals omega
    have hz := hQ m fr
    rw [ev0] at hz
    exact hz
theorem ct_97 {d : Nat} {m : aM} {Q : aO → aM → Prop} {S : aM} {F : Int → aD} {lo hi cl ch : Int → Int} {a : Int} (hd : 2 ≤ d) (h : hI S F lo hi cl ch m) (hQ1 : (0 ≤ a ∧ a < S 0 4) → Q (.inl (some (aI 1))) m) (hQ0 : ¬ (0 ≤ a ∧ a < S 0 4) → Q (.inl (some (aI 0))) m) : am_wpc am_G am_T d 97 [aR 1, aI a] m Q := by
  have s2 := h.2.2.2.2.2.1.2.1
  have s3 := h.2.2.2.2.2.1.1.1
  refine am_in rfl hd (fun d hd => ?_)
  refine am_go 400 [] (am_wpc_cm _ _ _) wf_97 ?_
  refine And.intro (rfl) ?_
  refine And.intro (show -2147483648 ≤ (m 1 22) - 1 ∧ (m 1 22) - 1 ≤ 2147483647 by first | omega | (simp only [mS_iff, eq_self, Int.reduceEq, true_and, and_true, false_and, and_false, and_self, ↓reduceIte]; omega) | (simp only [mS_iff, eq_self, Int.reduceEq, true_and, and_true, false_and, and_false, and_self, ↓reduceIte] at *; omega)) ?_
  refine ct_39 (by omega) (fun h1 => ?_) (fun h1 => ?_)
  · refine And.intro (by first | omega | (simp only [mS_iff, eq_self, Int.reduceEq, true_and, and_true, false_and, and_false, and_self, ↓reduceIte]; omega) | (simp only [mS_iff, eq_self, Int.reduceEq, true_and, and_true, false_and, and_false, and_self, ↓reduceIte] at *; omega)) ?_
    exact hQ1 (by omega)
  · refine And.intro (by first | omega | (simp only [mS_iff, eq_self, Int.reduceEq, true_and, and_true, false_and, and_false, and_self, ↓reduceIte]; omega) | (simp only [mS_iff, eq_self, Int.reduceEq, true_and, and_true, false_and, and_false, and_self, ↓reduceIte] at *; omega)) ?_
    exact hQ0 (by omega)
theorem hs_98 {d : Nat} {m : aM} {Q : aO → aM → Prop} {S : aM} {F : Int → aD} {lo hi cl ch : Int → Int} {p day j : Int} (hd : 60 ≤ d) (h : hI S F lo hi cl ch m) (hr : hRo 1 m)  (hQ : ∀ m', hFr 90 m m' → Q (.inl (some (aI (c_qr S p day j)))) m') : am_wpc am_G am_T d 98 [aR 1, aI p, aI day, aI j] m Q := by
  have fr := hFr.rfl m
  obtain ⟨r1, r2, r3, r4, r5⟩ := id hr
  have hS := h.2.2.2.1
  have h0 := h.1
  have s1 := hS.1
  obtain ⟨dk, hdk⟩ : ∃ k, d = k + 1 := ⟨d - 1, by omega⟩
  refine am_in (k := dk) rfl (by omega) (fun d hd => ?_)
  refine am_go 400 [] (am_wpc_cm _ _ _) wf_98 ?_
  refine And.intro (rfl) ?_
  refine ct_97 (by omega) h (fun t1 => ?_) (fun t1 => ?_)
  · refine And.intro (fun _ => ?_) (fun h => absurd h (by decide))
    refine ct_95 (by omega) (fun h1 => ?_) (fun h1 => ?_)
    · have dy := h1
      refine And.intro (fun _ => ?_) (fun h => absurd h (by decide))
      refine And.intro (rfl) ?_
      refine ct_99 (by omega) hS h.2.2.2.2.2.1 (fun mq fq qs => ?_)
      have fr := fr.trans fq.H
      have qr := qs p t1.1 t1.2
      have q1 := qr.1
      have q2 := qr.2
      have qo := (q_Q_ok h.2.2.2.2.2.1.1 (day := day) (p := p) (by omega) (by omega)).1
      have p4 := h.2.2.2.2.2.1.1.1
      refine And.intro (fun h2 => ?_) (fun h2 => ?_)
      · refine And.intro (rfl) ?_
        refine And.intro (⟨rfl, by omega⟩) ?_
        refine And.intro (show -2147483648 ≤ (mq 22 p) - 1 ∧ (mq 22 p) - 1 ≤ 2147483647 by first | omega | (simp only [mS_iff, eq_self, Int.reduceEq, true_and, and_true, false_and, and_false, and_self, ↓reduceIte]; omega) | (simp only [mS_iff, eq_self, Int.reduceEq, true_and, and_true, false_and, and_false, and_self, ↓reduceIte] at *; omega)) ?_
        refine ct_39 (by omega) (fun h3 => ?_) (fun h3 => ?_)
        · refine And.intro (fun h => absurd h (by decide)) (fun _ => ?_)
          skip
          refine And.intro (rfl) ?_
          refine And.intro (show -2147483648 ≤ 12 * p ∧ 12 * p ≤ 2147483647 by first | omega | (simp only [mS_iff, eq_self, Int.reduceEq, true_and, and_true, false_and, and_false, and_self, ↓reduceIte]; omega) | (simp only [mS_iff, eq_self, Int.reduceEq, true_and, and_true, false_and, and_false, and_self, ↓reduceIte] at *; omega)) ?_
          refine And.intro (show -2147483648 ≤ (12 * p) + j ∧ (12 * p) + j ≤ 2147483647 by first | omega | (simp only [mS_iff, eq_self, Int.reduceEq, true_and, and_true, false_and, and_false, and_self, ↓reduceIte]; omega) | (simp only [mS_iff, eq_self, Int.reduceEq, true_and, and_true, false_and, and_false, and_self, ↓reduceIte] at *; omega)) ?_
          refine And.intro (⟨rfl, by omega⟩) ?_
          have ev := q2 j.toNat (by omega)
          rw [show ((j.toNat : Nat) : Int) = j by omega] at ev
          have ev0 : c_qr S p day j = (mq 21 ((12 * p) + j)) := by
            unfold c_qr
            repeat' split
            all_goals omega
          have hz := hQ mq (fr.wd (by omega))
          rw [ev0] at hz
          exact hz
        · refine And.intro (fun _ => ?_) (fun h => absurd h (by decide))
          have ev0 : c_qr S p day j = (-3) := by
            unfold c_qr
            repeat' split
            all_goals omega
          have hz := hQ mq (fr.wd (by omega))
          rw [ev0] at hz
          exact hz
      · refine And.intro (rfl) ?_
        refine And.intro (⟨rfl, by omega⟩) ?_
        have ev0 : c_qr S p day j = (mq 22 p) := by
          unfold c_qr
          repeat' split
          all_goals omega
        have hz := hQ mq (fr.wd (by omega))
        rw [ev0] at hz
        exact hz
    · have dn := h1
      refine And.intro (fun h => absurd h (by decide)) (fun _ => ?_)
      have ev0 : c_qr S p day j = (-3) := by
        unfold c_qr
        repeat' split
        all_goals omega
      have hz := hQ m (fr.wd (by omega))
      rw [ev0] at hz
      exact hz
  · refine And.intro (fun h => absurd h (by decide)) (fun _ => ?_)
    have ev0 : c_qr S p day j = (-2) := by
      unfold c_qr
      repeat' split
      all_goals omega
    have hz := hQ m (fr.wd (by omega))
    rw [ev0] at hz
    exact hz
theorem hs_103 {d : Nat} {m : aM} {Q : aO → aM → Prop} {S : aM} {F : Int → aD} {lo hi cl ch : Int → Int} {p day g : Int} (hd : 60 ≤ d) (h : hI S F lo hi cl ch m) (hr : hRo 1 m) (hg : g ≤ 2147483647) (hQ : ∀ m', hFr 90 m m' → Q (.inl (some (aI (c_mk S p day g)))) m') : am_wpc am_G am_T d 103 [aR 1, aI p, aI day, aI g] m Q := by
  have fr := hFr.rfl m
  obtain ⟨r1, r2, r3, r4, r5⟩ := id hr
  have hS := h.2.2.2.1
  have h0 := h.1
  have s1 := hS.1
  obtain ⟨dk, hdk⟩ : ∃ k, d = k + 1 := ⟨d - 1, by omega⟩
  refine am_in (k := dk) rfl (by omega) (fun d hd => ?_)
  have K26 : ∀ (Nm : Nat), ∀ (x : Int) (i : Int), (g - i).toNat = Nm → (0 ≤ i ∧ i ≤ g) → (0 ≤ p ∧ p < S 0 4) → (x = hpr m (s_fore S p i.toNat)) → am_WP am_G (am_wpc am_G am_T d) [] cd_103 Q 26 [aR 1, aI p, aI day, aI g, aR x, aI i] [] m := by
    intro Nm
    induction Nm using Nat.strongRecOn with
    | _ Nm ih26 =>
      intro x i hN hi2 t1 hx
      have fb := s_fore_b h.2.2.2.2.2.1.1 (p := p) (by omega) (by omega) i.toNat
      have fl : s_fore S p i.toNat < S 0 4 := by split at fb <;> omega
      have rf := h.2.2.2.2.2.1.ref (a := s_fore S p i.toNat) fb.1 fl
      refine am_go 400 [26] (am_wpc_cm _ _ _) wf_103 ?_
      refine And.intro (fun h1 => ?_) (fun h1 => ?_)
      · skip
        refine And.intro (show x ≠ -9 by first | omega | (simp only [mS_iff, eq_self, Int.reduceEq, true_and, and_true, false_and, and_false, and_self, ↓reduceIte]; omega) | (simp only [mS_iff, eq_self, Int.reduceEq, true_and, and_true, false_and, and_false, and_self, ↓reduceIte] at *; omega)) ?_
        refine And.intro (fun h2 => ?_) (fun h2 => ?_)
        · refine ct_95 (by omega) (fun h3 => ?_) (fun h3 => ?_)
          · have dy := h3
            refine And.intro (fun h => absurd h (by decide)) (fun _ => ?_)
            refine And.intro (rfl) ?_
            refine ct_104r (p := s_fore S p i.toNat) (by omega) (by rw [hx]; exact rf.2.2 (by omega)) h.2.2.2.2.2.1 (by omega) (fun v4 h5 => ?_)
            have em := h5
            have ig : s_fore S p g.toNat = s_fore S p i.toNat := by
              by_cases k : i = g
              · rw [k]
              · exact (s_fore_e S p (by omega) hi2.2 (by omega)).trans (by omega)
            have ev0 : c_mk S p day g = v4 := by
              unfold c_mk
              rw [ig]
              repeat' split
              all_goals omega
            have hz := hQ m (fr.wd (by omega))
            rw [ev0] at hz
            exact hz
          · have dn := h3
            refine And.intro (fun _ => ?_) (fun h => absurd h (by decide))
            have ig : s_fore S p g.toNat = s_fore S p i.toNat := by
              by_cases k : i = g
              · rw [k]
              · exact (s_fore_e S p (by omega) hi2.2 (by omega)).trans (by omega)
            have ev0 : c_mk S p day g = (-3) := by
              unfold c_mk
              rw [ig]
              repeat' split
              all_goals omega
            have hz := hQ m (fr.wd (by omega))
            rw [ev0] at hz
            exact hz
        · have ig : s_fore S p g.toNat = s_fore S p i.toNat := by
            by_cases k : i = g
            · rw [k]
            · exact (s_fore_e S p (by omega) hi2.2 (by omega)).trans (by omega)
          have ev0 : c_mk S p day g = (-2) := by
            unfold c_mk
            rw [ig]
            repeat' split
            all_goals omega
          have hz := hQ m (fr.wd (by omega))
          rw [ev0] at hz
          exact hz
      · refine And.intro (show x ≠ -9 by first | omega | (simp only [mS_iff, eq_self, Int.reduceEq, true_and, and_true, false_and, and_false, and_self, ↓reduceIte]; omega) | (simp only [mS_iff, eq_self, Int.reduceEq, true_and, and_true, false_and, and_false, and_self, ↓reduceIte] at *; omega)) ?_
        refine And.intro (fun h6 => ?_) (fun h6 => ?_)
        · skip
          refine And.intro (show x ≠ -9 by first | omega | (simp only [mS_iff, eq_self, Int.reduceEq, true_and, and_true, false_and, and_false, and_self, ↓reduceIte]; omega) | (simp only [mS_iff, eq_self, Int.reduceEq, true_and, and_true, false_and, and_false, and_self, ↓reduceIte] at *; omega)) ?_
          refine And.intro (fun h7 => ?_) (fun h7 => ?_)
          · refine ct_95 (by omega) (fun h8 => ?_) (fun h8 => ?_)
            · have dy := h8
              refine And.intro (fun h => absurd h (by decide)) (fun _ => ?_)
              refine And.intro (rfl) ?_
              refine ct_104r (p := s_fore S p i.toNat) (by omega) (by rw [hx]; exact rf.2.2 (by omega)) h.2.2.2.2.2.1 (by omega) (fun v9 h10 => ?_)
              have em := h10
              have ig : s_fore S p g.toNat = s_fore S p i.toNat := by
                by_cases k : i = g
                · rw [k]
                · exact (s_fore_e S p (by omega) hi2.2 (by omega)).trans (by omega)
              have ev0 : c_mk S p day g = v9 := by
                unfold c_mk
                rw [ig]
                repeat' split
                all_goals omega
              have hz := hQ m (fr.wd (by omega))
              rw [ev0] at hz
              exact hz
            · have dn := h8
              refine And.intro (fun _ => ?_) (fun h => absurd h (by decide))
              have ig : s_fore S p g.toNat = s_fore S p i.toNat := by
                by_cases k : i = g
                · rw [k]
                · exact (s_fore_e S p (by omega) hi2.2 (by omega)).trans (by omega)
              have ev0 : c_mk S p day g = (-3) := by
                unfold c_mk
                rw [ig]
                repeat' split
                all_goals omega
              have hz := hQ m (fr.wd (by omega))
              rw [ev0] at hz
              exact hz
          · have ig : s_fore S p g.toNat = s_fore S p i.toNat := by
              by_cases k : i = g
              · rw [k]
              · exact (s_fore_e S p (by omega) hi2.2 (by omega)).trans (by omega)
            have ev0 : c_mk S p day g = (-2) := by
              unfold c_mk
              rw [ig]
              repeat' split
              all_goals omega
            have hz := hQ m (fr.wd (by omega))
            rw [ev0] at hz
            exact hz
        · refine And.intro (by have := (h.2.2.2.2.2.1.2.2.1 (s_fore S p i.toNat) (by omega) (by omega)).2.1; rw [hx, rf.2.2 (by omega)]; exact this) ?_
          refine And.intro (show -2147483648 ≤ i + 1 ∧ i + 1 ≤ 2147483647 by first | omega | (simp only [mS_iff, eq_self, Int.reduceEq, true_and, and_true, false_and, and_false, and_self, ↓reduceIte]; omega) | (simp only [mS_iff, eq_self, Int.reduceEq, true_and, and_true, false_and, and_false, and_self, ↓reduceIte] at *; omega)) ?_
          refine ih26 _ ?_ _ _ (Eq.refl _) ?_ ?_ ?_
          · omega
          · omega
          · exact t1
          · rw [s_fore_s S p (by omega), if_neg (by omega), hx, rf.2.2 (by omega)]
            exact (h.2.2.2.2.2.1.2.2.1 (s_fore S p i.toNat) (by omega) (by omega)).2.2.2.1
  refine am_go 400 [26] (am_wpc_cm _ _ _) wf_103 ?_
  refine And.intro (rfl) ?_
  refine ct_97 (by omega) h (fun t1 => ?_) (fun t1 => ?_)
  · refine And.intro (fun h => absurd h (by decide)) (fun _ => ?_)
    refine And.intro (fun h11 => ?_) (fun h11 => ?_)
    · refine And.intro (rfl) ?_
      refine And.intro (⟨rfl, by have := h.2.2.2.2.2.1.1.1; omega⟩) ?_
      refine K26 _ _ _ (Eq.refl _) ?_ ?_ ?_
      · omega
      · exact t1
      · unfold hpr; rw [if_neg (by show ¬ p = -1; omega)]; rfl
    · have ev0 : c_mk S p day g = (-2) := by
        unfold c_mk
        repeat' split
        all_goals omega
      have hz := hQ m (fr.wd (by omega))
      rw [ev0] at hz
      exact hz
  · refine And.intro (fun _ => ?_) (fun h => absurd h (by decide))
    have ev0 : c_mk S p day g = (-2) := by
      unfold c_mk
      repeat' split
      all_goals omega
    have hz := hQ m (fr.wd (by omega))
    rw [ev0] at hz
    exact hz
