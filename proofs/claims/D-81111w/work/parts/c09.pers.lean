/-! needs: c08 -/
/-! CALLS that change persons, both; by tools/genc9.py -/
set_option maxRecDepth 100000
set_option maxHeartbeats 8000000
def c_die (S : aM) (p day : Int) : Int × aM := if 0 ≤ p ∧ p < S 0 4 then (if v_day day then (if S 14 p ≤ 9999 ∨ day ≤ S 13 p then (-4, S) else (1, mS S 14 p day)) else (-3, S)) else (-2, S)
theorem sPs.die {S : aM} {p day : Int} (h : sPs S) (hd : v_day day) : sPs (mS S 14 p day) := by
  obtain ⟨h1, h2⟩ := h
  have E : ∀ x, x ≠ 14 → mS S 14 p day x = S x := fun x u => funext fun j => by rw [mS_iff, if_neg (by omega)]
  unfold sPs
  rw [E 0 (by omega), E 10 (by omega), E 11 (by omega), E 12 (by omega), E 13 (by omega), E 15 (by omega)]
  refine ⟨h1, fun q a b => ?_⟩
  obtain ⟨g1, g2, g3, g4, g5, g6⟩ := h2 q a b
  refine ⟨g1, g2, g3, g4, ?_, g6⟩
  rw [mS_iff]
  split <;> omega
/-- what differs from the state but for one object that is neither arms nor clause: all but the persons stand -/
theorem hI.ob {S S' : aM} {F : Int → aD} {lo hi cl ch : Int → Int} {m m' : aM} {r : Int} (h : hI S F lo hi cl ch m) (hr : 77 ≤ r) (f : ∀ x j, x ≠ r → m' x j = m x j) (ha : ∀ i, 0 ≤ i → i < S 0 3 → r < lo i ∨ hi i < r) (hc : ∀ i, 0 ≤ i → i < S 0 6 → r < cl i ∨ ch i < r) (hp : hPs S' m') (s : S' 0 = S 0) (sr : ∀ x, x ≠ 14 → S' x = S x) : hI S' F lo hi cl ch m' := by
  obtain ⟨i1, i2, i3, i4, i5, i6, i7, i8, i9, ia, ib, ic, id⟩ := h
  have E : ∀ x, x ≠ r → m' x = m x := fun x a => funext fun j => f x j a
  have K : ∀ a b, (r < a ∨ b < r) → hKeep m m' a b := fun a b u q x y => by rw [E q (by omega)]; exact ⟨rfl, fun _ => rfl⟩
  have e0 := E 0 (by omega)
  refine ⟨by rw [e0]; exact i1, by rw [e0]; exact i2, ?_, ?_, (i5.keep (f 1 29 (by omega)) (fun x q => E x (by omega))).cg (by rw [s]) (by rw [s]) (fun x a b => sr x (by omega)), hp, ?_, ?_, ?_, ?_, ?_, by rw [s]; exact ic, ?_⟩
  · unfold hNm
    rw [E 1 (by omega), E 18 (by omega), E 4 (by omega), s, sr 1 (by omega), sr 2 (by omega)]
    exact i3
  · obtain ⟨a1, a2, a3, a4, a5⟩ := i4
    unfold hAs
    rw [s, E 1 (by omega), E 19 (by omega)]
    refine ⟨a1, a2, fun i u v => ?_, a4, a5⟩
    rw [sr (100 + i) (by omega)]
    exact (a3 i u v).keep (K _ _ (ha i u v)) (by rw [e0]; exact (a3 i u v).1.2)
  · obtain ⟨a1, a2, a3⟩ := i7
    unfold hCs
    rw [s, sr 20 (by omega), E 1 (by omega), E 27 (by omega), E 28 (by omega), e0]
    refine ⟨a1, a2, fun i u v => ?_⟩
    obtain ⟨g1, ⟨p, g2, g3⟩, g4⟩ := a3 i u v
    exact ⟨g1, ⟨p, g2, g3.keep (K _ _ (hc i u v))⟩, g4⟩
  · unfold hAp
    rw [s]
    exact i8
  · unfold hDn hDr
    rw [s, e0, E 1 (by omega), E 19 (by omega), E 6 (by omega), E 10 (by omega)]
    exact ⟨i9.1, fun i a b c => by rw [sr (100 + i) (by omega)]; exact i9.2 i a b c⟩
  · unfold hTk
    rw [E 9 (by omega), E 1 (by omega)]
    exact ia
  · unfold hOn hWd hCst
    rw [E 26 (by omega), E 3 (by omega), E 14 (by omega), E 18 (by omega), E 2 (by omega), E (-4) (by omega)]
    exact ⟨⟨fun r q => (E r (by omega)).trans (ib.1.1 r q), ib.1.2⟩, ib.2⟩
  · unfold hPr
    rw [s, E 20 (by omega)]
    exact id
theorem hPs.die {S m : aM} {p day : Int} (h : hPs S m) (hp : 0 ≤ p ∧ p < S 0 4) (hd : v_day day) : hPs (mS S 14 p day) (mS m (m 20 p) 5 day) := by
  obtain ⟨h1, h2, h3, h4⟩ := h
  have E : ∀ x, x ≠ 14 → mS S 14 p day x = S x := fun x u => funext fun j => by rw [mS_iff, if_neg (by omega)]
  have r7 := (h3 p hp.1 hp.2).1
  have m1 : mS m (m 20 p) 5 day 1 = m 1 := funext fun j => by rw [mS_iff, if_neg (by omega)]
  have m20 : mS m (m 20 p) 5 day 20 = m 20 := funext fun j => by rw [mS_iff, if_neg (by omega)]
  have m0 : mS m (m 20 p) 5 day 0 = m 0 := funext fun j => by rw [mS_iff, if_neg (by omega)]
  refine ⟨h1.die hd, ?_⟩
  rw [E 0 (by omega), E 10 (by omega), E 11 (by omega), E 12 (by omega), E 13 (by omega), E 15 (by omega), m1, m20, m0]
  refine ⟨h2, fun q a b => ?_, h4⟩
  obtain ⟨g1, g2, g3, g4, g5, g6, g7, g8, g9⟩ := h3 q a b
  have N : ∀ j, j ≠ 5 → mS m (m 20 p) 5 day (m 20 q) j = m (m 20 q) j := fun j u => by rw [mS_iff, if_neg (by omega)]
  have H : ∀ x, hpr (mS m (m 20 p) 5 day) x = hpr m x := fun x => by unfold hpr; rw [m20]
  rw [N (-1) (by omega), N 0 (by omega), N 1 (by omega), N 2 (by omega), N 3 (by omega), N 4 (by omega), N 6 (by omega), H, H]
  refine ⟨g1, g2, g3, g4, g5, g6, g7, ?_, g9⟩
  by_cases k : q = p
  · subst k
    rw [mS_iff, if_pos ⟨rfl, rfl⟩, mS_iff, if_pos ⟨rfl, rfl⟩]
  · have := h4 q p a b hp.1 hp.2 k
    rw [mS_iff, if_neg (by omega), mS_iff, if_neg (by omega)]
    exact g8
theorem mI.die {S : aM} {F : Int → aD} {m : aM} {p day : Int} (h : mI S F m) (hp : 0 ≤ p ∧ p < S 0 4) (hd : v_day day) : mI (mS S 14 p day) F (mS m 60 p day) := by
  obtain ⟨i1, i2, i3, i4, i5, i6, i7, i8⟩ := h
  have E : ∀ x, x ≠ 14 → mS S 14 p day x = S x := fun x u => funext fun j => by rw [mS_iff, if_neg (by omega)]
  have G : ∀ x, x ≠ 60 → mS m 60 p day x = m x := fun x u => funext fun j => by rw [mS_iff, if_neg (by omega)]
  refine ⟨?_, ?_, ?_, ?_, ?_, ?_, ?_, ?_⟩
  · unfold mNm
    rw [E 0 (by omega), E 1 (by omega), E 2 (by omega), G 41 (by omega), G 43 (by omega), G 44 (by omega)]
    exact i1
  · unfold mAs mRow
    rw [E 0 (by omega), G 41 (by omega), G 42 (by omega)]
    exact ⟨i2.1, i2.2.1, fun i a b => by rw [E (100 + i) (by omega)]; exact i2.2.2 i a b⟩
  · unfold mEs sEs
    rw [E 0 (by omega), E 16 (by omega), E 17 (by omega), E 18 (by omega), G 41 (by omega), G 65 (by omega), G 66 (by omega), G 67 (by omega)]
    exact i3
  · refine ⟨i4.1.die hd, ?_⟩
    rw [E 0 (by omega), E 10 (by omega), E 11 (by omega), E 12 (by omega), E 13 (by omega), E 15 (by omega), G 41 (by omega), G 56 (by omega), G 57 (by omega), G 58 (by omega), G 59 (by omega), G 61 (by omega)]
    refine ⟨i4.2.1, fun q a b => ?_⟩
    obtain ⟨g1, g2, g3, g4, g5, g6⟩ := i4.2.2 q a b
    refine ⟨g1, g2, g3, g4, ?_, g6⟩
    rw [mS_iff, mS_iff]
    split
    · rw [if_pos (by omega)]
    · rw [if_neg (by omega)]
      exact g5
  · unfold mCs
    rw [E 0 (by omega), E 20 (by omega), G 41 (by omega), G 70 (by omega), G 69 (by omega)]
    refine ⟨i5.1, i5.2.1, fun i a b => ?_⟩
    obtain ⟨⟨q, hi, c1, c2, c3⟩, c4⟩ := i5.2.2 i a b
    exact ⟨⟨q, hi, c1, c2, c3.keep (fun x j u v _ _ => by rw [G x (by omega)])⟩, c4⟩
  · unfold mDn mDr
    rw [E 0 (by omega), G 41 (by omega), G 51 (by omega), G 52 (by omega)]
    exact ⟨i6.1, fun i a b c => by rw [E (100 + i) (by omega)]; exact i6.2 i a b c⟩
  · unfold mTk
    rw [G 41 (by omega), G 55 (by omega)]
    exact i7
  · unfold mOn mW5 mWr mWd
    rw [G 45 (by omega), G 46 (by omega), G 47 (by omega), G 48 (by omega), G 49 (by omega), G 50 (by omega)]
    exact i8
theorem hs_96 {d : Nat} {m : aM} {Q : aO → aM → Prop} {S : aM} {F : Int → aD} {lo hi cl ch : Int → Int} {p day : Int} {k : Int} (hd : 60 ≤ d) (hk : 0 ≤ k) (hz0 : hZ (k + 1) S F lo hi cl ch m)  (hQ : ∀ m', hZ k (c_die S p day).2 F lo hi cl ch m' → (∀ x j, 41 ≤ x → x ≤ 76 → m' x j = m x j) → Q (.inl (some (aI (c_die S p day).1))) m') : am_wpc am_G am_T d 96 [aR 1, aI p, aI day] m Q := by
  have h := hz0.1
  have hr := hz0.2
  have fr := hFr.rfl m
  obtain ⟨r1, r2, r3, r4, r5⟩ := id hr
  have hS := h.2.2.2.1
  have h0 := h.1
  have s1 := hS.1
  obtain ⟨n1, n2, n3, n4, n5, n6, n7, n8, n9⟩ := id h.2.2.1
  have hE := h.2.2.2.2.1
  have e5 := hE.2.1
  have e6 := hE.1.1
  have e7 := hE.1.2
  obtain ⟨dk, hdk⟩ : ∃ k, d = k + 1 := ⟨d - 1, by omega⟩
  refine am_in (k := dk) rfl (by omega) (fun d hd => ?_)
  refine am_go 400 [] (am_wpc_cm _ _ _) wf_96 ?_
  refine And.intro (rfl) ?_
  refine ct_97 (by omega) h (fun t1 => ?_) (fun t1 => ?_)
  · refine And.intro (fun _ => ?_) (fun h => absurd h (by decide))
    refine ct_95 (by omega) (fun h1 => ?_) (fun h1 => ?_)
    · have dy := h1
      refine And.intro (fun _ => ?_) (fun h => absurd h (by decide))
      obtain ⟨g1, g2, g3, g4, g5, g6, g7, g8, g9⟩ := h.2.2.2.2.2.1.2.2.1 p t1.1 t1.2
      have gs := h.2.2.2.2.2.1.1.2 p t1.1 t1.2
      have p40 := h.2.2.2.2.2.1.1.1
      refine And.intro (rfl) ?_
      refine And.intro (⟨rfl, by omega⟩) ?_
      refine And.intro (show (m (m 20 p) (-1)) = 11 by first | assumption | omega | (simp only [mS_iff, eq_self, Int.reduceEq, true_and, and_true, false_and, and_false, and_self, ↓reduceIte]; omega) | (simp only [mS_iff, eq_self, Int.reduceEq, true_and, and_true, false_and, and_false, and_self, ↓reduceIte] at *; omega)) ?_
      refine And.intro (fun h2 => ?_) (fun h2 => ?_)
      · have ev0 : c_die S p day = ((-4), S) := by
          unfold c_die
          repeat' split
          all_goals first | rfl | (exfalso; omega) | (refine Prod.ext ?_ ?_ <;> first | rfl | (show _ = _; omega))
        rw [ev0] at hQ
        dsimp only at hQ
        exact hQ m (hz0.fr fr (by omega)) fr.M
      · refine And.intro (show (m (m 20 p) (-1)) = 11 by first | assumption | omega | (simp only [mS_iff, eq_self, Int.reduceEq, true_and, and_true, false_and, and_false, and_self, ↓reduceIte]; omega) | (simp only [mS_iff, eq_self, Int.reduceEq, true_and, and_true, false_and, and_false, and_self, ↓reduceIte] at *; omega)) ?_
        refine And.intro (fun h3 => ?_) (fun h3 => ?_)
        · refine And.intro (show 0 < (m 20 p) ∧ (m (m 20 p) (-1)) = 11 by first | omega | (simp only [mS_iff, eq_self, Int.reduceEq, true_and, and_true, false_and, and_false, and_self, ↓reduceIte]; omega) | (simp only [mS_iff, eq_self, Int.reduceEq, true_and, and_true, false_and, and_false, and_self, ↓reduceIte] at *; omega)) ?_
          have ev0 : c_die S p day = (1, mS S 14 p day) := by
            unfold c_die
            repeat' split
            all_goals first | rfl | (exfalso; omega) | (refine Prod.ext ?_ ?_ <;> first | rfl | (show _ = _; omega))
          rw [ev0] at hQ
          dsimp only at hQ
          have PR := h.2.2.2.2.2.2.2.2.2.2.2.2 p t1.1 t1.2
          exact hQ _ ⟨h.ob (r := m 20 p) (by omega) (fun x j u => by rw [mS_iff, if_neg (by omega)]) PR.1 PR.2 (h.2.2.2.2.2.1.die t1 dy) (funext fun j => by rw [mS_iff, if_neg (by omega)]) (fun x u => funext fun j => by rw [mS_iff, if_neg (by omega)]), hr.up (fun j => by rw [mS_iff, if_neg (by omega)]) (by rw [mS_iff, if_neg (by omega)])⟩ (fun x j u v => by rw [mS_iff, if_neg (by omega)])
        · have ev0 : c_die S p day = ((-4), S) := by
            unfold c_die
            repeat' split
            all_goals first | rfl | (exfalso; omega) | (refine Prod.ext ?_ ?_ <;> first | rfl | (show _ = _; omega))
          rw [ev0] at hQ
          dsimp only at hQ
          exact hQ m (hz0.fr fr (by omega)) fr.M
    · have dn := h1
      refine And.intro (fun h => absurd h (by decide)) (fun _ => ?_)
      have ev0 : c_die S p day = ((-3), S) := by
        unfold c_die
        repeat' split
        all_goals first | rfl | (exfalso; omega) | (refine Prod.ext ?_ ?_ <;> first | rfl | (show _ = _; omega))
      rw [ev0] at hQ
      dsimp only at hQ
      exact hQ m (hz0.fr fr (by omega)) fr.M
  · refine And.intro (fun h => absurd h (by decide)) (fun _ => ?_)
    have ev0 : c_die S p day = ((-2), S) := by
      unfold c_die
      repeat' split
      all_goals first | rfl | (exfalso; omega) | (refine Prod.ext ?_ ?_ <;> first | rfl | (show _ = _; omega))
    rw [ev0] at hQ
    dsimp only at hQ
    exact hQ m (hz0.fr fr (by omega)) fr.M
theorem ms_255 {d : Nat} {m : aM} {Q : aO → aM → Prop} {S : aM} {F : Int → aD} {p day : Int} {k : Int} (hd : 60 ≤ d) (hk : 0 ≤ k) (hz0 : mZ (k + 1) S F m)  (hQ : ∀ m', mZ k (c_die S p day).2 F m' → (∀ x j, x < 41 ∨ 76 < x → m' x j = m x j) → Q (.inl (some (aI (c_die S p day).1))) m') : am_wpc am_G am_T d 255 [aR 41, aI p, aI day] m Q := by
  have h := hz0.1
  have hr := hz0.2
  have fr := mFr.rfl m
  have hS := h.2.1
  have s1 := hS.1
  obtain ⟨n1, n2, n3, n4, n5, n6, n7, n8⟩ := id h.1
  have hE := h.2.2.1
  have e5 := hE.2.1
  have e6 := hE.1.1
  have e7 := hE.1.2
  obtain ⟨dk, hdk⟩ : ∃ k, d = k + 1 := ⟨d - 1, by omega⟩
  refine am_in (k := dk) rfl (by omega) (fun d hd => ?_)
  refine am_go 400 [] (am_wpc_cm _ _ _) wf_255 ?_
  refine And.intro (rfl) ?_
  refine ct_253 (by omega) h (fun t1 => ?_) (fun t1 => ?_)
  · refine And.intro (fun _ => ?_) (fun h => absurd h (by decide))
    refine ct_254 (by omega) (fun h1 => ?_) (fun h1 => ?_)
    · have dy := h1
      refine And.intro (fun _ => ?_) (fun h => absurd h (by decide))
      obtain ⟨g1, g2, g3, g4, g5, g6⟩ := h.2.2.2.1.2.2 p t1.1 t1.2
      have gs := h.2.2.2.1.1.2 p t1.1 t1.2
      have p40 := h.2.2.2.1.1.1
      refine And.intro (rfl) ?_
      refine And.intro (⟨rfl, by omega⟩) ?_
      refine And.intro (fun h2 => ?_) (fun h2 => ?_)
      · have ev0 : c_die S p day = ((-4), S) := by
          unfold c_die
          repeat' split
          all_goals first | rfl | (exfalso; omega) | (refine Prod.ext ?_ ?_ <;> first | rfl | (show _ = _; omega))
        rw [ev0] at hQ
        dsimp only at hQ
        exact hQ m (hz0.fr fr) fr.1
      · refine And.intro (rfl) ?_
        refine And.intro (⟨rfl, by omega⟩) ?_
        refine And.intro (fun h3 => ?_) (fun h3 => ?_)
        · refine And.intro (rfl) ?_
          refine And.intro (⟨rfl, by omega⟩) ?_
          have ev0 : c_die S p day = (1, mS S 14 p day) := by
            unfold c_die
            repeat' split
            all_goals first | rfl | (exfalso; omega) | (refine Prod.ext ?_ ?_ <;> first | rfl | (show _ = _; omega))
          rw [ev0] at hQ
          dsimp only at hQ
          exact hQ _ ⟨h.die t1 dy, hr.up (by rw [mS_iff, if_neg (by omega)])⟩ (fun x j u => by rw [mS_iff, if_neg (by omega)])
        · have ev0 : c_die S p day = ((-4), S) := by
            unfold c_die
            repeat' split
            all_goals first | rfl | (exfalso; omega) | (refine Prod.ext ?_ ?_ <;> first | rfl | (show _ = _; omega))
          rw [ev0] at hQ
          dsimp only at hQ
          exact hQ m (hz0.fr fr) fr.1
    · have dn := h1
      refine And.intro (fun h => absurd h (by decide)) (fun _ => ?_)
      have ev0 : c_die S p day = ((-3), S) := by
        unfold c_die
        repeat' split
        all_goals first | rfl | (exfalso; omega) | (refine Prod.ext ?_ ?_ <;> first | rfl | (show _ = _; omega))
      rw [ev0] at hQ
      dsimp only at hQ
      exact hQ m (hz0.fr fr) fr.1
  · refine And.intro (fun h => absurd h (by decide)) (fun _ => ?_)
    have ev0 : c_die S p day = ((-2), S) := by
      unfold c_die
      repeat' split
      all_goals first | rfl | (exfalso; omega) | (refine Prod.ext ?_ ?_ <;> first | rfl | (show _ = _; omega))
    rw [ev0] at hQ
    dsimp only at hQ
    exact hQ m (hz0.fr fr) fr.1
