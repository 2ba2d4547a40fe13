/-! needs: d09 -/
/-! CALL: clear, house; by tools/gendA.py -/
set_option maxRecDepth 100000
set_option maxHeartbeats 8000000
theorem c_clr_2 {S : aM} {a day : Int} (h : ¬ v_has S a) : c_clr S a day = (-2, S) := if_neg h
theorem c_clr_3 {S : aM} {a day : Int} (h : v_has S a) (g : ¬ v_day day) : c_clr S a day = (-3, S) := by unfold c_clr; rw [if_pos h, if_neg g]
theorem c_clr_a {S : aM} {a day : Int} (h : v_has S a) (g : v_day day) (c : clr S day (S (100 + a))) : c_clr S a day = (a, S) := by unfold c_clr; rw [if_pos h, if_pos g, if_pos c]
theorem c_clr_n {S : aM} {a day : Int} (h : v_has S a) (g : v_day day) (c : ¬ clr S day (S (100 + a))) (e : k_e S day (S (100 + a)) = -1) (f : k_f S day (S (100 + a)) = -1) : c_clr S a day = (-1, S) := by unfold c_clr; rw [if_pos h, if_pos g, if_neg c, if_pos ⟨e, f⟩]
theorem c_clr_5 {S : aM} {a day : Int} (h : v_has S a) (g : v_day day) (c : ¬ clr S day (S (100 + a))) (e : ¬ (k_e S day (S (100 + a)) = -1 ∧ k_f S day (S (100 + a)) = -1)) (f : S 0 3 = 50) : c_clr S a day = (-5, S) := by unfold c_clr; rw [if_pos h, if_pos g, if_neg c, if_neg e, if_pos f]
theorem c_clr_o {S : aM} {a day : Int} (h : v_has S a) (g : v_day day) (c : ¬ clr S day (S (100 + a))) (e : ¬ (k_e S day (S (100 + a)) = -1 ∧ k_f S day (S (100 + a)) = -1)) (f : S 0 3 ≠ 50) : c_clr S a day = (S 0 3, sAr S (k_w S day (S (100 + a)))) := by unfold c_clr; rw [if_pos h, if_pos g, if_neg c, if_neg e, if_neg f]
theorem frC2.H {m m' : aM} (h : frC2 m m') : hFr 0 m m' := hFr.of (fun r j => r ≠ 5 ∧ (r ≠ 1 ∨ (j ≠ 5 ∧ j ≠ 30))) (fun x j p => h x j p.1 p.2) (fun j => by omega) (fun x j a b => by omega) (fun x j a b c => by unfold hKpt at c; omega)
theorem frTw.H {m m' : aM} (h : frTw 40 400 m m') (h0 : 77 ≤ m 0 0) : hFr 40 m m' := by
  obtain ⟨h1, h2, h3, h4⟩ := h
  exact ⟨h1, by omega, h4, ⟨h1.1, fun r a b c => ⟨h3 r _ (by omega) c, fun _ => funext fun j => h3 r j (by omega) c⟩⟩, fun x j a b _ => h3 x j a (by omega)⟩
/-- cleared arms are entered -/
theorem hI.clr {S : aM} {F : Int → aD} {lo hi cl ch : Int → Int} {m1 m2 m4 m5 : aM} {q : Int} {w : Int → Int} (h1 : hI S F lo hi cl ch m1) (h5 : S 0 3 ≠ 50) (ft : frTw 40 400 m1 m2) (fv : frV2 (m1 0 0 + 1) (m2 0 0) m2 m4) (hA : hArms m4 (m1 0 0 + 1) (m2 0 0) q w) (e5 : m5 = mS (mS m4 19 (S 0 3) q) 1 20 (S 0 3 + 1)) : ∃ lo' hi', hI (sAr S w) F lo' hi' cl ch m5 := by
  have h0 := h1.1
  obtain ⟨mB, eB⟩ : ∃ z : aM, z = fun x j => if x = 5 ∨ (x = 1 ∧ (j = 5 ∨ j = 30)) then m4 x j else m1 x j := ⟨_, rfl⟩
  have B1 : ∀ x j, ¬ (x = 5 ∨ (x = 1 ∧ (j = 5 ∨ j = 30))) → mB x j = m1 x j := fun x j n => by rw [eB]; exact if_neg n
  have B2 : ∀ x j, (x = 5 ∨ (x = 1 ∧ (j = 5 ∨ j = 30))) → mB x j = m4 x j := fun x j n => by rw [eB]; exact if_pos n
  have f1 := ft.1
  have f2 := ft.2.1
  have z4 : ∀ j, m4 0 j = m2 0 j := fun j => fv 0 j (by omega) (by omega) (by omega)
  have z5 : ∀ j, m5 0 j = m2 0 j := fun j => by rw [e5, mS_a _ _ _ _ (by omega), mS_a _ _ _ _ (by omega)]; exact z4 j
  have zB : ∀ j, mB 0 j = m1 0 j := fun j => B1 0 j (by omega)
  have hB : hI S F lo hi cl ch mB := h1.fr (frC2.H (fun x j u v => B1 x j (by omega)))
  have X : ∀ x j, x ≠ 0 → x ≤ m1 0 0 → m4 x j = mB x j := fun x j u v => by
    by_cases k : x = 5 ∨ (x = 1 ∧ (j = 5 ∨ j = 30))
    · exact (B2 x j k).symm
    · rw [B1 x j k, fv x j (by omega) (by omega) (by omega)]
      exact ft.2.2.1 x j u v
  refine hB.ar h5 (m' := m5) (r := q) ⟨by rw [z5, zB]; omega, by rw [z5, zB]; omega, fun j u v => by rw [z5, zB]; exact ft.2.2.2 j u v, fun x j u v a b => ?_, ?_, ?_⟩ ?_
  · rw [zB] at v
    rw [e5, mS_iff, if_neg (by omega), mS_iff, if_neg (by omega)]
    exact X x j u v
  · rw [e5, mS_iff, if_neg (by omega), mS_iff, if_pos ⟨rfl, rfl⟩]
  · rw [e5, mS_iff, if_pos ⟨rfl, rfl⟩]
  · rw [zB, z5]
    exact hA.keep (fun x u v => by rw [show m5 x = m4 x from funext fun j => by rw [e5, mS_a _ _ _ _ (by omega), mS_a _ _ _ _ (by omega)]]; exact ⟨rfl, fun _ => rfl⟩) (by rw [z5]; omega)
theorem hs_115 {d : Nat} {m : aM} {Q : aO → aM → Prop} {S : aM} {F : Int → aD} {lo hi cl ch : Int → Int} {k a day : Int} (hd : 90 ≤ d) (hk : 0 ≤ k) (hz0 : hZ (k + 1) S F lo hi cl ch m) (hF : hFam m) (hQ : ∀ m' lo' hi', hZ k (c_clr S a day).2 F lo' hi' cl ch m' → hFam m' → (∀ x j, 41 ≤ x → x ≤ 76 → m' x j = m x j) → Q (.inl (some (aI (c_clr S a day).1))) m') : am_wpc am_G am_T d 115 [aR 1, aI a, aI day] m Q := by
  have h := hz0.1
  have hr := hz0.2
  have fr := hFr.rfl m
  obtain ⟨r1, r2, r3, r4, r5⟩ := id hr
  have hS := h.2.2.2.1
  have h0 := h.1
  have s1 := hS.1
  have c20 := hS.2.1
  obtain ⟨dk, hdk⟩ : ∃ k, d = k + 1 := ⟨d - 1, by omega⟩
  refine am_in (k := dk) rfl (by omega) (fun d hd => ?_)
  refine am_go 400 [] (am_wpc_cm _ _ _) wf_115 ?_
  refine And.intro (rfl) ?_
  refine ct_59 (by omega) h (by omega) (fun t1 => ?_) (fun t1 m0 fx => ?_)
  · have hA1 := hS.2.2.1 a t1.1 t1.2
    have hB1 := hA1.basic
    refine And.intro (fun _ => ?_) (fun h => absurd h (by decide))
    refine ct_95 (by omega) (fun dy => ?_) (fun dn => ?_)
    · refine And.intro (fun _ => ?_) (fun h => absurd h (by decide))
      refine And.intro (rfl) ?_
      refine And.intro (⟨rfl, by have := t1.1; have := t1.2; omega⟩) ?_
      refine And.intro (rfl) ?_
      refine ct_116 (by omega) h hA1 (fun cy m1 fc => ?_) (fun cy m1 fc => ?_)
      · have hJ1 := h.fr fc.H
        have z0 : ∀ j, m1 0 j = m 0 j := fun j => fc 0 j (by omega) (by omega)
        have z00 := z0 0
        have z01 := z0 1
        have e19 : m1 19 a = m 19 a := fc 19 a (by omega) (by omega)
        have hA1c := fc.arms hA1
        have tg : m1 (m1 19 a) (-1) = 4 := by rw [e19]; exact hA1c.basic.2.2.2.2.1
        refine And.intro (fun h => absurd h (by decide)) (fun _ => ?_)
        rw [c_clr_a t1 dy cy] at hQ
        exact hQ m1 lo hi (hz0.fr fc.H (by omega)) (hF.fr fc.H h0) fc.H.M
      · have hJ1 := h.fr fc.H
        have z0 : ∀ j, m1 0 j = m 0 j := fun j => fc 0 j (by omega) (by omega)
        have z00 := z0 0
        have z01 := z0 1
        have e19 : m1 19 a = m 19 a := fc 19 a (by omega) (by omega)
        have hA1c := fc.arms hA1
        have tg : m1 (m1 19 a) (-1) = 4 := by rw [e19]; exact hA1c.basic.2.2.2.2.1
        refine And.intro (fun _ => ?_) (fun h => absurd h (by decide))
        refine And.intro (rfl) ?_
        refine And.intro (⟨rfl, by have := t1.1; have := t1.2; omega⟩) ?_
        refine And.intro (tg) ?_
        refine ct_163 (by omega) (by rw [e19]; exact hA1c) (by omega) (fun m2 q ft hA2 => ?_)
        have f1 := ft.1
        have f2 := ft.2.1
        have ftH := ft.H (by omega)
        have g20 : m2 1 20 = S 0 3 := by rw [ft.2.2.1 1 20 (by omega) (by omega), fc 1 20 (by omega) (by omega)]; exact c20
        refine And.intro (rfl) ?_
        refine ct_117 (by omega) hJ1 ftH (by omega) hA2 (fun ke m4 hA4 fv => ?_) (fun ke m3 hA3 fv3 => ?_)
        · have g4 : m4 1 20 = S 0 3 := by rw [fv 1 20 (by omega) (by omega) (by omega)]; exact g20
          have fH := ftH.V fv (by omega)
          have kw : k_w S day (S (100 + a)) = q1 (S (100 + a)) (k_e S day (S (100 + a))) := if_neg ke
          rw [← kw] at hA4
          have kn : ¬ (k_e S day (S (100 + a)) = -1 ∧ k_f S day (S (100 + a)) = -1) := fun z => ke z.1
          have rb := hA4.basic
          refine And.intro (fun _ => ?_) (fun h => absurd h (by decide))
          refine And.intro (rfl) ?_
          refine And.intro (fun h1 => ?_) (fun h1 => ?_)
          · refine And.intro (rfl) ?_
            refine am_in (k := 0) rfl (by omega) (fun d hd => ?_)
            refine am_go 400 [] (am_wpc_cm _ _ _) wf_56 ?_
            refine And.intro (rfl) ?_
            refine And.intro (rfl) ?_
            refine And.intro (⟨rfl, by first | omega | (simp only [mS_iff, eq_self, Int.reduceEq, true_and, and_true, false_and, and_false, and_self, ↓reduceIte]; omega), by first | omega | (simp only [mS_iff, eq_self, Int.reduceEq, true_and, and_true, false_and, and_false, and_self, ↓reduceIte]; omega), Or.inr ⟨by omega, by simp only [mS_iff, eq_self, Int.reduceEq, true_and, and_true, false_and, and_false, and_self, ↓reduceIte]; exact rb.2.2.2.2.1⟩⟩) ?_
            refine And.intro (rfl) ?_
            refine And.intro (show -2147483648 ≤ (m4 1 20) + 1 ∧ (m4 1 20) + 1 ≤ 2147483647 by first | omega | (simp only [mS_iff, eq_self, Int.reduceEq, true_and, and_true, false_and, and_false, and_self, ↓reduceIte]; omega) | (simp only [mS_iff, eq_self, Int.reduceEq, true_and, and_true, false_and, and_false, and_self, ↓reduceIte] at *; omega)) ?_
            refine And.intro (rfl) ?_
            refine And.intro (rfl) ?_
            refine And.intro (show -2147483648 ≤ ((m4 1 20) + 1) - 1 ∧ ((m4 1 20) + 1) - 1 ≤ 2147483647 by first | omega | (simp only [mS_iff, eq_self, Int.reduceEq, true_and, and_true, false_and, and_false, and_self, ↓reduceIte]; omega) | (simp only [mS_iff, eq_self, Int.reduceEq, true_and, and_true, false_and, and_false, and_self, ↓reduceIte] at *; omega)) ?_
            rw [c_clr_o t1 dy cy kn (by omega)] at hQ
            have e5 : (mS (mS m4 19 (m4 1 20) q) 1 20 ((m4 1 20) + 1)) = mS (mS m4 19 (S 0 3) q) 1 20 (S 0 3 + 1) := by
              rw [g4]
              try rw [show (mS m4 19 (S 0 3) q) 1 20 = S 0 3 by rw [mS_a _ _ _ _ (by omega)]; exact g4]
            obtain ⟨lo', hi', hK5⟩ := hJ1.clr (by omega) ft fv hA4 e5
            have fT := fc.H.trans fH
            have W1 : ∀ x j, 1 ≤ x → x ≤ 76 → x ≠ 5 → x ≠ 19 → (x ≠ 1 ∨ (j ≠ 5 ∧ j ≠ 20 ∧ j ≠ 30)) → ((mS (mS m4 19 (m4 1 20) q) 1 20 ((m4 1 20) + 1))) x j = m x j := fun x j a b c d e => by
              rw [mS_iff, if_neg (by omega), mS_iff, if_neg (by omega)]
              rw [fv x j (by omega) c (by omega), ft.2.2.1 x j (by omega) (by omega)]
              exact fc x j c (by omega)
            have W0 : ∀ j, ((mS (mS m4 19 (m4 1 20) q) 1 20 ((m4 1 20) + 1))) 0 j = m2 0 j := fun j => by rw [mS_iff, if_neg (by omega), mS_iff, if_neg (by omega)]; exact fv 0 j (by omega) (by omega) (by omega)
            have w14 := W1 1 14 (by omega) (by omega) (by omega) (by omega) (by omega)
            have w00 := W0 0
            have w01 := W0 1
            have hz := hQ ((mS (mS m4 19 (m4 1 20) q) 1 20 ((m4 1 20) + 1))) lo' hi' ⟨hK5, by omega, by omega, by omega, by omega, by omega⟩ (hF.keep (fun x u v => by rw [show ((mS (mS m4 19 (m4 1 20) q) 1 20 ((m4 1 20) + 1))) x = m x from funext fun j => W1 x j (by omega) (by omega) (by omega) (by omega) (by omega)]; exact ⟨rfl, fun _ => rfl⟩) (W1 1 45 (by omega) (by omega) (by omega) (by omega) (by omega)) ⟨W1 4 _ (by omega) (by omega) (by omega) (by omega) (by omega), W1 4 _ (by omega) (by omega) (by omega) (by omega) (by omega)⟩) (fun x j u v => W1 x j (by omega) (by omega) (by omega) (by omega) (by omega))
            show Q (.inl (some (aI (((m4 1 20) + 1) - 1)))) ((mS (mS m4 19 (m4 1 20) q) 1 20 ((m4 1 20) + 1)))
            rw [show (((m4 1 20) + 1) - 1) = S 0 3 by omega]
            exact hz
          · rw [c_clr_5 t1 dy cy kn (by omega)] at hQ
            have fT := fc.H.trans fH
            exact hQ m4 lo hi (hz0.fr fT (by omega)) (hF.fr fT h0) fT.M
        · refine And.intro (fun h => absurd h (by decide)) (fun _ => ?_)
          refine And.intro (rfl) ?_
          refine ct_121 (by omega) hJ1 (ftH.V fv3 (by omega)) (by omega) hA3 (fun kf m4 hA4 fv4 => ?_) (fun kf m4 hA4 fv4 => ?_)
          · have fv := fv3.trans fv4
            have g4 : m4 1 20 = S 0 3 := by rw [fv 1 20 (by omega) (by omega) (by omega)]; exact g20
            have fH := ftH.V fv (by omega)
            have kw : k_w S day (S (100 + a)) = q2 (S (100 + a)) (k_f S day (S (100 + a))) := if_pos ke
            rw [← kw] at hA4
            have kn : ¬ (k_e S day (S (100 + a)) = -1 ∧ k_f S day (S (100 + a)) = -1) := fun z => kf z.2
            have rb := hA4.basic
            refine And.intro (fun _ => ?_) (fun h => absurd h (by decide))
            refine And.intro (rfl) ?_
            refine And.intro (fun h2 => ?_) (fun h2 => ?_)
            · refine And.intro (rfl) ?_
              refine am_in (k := 0) rfl (by omega) (fun d hd => ?_)
              refine am_go 400 [] (am_wpc_cm _ _ _) wf_56 ?_
              refine And.intro (rfl) ?_
              refine And.intro (rfl) ?_
              refine And.intro (⟨rfl, by first | omega | (simp only [mS_iff, eq_self, Int.reduceEq, true_and, and_true, false_and, and_false, and_self, ↓reduceIte]; omega), by first | omega | (simp only [mS_iff, eq_self, Int.reduceEq, true_and, and_true, false_and, and_false, and_self, ↓reduceIte]; omega), Or.inr ⟨by omega, by simp only [mS_iff, eq_self, Int.reduceEq, true_and, and_true, false_and, and_false, and_self, ↓reduceIte]; exact rb.2.2.2.2.1⟩⟩) ?_
              refine And.intro (rfl) ?_
              refine And.intro (show -2147483648 ≤ (m4 1 20) + 1 ∧ (m4 1 20) + 1 ≤ 2147483647 by first | omega | (simp only [mS_iff, eq_self, Int.reduceEq, true_and, and_true, false_and, and_false, and_self, ↓reduceIte]; omega) | (simp only [mS_iff, eq_self, Int.reduceEq, true_and, and_true, false_and, and_false, and_self, ↓reduceIte] at *; omega)) ?_
              refine And.intro (rfl) ?_
              refine And.intro (rfl) ?_
              refine And.intro (show -2147483648 ≤ ((m4 1 20) + 1) - 1 ∧ ((m4 1 20) + 1) - 1 ≤ 2147483647 by first | omega | (simp only [mS_iff, eq_self, Int.reduceEq, true_and, and_true, false_and, and_false, and_self, ↓reduceIte]; omega) | (simp only [mS_iff, eq_self, Int.reduceEq, true_and, and_true, false_and, and_false, and_self, ↓reduceIte] at *; omega)) ?_
              rw [c_clr_o t1 dy cy kn (by omega)] at hQ
              have e5 : (mS (mS m4 19 (m4 1 20) q) 1 20 ((m4 1 20) + 1)) = mS (mS m4 19 (S 0 3) q) 1 20 (S 0 3 + 1) := by
                rw [g4]
                try rw [show (mS m4 19 (S 0 3) q) 1 20 = S 0 3 by rw [mS_a _ _ _ _ (by omega)]; exact g4]
              obtain ⟨lo', hi', hK5⟩ := hJ1.clr (by omega) ft fv hA4 e5
              have fT := fc.H.trans fH
              have W1 : ∀ x j, 1 ≤ x → x ≤ 76 → x ≠ 5 → x ≠ 19 → (x ≠ 1 ∨ (j ≠ 5 ∧ j ≠ 20 ∧ j ≠ 30)) → ((mS (mS m4 19 (m4 1 20) q) 1 20 ((m4 1 20) + 1))) x j = m x j := fun x j a b c d e => by
                rw [mS_iff, if_neg (by omega), mS_iff, if_neg (by omega)]
                rw [fv x j (by omega) c (by omega), ft.2.2.1 x j (by omega) (by omega)]
                exact fc x j c (by omega)
              have W0 : ∀ j, ((mS (mS m4 19 (m4 1 20) q) 1 20 ((m4 1 20) + 1))) 0 j = m2 0 j := fun j => by rw [mS_iff, if_neg (by omega), mS_iff, if_neg (by omega)]; exact fv 0 j (by omega) (by omega) (by omega)
              have w14 := W1 1 14 (by omega) (by omega) (by omega) (by omega) (by omega)
              have w00 := W0 0
              have w01 := W0 1
              have hz := hQ ((mS (mS m4 19 (m4 1 20) q) 1 20 ((m4 1 20) + 1))) lo' hi' ⟨hK5, by omega, by omega, by omega, by omega, by omega⟩ (hF.keep (fun x u v => by rw [show ((mS (mS m4 19 (m4 1 20) q) 1 20 ((m4 1 20) + 1))) x = m x from funext fun j => W1 x j (by omega) (by omega) (by omega) (by omega) (by omega)]; exact ⟨rfl, fun _ => rfl⟩) (W1 1 45 (by omega) (by omega) (by omega) (by omega) (by omega)) ⟨W1 4 _ (by omega) (by omega) (by omega) (by omega) (by omega), W1 4 _ (by omega) (by omega) (by omega) (by omega) (by omega)⟩) (fun x j u v => W1 x j (by omega) (by omega) (by omega) (by omega) (by omega))
              show Q (.inl (some (aI (((m4 1 20) + 1) - 1)))) ((mS (mS m4 19 (m4 1 20) q) 1 20 ((m4 1 20) + 1)))
              rw [show (((m4 1 20) + 1) - 1) = S 0 3 by omega]
              exact hz
            · rw [c_clr_5 t1 dy cy kn (by omega)] at hQ
              have fT := fc.H.trans fH
              exact hQ m4 lo hi (hz0.fr fT (by omega)) (hF.fr fT h0) fT.M
          · have fv := fv3.trans fv4
            have g4 : m4 1 20 = S 0 3 := by rw [fv 1 20 (by omega) (by omega) (by omega)]; exact g20
            have fH := ftH.V fv (by omega)
            refine And.intro (fun h => absurd h (by decide)) (fun _ => ?_)
            rw [c_clr_n t1 dy cy ke kf] at hQ
            have fT := fc.H.trans fH
            exact hQ m4 lo hi (hz0.fr fT (by omega)) (hF.fr fT h0) fT.M
    · refine And.intro (fun h => absurd h (by decide)) (fun _ => ?_)
      rw [c_clr_3 t1 dn] at hQ
      exact hQ m lo hi (hz0.fr (hFr.rfl m) (by omega)) hF (fun _ _ _ _ => rfl)
  · refine And.intro (fun h => absurd h (by decide)) (fun _ => ?_)
    rw [c_clr_2 t1] at hQ
    exact hQ m0 lo hi (hz0.fr fx (by omega)) (hF.fr fx h0) fx.M
