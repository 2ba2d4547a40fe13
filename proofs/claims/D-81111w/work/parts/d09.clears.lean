/-! needs: d08 -/
/-! CLEAR, house: whether changes clear; by tools/gend9.py -/
set_option maxRecDepth 100000
set_option maxHeartbeats 8000000
def frC2 (m m' : aM) : Prop := ∀ x j, x ≠ 5 → (x ≠ 1 ∨ (j ≠ 5 ∧ j ≠ 30)) → m' x j = m x j
theorem frC2.V {lo hi : Int} {m m' : aM} (h : frC2 m m') : frV2 lo hi m m' := fun x j _ u v => h x j u v
theorem frC2.arms {m m' : aM} {lo hi r : Int} {w : Int → Int} (h : frC2 m m') (g : hArms m lo hi r w) : hArms m' lo hi r w := g.keep (fun x u v => by
  have := g.1
  rw [show m' x = m x from funext fun j => h x j (by omega) (by omega)]; exact ⟨rfl, fun _ => rfl⟩) (by rw [h 0 0 (by omega) (by omega)]; exact g.1.2)
theorem ct_116 {d : Nat} {m : aM} {Q : aO → aM → Prop} {S : aM} {F : Int → aD} {L H cl ch : Int → Int} {lo hi r day : Int} {w : Int → Int} (hd : 10 ≤ d) (h : hI S F L H cl ch m) (hA : hArms m lo hi r w) (hQ1 : clr S day w → ∀ m', frC2 m m' → Q (.inl (some (aI 1))) m') (hQ0 : ¬ clr S day w → ∀ m', frC2 m m' → Q (.inl (some (aI 0))) m') : am_wpc am_G am_T d 116 [aR 1, aR r, aI day] m Q := by
  have hB := hA.basic
  have hf := hA.fld
  have f2 := hf.2.1
  have f6 := hf.2.2.2.2.2.1
  have f7 := hf.2.2.2.2.2.2.1
  have t4 := hB.2.2.2.2.1
  have h0 := h.1
  obtain ⟨dk, hdk⟩ : ∃ k, d = k + 1 := ⟨d - 1, by omega⟩
  refine am_in (k := dk) rfl (by omega) (fun d hd => ?_)
  refine am_go 400 [] (am_wpc_cm _ _ _) wf_116 ?_
  refine And.intro (t4) ?_
  refine And.intro (f2) ?_
  refine And.intro (t4) ?_
  refine And.intro (f2) ?_
  refine And.intro (fun h1 => ?_) (fun h1 => ?_)
  · refine And.intro (by first | omega | (simp only [mS_iff, eq_self, Int.reduceEq, true_and, and_true, false_and, and_false, and_self, ↓reduceIte]; omega) | (simp only [mS_iff, eq_self, Int.reduceEq, true_and, and_true, false_and, and_false, and_self, ↓reduceIte] at *; omega)) ?_
    exact hQ0 (fun z => by have := z.1; omega) _ (fun _ _ _ _ => rfl)
  · refine And.intro (rfl) ?_
    refine am_in (k := 3) rfl (by omega) (fun d hd => ?_)
    refine am_go 400 [] (am_wpc_cm _ _ _) wf_34 ?_
    refine And.intro (rfl) ?_
    refine ct_35 (by omega) hA (fun mj fj bj bi => ?_)
    have hJ := h.fr fj.H
    have hAj := fj.H.2.2.2.1.arms hA
    refine And.intro (rfl) ?_
    refine And.intro (fun h2 => ?_) (fun h2 => ?_)
    · refine And.intro (by first | omega | (simp only [mS_iff, eq_self, Int.reduceEq, true_and, and_true, false_and, and_false, and_self, ↓reduceIte]; omega) | (simp only [mS_iff, eq_self, Int.reduceEq, true_and, and_true, false_and, and_false, and_self, ↓reduceIte] at *; omega)) ?_
      refine And.intro (fun _ => ?_) (fun h => absurd h (by decide))
      refine And.intro (by first | omega | (simp only [mS_iff, eq_self, Int.reduceEq, true_and, and_true, false_and, and_false, and_self, ↓reduceIte]; omega) | (simp only [mS_iff, eq_self, Int.reduceEq, true_and, and_true, false_and, and_false, and_self, ↓reduceIte] at *; omega)) ?_
      exact hQ0 (fun z => by have := z.2.1; omega) _ (fun x j u v => fj x j u (by omega))
    · refine And.intro (by first | omega | (simp only [mS_iff, eq_self, Int.reduceEq, true_and, and_true, false_and, and_false, and_self, ↓reduceIte]; omega) | (simp only [mS_iff, eq_self, Int.reduceEq, true_and, and_true, false_and, and_false, and_self, ↓reduceIte] at *; omega)) ?_
      refine And.intro (fun h => absurd h (by decide)) (fun _ => ?_)
      refine And.intro (rfl) ?_
      refine ct_113 (by omega) hJ.2.2.2.1 hJ.2.2.2.2.1 hAj (fun m3 v f3 ex ei => ?_)
      have fc : frC2 m m3 := fun x j u v => (f3 x j (by omega)).trans (fj x j u (by omega))
      refine And.intro (fun h3 => ?_) (fun h3 => ?_)
      · refine And.intro (by first | omega | (simp only [mS_iff, eq_self, Int.reduceEq, true_and, and_true, false_and, and_false, and_self, ↓reduceIte]; omega) | (simp only [mS_iff, eq_self, Int.reduceEq, true_and, and_true, false_and, and_false, and_self, ↓reduceIte] at *; omega)) ?_
        exact hQ0 (fun z => by have := z.2.2; omega) _ fc
      · refine And.intro (by first | omega | (simp only [mS_iff, eq_self, Int.reduceEq, true_and, and_true, false_and, and_false, and_self, ↓reduceIte]; omega) | (simp only [mS_iff, eq_self, Int.reduceEq, true_and, and_true, false_and, and_false, and_self, ↓reduceIte] at *; omega)) ?_
        exact hQ1 ⟨by omega, by omega, by omega⟩ _ fc
theorem ct_119a {d : Nat} {m : aM} {Q : aO → aM → Prop} {S : aM} {F : Int → aD} {L H cl ch : Int → Int} {a0 : aM} {lo hi r p s day : Int} {w : Int → Int}  (hd : 20 ≤ d) (hb : hI S F L H cl ch a0) (fr : hFr 40 a0 m) (ha : 77 ≤ a0 0 0 ∧ a0 0 0 < lo) (hA : hArms m lo hi r w) (hs : spAt w p s)  (hQ1 : ∀ t m', (0 ≤ t ∧ t ≤ 8) → t ≠ w s → clr S day (up w s t) → (∀ t', 0 ≤ t' → t' < t → t' ≠ w s → ¬ clr S day (up w s t')) → hArms m' lo hi r (up w s t) → frV2 lo hi m m' → Q (.inl (some (aI 1))) m') (hQ0 : ∀ m', (∀ t', 0 ≤ t' → t' ≤ 8 → t' ≠ w s → ¬ clr S day (up w s t')) → hArms m' lo hi r w → frV2 lo hi m m' → Q (.inl (some (aI 0))) m') : am_wpc am_G am_T d 119 [aR 1, aR r, aI p, aI (-1), aI day] m Q := by
  have ok := hA.row
  have w5 := ok.cnt
  have sv := sp_val ok hs
  have hsx : ∀ x, spAt (up w s x) p s := fun x => ((up_sp hs).2.2 p s).mpr hs
  obtain ⟨dk, hdk⟩ : ∃ k, d = k + 1 := ⟨d - 1, by omega⟩
  refine am_in (k := dk) rfl (by omega) (fun d hd => ?_)
  have K19 : ∀ (Nm : Nat), ∀ (t : Int) (x : Int), ∀ (mw : aM), (9 - t).toNat = Nm → (0 ≤ t ∧ t ≤ 9) → (0 ≤ x ∧ x ≤ 8) → (hArms mw lo hi r (up w s x)) → (frV2 lo hi m mw) → (∀ t', 0 ≤ t' → t' < t → t' ≠ w s → ¬ clr S day (up w s t')) → am_WP am_G (am_wpc am_G am_T d) [] cd_119 Q 19 [aR 1, aR r, aI p, aI (-1), aI day, aI (w s), aI t] [] mw := by
    intro Nm
    induction Nm using Nat.strongRecOn with
    | _ Nm ih19 =>
      intro t x mw hN tb xb hAw fv np
      refine am_go 400 [19] (am_wpc_cm _ _ _) wf_119 ?_
      refine And.intro (fun h1 => ?_) (fun h1 => ?_)
      · skip
        refine ct_120 (by omega) hAw (hsx x) (by omega) (fun m5 hA5 f5 => ?_)
        rw [up_up, up_id] at hA5
        have fv5 : frV2 lo hi m m5 := fv.trans f5.V
        refine And.intro (by first | omega | (simp only [mS_iff, eq_self, Int.reduceEq, true_and, and_true, false_and, and_false, and_self, ↓reduceIte]; omega) | (simp only [mS_iff, eq_self, Int.reduceEq, true_and, and_true, false_and, and_false, and_self, ↓reduceIte] at *; omega)) ?_
        exact hQ0 _ (fun t' x0 x1 x2 => np t' x0 (by omega) x2) hA5 fv5
      · refine And.intro (fun h2 => ?_) (fun h2 => ?_)
        · refine And.intro (show -2147483648 ≤ t + 1 ∧ t + 1 ≤ 2147483647 by first | omega | (simp only [mS_iff, eq_self, Int.reduceEq, true_and, and_true, false_and, and_false, and_self, ↓reduceIte]; omega) | (simp only [mS_iff, eq_self, Int.reduceEq, true_and, and_true, false_and, and_false, and_self, ↓reduceIte] at *; omega)) ?_
          refine ih19 _ ?_ _ (x) _ (Eq.refl _) ?_ ?_ ?_ ?_ ?_
          · omega
          · omega
          · omega
          · exact hAw
          · exact fv
          · intro t' x0 x1 x2
            by_cases e : t' = t
            · exact absurd (by omega) x2
            · exact np t' x0 (by omega) x2
        · skip
          refine ct_120 (by omega) hAw (hsx x) (by omega) (fun m3 hA3 f3 => ?_)
          rw [up_up] at hA3
          have fv3 : frV2 lo hi m m3 := fv.trans f3.V
          refine And.intro (fun h => absurd h (by decide)) (fun _ => ?_)
          refine And.intro (rfl) ?_
          refine ct_116 (by omega) (hb.fr (fr.V fv3 ha)) hA3 (fun cy m4 f4 => ?_) (fun cy m4 f4 => ?_)
          · have hA4 := f4.arms hA3
            have fv4 : frV2 lo hi m m4 := fv3.trans f4.V
            refine And.intro (fun h => absurd h (by decide)) (fun _ => ?_)
            refine And.intro (by first | omega | (simp only [mS_iff, eq_self, Int.reduceEq, true_and, and_true, false_and, and_false, and_self, ↓reduceIte]; omega) | (simp only [mS_iff, eq_self, Int.reduceEq, true_and, and_true, false_and, and_false, and_self, ↓reduceIte] at *; omega)) ?_
            exact hQ1 t _ (by omega) (by omega) cy np hA4 fv4
          · have hA4 := f4.arms hA3
            have fv4 : frV2 lo hi m m4 := fv3.trans f4.V
            refine And.intro (fun _ => ?_) (fun h => absurd h (by decide))
            refine And.intro (show -2147483648 ≤ t + 1 ∧ t + 1 ≤ 2147483647 by first | omega | (simp only [mS_iff, eq_self, Int.reduceEq, true_and, and_true, false_and, and_false, and_self, ↓reduceIte]; omega) | (simp only [mS_iff, eq_self, Int.reduceEq, true_and, and_true, false_and, and_false, and_self, ↓reduceIte] at *; omega)) ?_
            refine ih19 _ ?_ _ (t) _ (Eq.refl _) ?_ ?_ ?_ ?_ ?_
            · omega
            · omega
            · omega
            · exact hA4
            · exact fv4
            · intro t' x0 x1 x2
              by_cases e : t' = t
              · rw [e]; exact cy
              · exact np t' x0 (by omega) x2
  refine am_go 400 [19] (am_wpc_cm _ _ _) wf_119 ?_
  refine ct_120 (by omega) hA hs (by omega) (fun m1 hA1 f1 => ?_)
  refine ct_120 (by omega) hA1 (hsx 0) (by omega) (fun m2 hA2 f2 => ?_)
  rw [up_up, up_id] at hA2
  have fv2 : frV2 lo hi m m2 := f1.V.trans f2.V
  refine K19 _ _ (w s) _ (Eq.refl _) ?_ ?_ ?_ ?_ ?_
  · omega
  · omega
  · rw [up_id]; exact hA2
  · exact fv2
  · intro t' x0 x1
    omega
theorem ct_119b {d : Nat} {m : aM} {Q : aO → aM → Prop} {S : aM} {F : Int → aD} {L H cl ch : Int → Int} {a0 : aM} {lo hi r p s day : Int} {w : Int → Int} {q s2 : Int} (hd : 40 ≤ d) (hb : hI S F L H cl ch a0) (fr : hFr 40 a0 m) (ha : 77 ≤ a0 0 0 ∧ a0 0 0 < lo) (hA : hArms m lo hi r w) (hs : spAt w p s) (hs2 : spAt w q s2) (hpq : p < q) (hQ1 : ∀ t u m', (0 ≤ t ∧ t ≤ 8) → (0 ≤ u ∧ u ≤ 8) → t ≠ w s → u ≠ w s2 → clr S day (up (up w s t) s2 u) → (∀ t' u', 0 ≤ t' → 0 ≤ u' → u' ≤ 8 → (t' < t ∨ (t' = t ∧ u' < u)) → t' ≠ w s → u' ≠ w s2 → ¬ clr S day (up (up w s t') s2 u')) → hArms m' lo hi r (up (up w s t) s2 u) → frV2 lo hi m m' → Q (.inl (some (aI 1))) m') (hQ0 : ∀ m', (∀ t' u', 0 ≤ t' → t' ≤ 8 → 0 ≤ u' → u' ≤ 8 → t' ≠ w s → u' ≠ w s2 → ¬ clr S day (up (up w s t') s2 u')) → hArms m' lo hi r w → frV2 lo hi m m' → Q (.inl (some (aI 0))) m') : am_wpc am_G am_T d 119 [aR 1, aR r, aI p, aI q, aI day] m Q := by
  have ok := hA.row
  have w5 := ok.cnt
  have sv := sp_val ok hs
  have hsx : ∀ x, spAt (up w s x) p s := fun x => ((up_sp hs).2.2 p s).mpr hs
  have sl2 := spAt_lt w5.1 hs2
  have ns : s ≠ s2 := spAt_i hs hs2 (by omega)
  have hsq : ∀ x, spAt (up w s x) q s2 := fun x => ((up_sp hs).2.2 q s2).mpr hs2
  obtain ⟨dk, hdk⟩ : ∃ k, d = k + 1 := ⟨d - 1, by omega⟩
  refine am_in (k := dk) rfl (by omega) (fun d hd => ?_)
  have K19 : ∀ (Nm : Nat), ∀ (t : Int) (x : Int), ∀ (mw : aM), (9 - t).toNat = Nm → (0 ≤ t ∧ t ≤ 9) → (0 ≤ x ∧ x ≤ 8) → (hArms mw lo hi r (up w s x)) → (frV2 lo hi m mw) → (∀ t' u', 0 ≤ t' → t' < t → 0 ≤ u' → u' ≤ 8 → t' ≠ w s → u' ≠ w s2 → ¬ clr S day (up (up w s t') s2 u')) → am_WP am_G (am_wpc am_G am_T d) [] cd_119 Q 19 [aR 1, aR r, aI p, aI q, aI day, aI (w s), aI t] [] mw := by
    intro Nm
    induction Nm using Nat.strongRecOn with
    | _ Nm ih19 =>
      intro t x mw hN tb xb hAw fv np
      refine am_go 400 [19] (am_wpc_cm _ _ _) wf_119 ?_
      refine And.intro (fun h1 => ?_) (fun h1 => ?_)
      · skip
        refine ct_120 (by omega) hAw (hsx x) (by omega) (fun m5 hA5 f5 => ?_)
        rw [up_up, up_id] at hA5
        have fv5 : frV2 lo hi m m5 := fv.trans f5.V
        refine And.intro (by first | omega | (simp only [mS_iff, eq_self, Int.reduceEq, true_and, and_true, false_and, and_false, and_self, ↓reduceIte]; omega) | (simp only [mS_iff, eq_self, Int.reduceEq, true_and, and_true, false_and, and_false, and_self, ↓reduceIte] at *; omega)) ?_
        exact hQ0 _ (fun t' u' x0 x1 z0 z1 x2 x3 => np t' u' x0 (by omega) z0 z1 x2 x3) hA5 fv5
      · refine And.intro (fun h2 => ?_) (fun h2 => ?_)
        · refine And.intro (show -2147483648 ≤ t + 1 ∧ t + 1 ≤ 2147483647 by first | omega | (simp only [mS_iff, eq_self, Int.reduceEq, true_and, and_true, false_and, and_false, and_self, ↓reduceIte]; omega) | (simp only [mS_iff, eq_self, Int.reduceEq, true_and, and_true, false_and, and_false, and_self, ↓reduceIte] at *; omega)) ?_
          refine ih19 _ ?_ _ (x) _ (Eq.refl _) ?_ ?_ ?_ ?_ ?_
          · omega
          · omega
          · omega
          · exact hAw
          · exact fv
          · intro t' u' x0 x1 z0 z1 x2
            by_cases e : t' = t
            · exact absurd (by omega) x2
            · exact np t' u' x0 (by omega) z0 z1 x2
        · skip
          refine ct_120 (by omega) hAw (hsx x) (by omega) (fun m3 hA3 f3 => ?_)
          rw [up_up] at hA3
          have fv3 : frV2 lo hi m m3 := fv.trans f3.V
          refine And.intro (fun _ => ?_) (fun h => absurd h (by omega))
          refine And.intro (rfl) ?_
          refine ct_119a (by omega) hb (fr.V fv3 ha) ha hA3 (hsq t) (fun u m4 ub un cy mn hA4 f4 => ?_) (fun m4 cy hA4 f4 => ?_)
          · have fv4 : frV2 lo hi m m4 := fv3.trans f4
            have es2 : up w s t s2 = w s2 := up_n (fun e => ns e.symm)
            rw [es2] at un mn
            refine And.intro (fun h => absurd h (by decide)) (fun _ => ?_)
            refine And.intro (by first | omega | (simp only [mS_iff, eq_self, Int.reduceEq, true_and, and_true, false_and, and_false, and_self, ↓reduceIte]; omega) | (simp only [mS_iff, eq_self, Int.reduceEq, true_and, and_true, false_and, and_false, and_self, ↓reduceIte] at *; omega)) ?_
            exact hQ1 t u _ (by omega) ub (by omega) un cy (fun t' u' x0 z0 z1 o x2 x3 => by
              rcases o with o | ⟨o, o2⟩
              · exact np t' u' x0 o z0 z1 x2 x3
              · rw [o]; exact mn u' z0 o2 x3) hA4 fv4
          · have fv4 : frV2 lo hi m m4 := fv3.trans f4
            have es2 : up w s t s2 = w s2 := up_n (fun e => ns e.symm)
            rw [es2] at cy
            refine And.intro (fun _ => ?_) (fun h => absurd h (by decide))
            refine And.intro (show -2147483648 ≤ t + 1 ∧ t + 1 ≤ 2147483647 by first | omega | (simp only [mS_iff, eq_self, Int.reduceEq, true_and, and_true, false_and, and_false, and_self, ↓reduceIte]; omega) | (simp only [mS_iff, eq_self, Int.reduceEq, true_and, and_true, false_and, and_false, and_self, ↓reduceIte] at *; omega)) ?_
            refine ih19 _ ?_ _ (t) _ (Eq.refl _) ?_ ?_ ?_ ?_ ?_
            · omega
            · omega
            · omega
            · exact hA4
            · exact fv4
            · intro t' u' x0 x1 z0 z1 x2 x3
              by_cases e : t' = t
              · rw [e]; exact cy u' z0 z1 x3
              · exact np t' u' x0 (by omega) z0 z1 x2 x3
  refine am_go 400 [19] (am_wpc_cm _ _ _) wf_119 ?_
  refine ct_120 (by omega) hA hs (by omega) (fun m1 hA1 f1 => ?_)
  refine ct_120 (by omega) hA1 (hsx 0) (by omega) (fun m2 hA2 f2 => ?_)
  rw [up_up, up_id] at hA2
  have fv2 : frV2 lo hi m m2 := f1.V.trans f2.V
  refine K19 _ _ (w s) _ (Eq.refl _) ?_ ?_ ?_ ?_ ?_
  · omega
  · omega
  · rw [up_id]; exact hA2
  · exact fv2
  · intro t' u' x0 x1
    omega
theorem ct_117 {d : Nat} {m : aM} {Q : aO → aM → Prop} {S : aM} {F : Int → aD} {L H cl ch : Int → Int} {a0 : aM} {lo hi r day : Int} {w : Int → Int} (hd : 60 ≤ d) (hb : hI S F L H cl ch a0) (fr : hFr 40 a0 m) (ha : 77 ≤ a0 0 0 ∧ a0 0 0 < lo) (hA : hArms m lo hi r w) (hQ1 : k_e S day w ≠ -1 → ∀ m', hArms m' lo hi r (q1 w (k_e S day w)) → frV2 lo hi m m' → Q (.inl (some (aI 1))) m') (hQ0 : k_e S day w = -1 → ∀ m', hArms m' lo hi r w → frV2 lo hi m m' → Q (.inl (some (aI 0))) m') : am_wpc am_G am_T d 117 [aR 1, aR r, aI day] m Q := by
  have ok := hA.row
  have w5 := ok.cnt
  have nb := sp_n_b w5
  obtain ⟨dk, hdk⟩ : ∃ k, d = k + 1 := ⟨d - 1, by omega⟩
  refine am_in (k := dk) rfl (by omega) (fun d hd => ?_)
  have K2 : ∀ (Nm : Nat), ∀ (i : Int), ∀ (mw : aM), (sp_n w - i).toNat = Nm → (0 ≤ i ∧ i ≤ sp_n w) → (hArms mw lo hi r w) → (frV2 lo hi m mw) → (∀ e, 0 ≤ e → e < 9 * i → ¬ P1 S day w e) → am_WP am_G (am_wpc am_G am_T d) [] cd_117 Q 2 [aR 1, aR r, aI day, aI i] [] mw := by
    intro Nm
    induction Nm using Nat.strongRecOn with
    | _ Nm ih2 =>
      intro i mw hN ib hAw fv np
      refine am_go 400 [2] (am_wpc_cm _ _ _) wf_117 ?_
      refine ct_118 (by omega) hAw ?_
      refine And.intro (fun h1 => ?_) (fun h1 => ?_)
      · refine And.intro (by first | omega | (simp only [mS_iff, eq_self, Int.reduceEq, true_and, and_true, false_and, and_false, and_self, ↓reduceIte]; omega) | (simp only [mS_iff, eq_self, Int.reduceEq, true_and, and_true, false_and, and_false, and_self, ↓reduceIte] at *; omega)) ?_
        exact hQ0 (s_fst_n (fun e x y p => np e x (by have := p.1; omega) p)) _ hAw fv
      · refine And.intro (rfl) ?_
        refine ct_119a (by omega) hb (fr.V fv ha) ha hAw (sp_p w5.1 (by omega) (by omega)) (fun t m4 tb tn cy mn hA4 f4 => ?_) (fun m4 cy hA4 f4 => ?_)
        · refine And.intro (fun h => absurd h (by decide)) (fun _ => ?_)
          refine And.intro (by first | omega | (simp only [mS_iff, eq_self, Int.reduceEq, true_and, and_true, false_and, and_false, and_self, ↓reduceIte]; omega) | (simp only [mS_iff, eq_self, Int.reduceEq, true_and, and_true, false_and, and_false, and_self, ↓reduceIte] at *; omega)) ?_
          have e9 : (9 * i + t) / 9 = i := by omega
          have r9 : (9 * i + t) % 9 = t := by omega
          have qe : q1 w (9 * i + t) = up w (sp w i) t := by unfold q1; rw [e9, r9]
          have ke : k_e S day w = 9 * i + t := s_fst_i (by omega) ⟨by rw [e9]; omega, by rw [e9, r9]; exact tn, by rw [qe]; exact cy⟩ (fun e x y p => by
            by_cases z : e < 9 * i
            · exact np e x z p
            · have ei : e / 9 = i := by omega
              obtain ⟨p1, p2, p3⟩ := p
              unfold q1 at p3
              rw [ei] at p2 p3
              exact mn (e % 9) (by omega) (by omega) p2 p3)
          refine hQ1 (by omega) _ ?_ (fv.trans f4)
          rw [ke, qe]
          exact hA4
        · refine And.intro (fun _ => ?_) (fun h => absurd h (by decide))
          refine And.intro (show -2147483648 ≤ i + 1 ∧ i + 1 ≤ 2147483647 by first | omega | (simp only [mS_iff, eq_self, Int.reduceEq, true_and, and_true, false_and, and_false, and_self, ↓reduceIte]; omega) | (simp only [mS_iff, eq_self, Int.reduceEq, true_and, and_true, false_and, and_false, and_self, ↓reduceIte] at *; omega)) ?_
          refine ih2 _ ?_ _ _ (Eq.refl _) ?_ ?_ ?_ ?_
          · omega
          · omega
          · exact hA4
          · exact fv.trans f4
          · intro e x y p
            by_cases z : e < 9 * i
            · exact np e x z p
            · have ei : e / 9 = i := by omega
              obtain ⟨p1, p2, p3⟩ := p
              unfold q1 at p3
              rw [ei] at p2 p3
              exact cy (e % 9) (by omega) (by omega) p2 p3
  refine am_go 400 [2] (am_wpc_cm _ _ _) wf_117 ?_
  refine K2 _ _ _ (Eq.refl _) ?_ ?_ ?_ ?_
  · omega
  · exact hA
  · exact frV2.rfl
  · exact fun e x y => by omega
theorem ct_121 {d : Nat} {m : aM} {Q : aO → aM → Prop} {S : aM} {F : Int → aD} {L H cl ch : Int → Int} {a0 : aM} {lo hi r day : Int} {w : Int → Int} (hd : 60 ≤ d) (hb : hI S F L H cl ch a0) (fr : hFr 40 a0 m) (ha : 77 ≤ a0 0 0 ∧ a0 0 0 < lo) (hA : hArms m lo hi r w) (hQ1 : k_f S day w ≠ -1 → ∀ m', hArms m' lo hi r (q2 w (k_f S day w)) → frV2 lo hi m m' → Q (.inl (some (aI 1))) m') (hQ0 : k_f S day w = -1 → ∀ m', hArms m' lo hi r w → frV2 lo hi m m' → Q (.inl (some (aI 0))) m') : am_wpc am_G am_T d 121 [aR 1, aR r, aI day] m Q := by
  have ok := hA.row
  have w5 := ok.cnt
  have nb := sp_n_b w5
  obtain ⟨dk, hdk⟩ : ∃ k, d = k + 1 := ⟨d - 1, by omega⟩
  refine am_in (k := dk) rfl (by omega) (fun d hd => ?_)
  have K8 : ∀ (Nm : Nat), ∀ (i : Int) (z5 : aV), ∀ (mw : aM), (sp_n w - i).toNat = Nm → (0 ≤ i ∧ i ≤ sp_n w) → (hArms mw lo hi r w) → (frV2 lo hi m mw) → (∀ e, 0 ≤ e → e < 1134 * i → ¬ P2 S day w e) → am_WP am_G (am_wpc am_G am_T d) [] cd_121 Q 8 [aR 1, aR r, aI day, aI (sp_n w), aI i, z5] [] mw := by
    intro Nm
    induction Nm using Nat.strongRecOn with
    | _ Nm ih8 =>
      intro i z5 mw hN ib hAw fv np
      have K20 : ∀ (Nm : Nat), ∀ (j : Int), ∀ (mv : aM), (sp_n w - j).toNat = Nm → (i < j ∧ j ≤ sp_n w) → (hArms mv lo hi r w) → (frV2 lo hi m mv) → (∀ e, 0 ≤ e → e < 1134 * i + 81 * j → ¬ P2 S day w e) → am_WP am_G (am_wpc am_G am_T d) [] cd_121 Q 20 [aR 1, aR r, aI day, aI (sp_n w), aI i, aI j] [] mv := by
        intro Nm
        induction Nm using Nat.strongRecOn with
        | _ Nm ih20 =>
          intro j mv hN jb hAw2 fv2 np2
          refine am_go 400 [8, 20] (am_wpc_cm _ _ _) wf_121 ?_
          refine And.intro (fun h1 => ?_) (fun h1 => ?_)
          · refine And.intro (show -2147483648 ≤ i + 1 ∧ i + 1 ≤ 2147483647 by first | omega | (simp only [mS_iff, eq_self, Int.reduceEq, true_and, and_true, false_and, and_false, and_self, ↓reduceIte]; omega) | (simp only [mS_iff, eq_self, Int.reduceEq, true_and, and_true, false_and, and_false, and_self, ↓reduceIte] at *; omega)) ?_
            refine ih8 _ ?_ _ _ _ (Eq.refl _) ?_ ?_ ?_ ?_
            · omega
            · omega
            · exact hAw2
            · exact fv2
            · intro e x y p
              by_cases z : e < 1134 * i + 81 * j
              · exact np2 e x z p
              · have := p.1
                omega
          · refine And.intro (rfl) ?_
            refine ct_119b (by omega) hb (fr.V fv2 ha) ha hAw2 (sp_p w5.1 (by omega) (by omega)) (sp_p w5.1 (by omega) (by omega)) (by omega) (fun t u m4 tb ub tn un cy mn hA4 f4 => ?_) (fun m4 cy hA4 f4 => ?_)
            · refine And.intro (fun h => absurd h (by decide)) (fun _ => ?_)
              refine And.intro (by first | omega | (simp only [mS_iff, eq_self, Int.reduceEq, true_and, and_true, false_and, and_false, and_self, ↓reduceIte]; omega) | (simp only [mS_iff, eq_self, Int.reduceEq, true_and, and_true, false_and, and_false, and_self, ↓reduceIte] at *; omega)) ?_
              have d1 : (1134 * i + 81 * j + 9 * t + u) / 1134 = i := by omega
              have d2 : (1134 * i + 81 * j + 9 * t + u) / 81 % 14 = j := by omega
              have d3 : (1134 * i + 81 * j + 9 * t + u) / 9 % 9 = t := by omega
              have d4 : (1134 * i + 81 * j + 9 * t + u) % 9 = u := by omega
              have qe : q2 w (1134 * i + 81 * j + 9 * t + u) = up (up w (sp w i) t) (sp w j) u := by unfold q2; rw [d1, d2, d3, d4]
              have ke : k_f S day w = 1134 * i + 81 * j + 9 * t + u := s_fst_i (by omega) ⟨by rw [d1, d2]; omega, by rw [d1, d3]; exact tn, by rw [d2, d4]; exact un, by rw [qe]; exact cy⟩ (fun e x y p => by
                by_cases z : e < 1134 * i + 81 * j
                · exact np2 e x z p
                · have d1 : e / 1134 = i ∧ e / 81 % 14 = j := by omega
                  obtain ⟨⟨p0, p1⟩, p2, p3, p4⟩ := p
                  unfold q2 at p4
                  rw [d1.1] at p2 p4
                  rw [d1.2] at p3 p4
                  exact mn (e / 9 % 9) (e % 9) (by omega) (by omega) (by omega) (by omega) p2 p3 p4)
              refine hQ1 (by omega) _ ?_ (fv2.trans f4)
              rw [ke, qe]
              exact hA4
            · refine And.intro (fun _ => ?_) (fun h => absurd h (by decide))
              refine And.intro (show -2147483648 ≤ j + 1 ∧ j + 1 ≤ 2147483647 by first | omega | (simp only [mS_iff, eq_self, Int.reduceEq, true_and, and_true, false_and, and_false, and_self, ↓reduceIte]; omega) | (simp only [mS_iff, eq_self, Int.reduceEq, true_and, and_true, false_and, and_false, and_self, ↓reduceIte] at *; omega)) ?_
              refine ih20 _ ?_ _ _ (Eq.refl _) ?_ ?_ ?_ ?_
              · omega
              · omega
              · exact hA4
              · exact fv2.trans f4
              · intro e x y p
                by_cases z : e < 1134 * i + 81 * j
                · exact np2 e x z p
                · have d1 : e / 1134 = i ∧ e / 81 % 14 = j := by omega
                  obtain ⟨⟨p0, p1⟩, p2, p3, p4⟩ := p
                  unfold q2 at p4
                  rw [d1.1] at p2 p4
                  rw [d1.2] at p3 p4
                  exact cy (e / 9 % 9) (e % 9) (by omega) (by omega) (by omega) (by omega) p2 p3 p4
      refine am_go 400 [8, 20] (am_wpc_cm _ _ _) wf_121 ?_
      refine And.intro (fun h2 => ?_) (fun h2 => ?_)
      · refine And.intro (by first | omega | (simp only [mS_iff, eq_self, Int.reduceEq, true_and, and_true, false_and, and_false, and_self, ↓reduceIte]; omega) | (simp only [mS_iff, eq_self, Int.reduceEq, true_and, and_true, false_and, and_false, and_self, ↓reduceIte] at *; omega)) ?_
        exact hQ0 (s_fst_n (fun e x y p => np e x (by have := p.1; omega) p)) _ hAw fv
      · refine And.intro (show -2147483648 ≤ i + 1 ∧ i + 1 ≤ 2147483647 by first | omega | (simp only [mS_iff, eq_self, Int.reduceEq, true_and, and_true, false_and, and_false, and_self, ↓reduceIte]; omega) | (simp only [mS_iff, eq_self, Int.reduceEq, true_and, and_true, false_and, and_false, and_self, ↓reduceIte] at *; omega)) ?_
        refine K20 _ _ _ (Eq.refl _) ?_ ?_ ?_ ?_
        · omega
        · exact hAw
        · exact fv
        · intro e x y p
          by_cases z : e < 1134 * i
          · exact np e x z p
          · have := p.1
            omega
  refine am_go 400 [8, 20] (am_wpc_cm _ _ _) wf_121 ?_
  refine ct_118 (by omega) hA ?_
  refine K8 _ _ _ _ (Eq.refl _) ?_ ?_ ?_ ?_
  · omega
  · exact hA
  · exact frV2.rfl
  · exact fun e x y => by omega
