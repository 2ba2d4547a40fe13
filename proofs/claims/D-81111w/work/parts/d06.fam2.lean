/-! needs: d05 -/
/-! CALLS: family, both; arms more in the state; by tools/gend6.py -/
set_option maxRecDepth 100000
set_option maxHeartbeats 8000000
/-- arms more -/
def sAr (S : aM) (w : Int → Int) : aM := fun x j => if x = 0 ∧ j = 3 then S 0 3 + 1 else if x = 100 + S 0 3 then w j else S x j
theorem sAr_0 {S : aM} {w : Int → Int} {j : Int} (h : j ≠ 3) (h3 : 0 ≤ S 0 3) : sAr S w 0 j = S 0 j := by unfold sAr; rw [if_neg (by omega), if_neg (by omega)]
theorem sAr_03 {S : aM} {w : Int → Int} : sAr S w 0 3 = S 0 3 + 1 := by unfold sAr; rw [if_pos ⟨rfl, rfl⟩]
theorem sAr_n {S : aM} {w : Int → Int} (h3 : 0 ≤ S 0 3) : sAr S w (100 + S 0 3) = w := funext fun j => by unfold sAr; rw [if_neg (by omega), if_pos rfl]
theorem sAr_r {S : aM} {w : Int → Int} {x : Int} (h : x ≠ 0) (g : x ≠ 100 + S 0 3) : sAr S w x = S x := funext fun j => by unfold sAr; rw [if_neg (by omega), if_neg (by omega)]
theorem sAr_An {S : aM} {w : Int → Int} {x : Int} (h : x ≠ 0) (h3 : 0 ≤ S 0 3) : sAr S w x = sAn S w x := by
  by_cases g : x = 100 + S 0 3
  · rw [g, sAr_n h3, sAn_n h3]
  · rw [sAr_r h g, sAn_r h g]
def hNr (m m' : aM) (n r : Int) : Prop := (m 0 0 ≤ m' 0 0 ∧ m' 0 0 ≤ m 0 0 + 45) ∧ (m 0 1 ≤ m' 0 1 ∧ m' 0 1 ≤ m 0 1 + 700) ∧ (∀ j, j ≠ 0 → j ≠ 1 → m' 0 j = m 0 j) ∧ (∀ x j, x ≠ 0 → x ≤ m 0 0 → (x ≠ 19 ∨ j ≠ n) → (x ≠ 1 ∨ j ≠ 20) → m' x j = m x j) ∧ m' 19 n = r ∧ m' 1 20 = n + 1
theorem hI.ar {S : aM} {F : Int → aD} {lo hi cl ch : Int → Int} {m m' : aM} {r : Int} {w : Int → Int} (h : hI S F lo hi cl ch m) (h5 : S 0 3 ≠ 50) (g : hNr m m' (S 0 3) r) (hA : hArms m' (m 0 0 + 1) (m' 0 0) r w) : ∃ lo' hi', hI (sAr S w) F lo' hi' cl ch m' := by
  obtain ⟨g1, g2, g3, g4, g5, g6⟩ := g
  have a1 := h.2.2.2.1.1
  have i1 := h.1
  obtain ⟨m0, e0⟩ : ∃ z, z = mS (mS m' 1 17 0) 1 18 0 := ⟨_, rfl⟩
  have E : ∀ x j, (x ≠ 1 ∨ (j ≠ 17 ∧ j ≠ 18)) → m0 x j = m' x j := fun x j u => by rw [e0, mS_iff, if_neg (by omega), mS_iff, if_neg (by omega)]
  have EX : ∀ x, x ≠ 1 → m0 x = m' x := fun x u => funext fun j => E x j (by omega)
  have NA : hNa m m0 (S 0 3) r := by
    unfold hNa
    rw [E 19 _ (by omega), E 1 20 (by omega), E 0 0 (by omega), E 0 1 (by omega)]
    refine ⟨g1, g2, fun j u v => by rw [E 0 j (by omega)]; exact g3 j u v, fun x j a b c d e f => by rw [E x j (by omega)]; exact g4 x j a b (by omega) (by omega), g5, g6, ?_, ?_⟩
    · rw [e0, mS_iff, if_neg (by omega), mS_iff, if_pos ⟨rfl, rfl⟩]
    · rw [e0, mS_iff, if_pos ⟨rfl, rfl⟩]
  have hA0 : hArms m0 (m 0 0 + 1) (m0 0 0) r w := by
    rw [E 0 0 (by omega)]
    exact hA.keep (fun x u v => by rw [EX x (by omega)]; exact ⟨rfl, fun _ => rfl⟩) (by rw [E 0 0 (by omega)]; omega)
  have h1 := h.an h5 NA hA0
  have hn : hNm (sAr S w) m' := by
    obtain ⟨n1, n2, n3, n4, n5, n6, n7, n8, n9⟩ := h.2.2.1
    have e1 : ∀ j, j ≠ 20 → m' 1 j = m 1 j := fun j u => g4 1 j (by omega) (by omega) (by omega) (by omega)
    have ex : ∀ x, x ≠ 0 → x ≠ 1 → x ≠ 19 → x ≤ 76 → m' x = m x := fun x a b c d => funext fun j => g4 x j a (by omega) (by omega) (by omega)
    unfold hNm
    rw [sAr_0 (j := 0) (by omega) a1.1, sAr_0 (j := 1) (by omega) a1.1, sAr_0 (j := 2) (by omega) a1.1, sAr_0 (j := 7) (by omega) a1.1, sAr_0 (j := 8) (by omega) a1.1, sAr_0 (j := 9) (by omega) a1.1, sAr_r (x := 1) (by omega) (by omega), sAr_r (x := 2) (by omega) (by omega), e1 17 (by omega), e1 3 (by omega), e1 18 (by omega), e1 38 (by omega), e1 41 (by omega), e1 46 (by omega), e1 39 (by omega), ex 18 (by omega) (by omega) (by omega) (by omega), ex 4 (by omega) (by omega) (by omega) (by omega)]
    exact ⟨n1, n2, n3, n4, n5, n6, n7, n8, n9⟩
  have S0 : ∀ j, (j ≠ 0 ∧ j ≠ 2) → sAr S w 0 j = sAn S w 0 j := fun j u => by
    by_cases k : j = 3
    · rw [k, sAr_03, sAn_03]
    · rw [sAr_0 k a1.1, sAn_0 (by omega) a1.1]
  refine ⟨_, _, h1.up (S' := sAr S w) (m' := m') (fun x j u => (E x j (by omega)).symm) hn ((h1.2.2.2.2.1.keep (E 1 29 (by omega)).symm (fun x u => (EX x (by omega)).symm)).cg (S0 5 (by omega)) (S0 3 (by omega)) (fun x a b => sAr_An (by omega) a1.1)) (fun j u => (E 1 j (by omega)).symm) (fun x u => (EX x (by omega)).symm) ⟨(E 18 _ (by omega)).symm, (E 18 _ (by omega)).symm⟩ (S0 3 (by omega)) (S0 4 (by omega)) (S0 6 (by omega)) (fun x u => sAr_An (by omega) a1.1)⟩
theorem mI.ar {S : aM} {F : Int → aD} {m m' : aM} {w : Int → Int} (h : mI S F m) (h5 : S 0 3 ≠ 50) (g : ∀ x j, (x ≠ 41 ∨ j ≠ 1) → (x ≠ 42 ∨ j < 66 * S 0 3) → m' x j = m x j) (g1 : m' 41 1 = S 0 3 + 1) (hr : mRow m' (S 0 3) w) (ok : okRow w) : mI (sAr S w) F m' := by
  have a1 := h.2.1.1
  obtain ⟨m0, e0⟩ : ∃ z, z = mS (mS m' 41 3 0) 41 17 0 := ⟨_, rfl⟩
  have E : ∀ x j, (x ≠ 41 ∨ (j ≠ 3 ∧ j ≠ 17)) → m0 x j = m' x j := fun x j u => by rw [e0, mS_iff, if_neg (by omega), mS_iff, if_neg (by omega)]
  have EX : ∀ x, x ≠ 41 → m0 x = m' x := fun x u => funext fun j => E x j (by omega)
  have h1 : mI (sAn S w) F m0 := h.an h5 (fun x j u v => by rw [E x j (by omega)]; exact g x j (by omega) v) (by rw [E 41 1 (by omega)]; exact g1) (by rw [e0, mS_iff, if_neg (by omega), mS_iff, if_pos ⟨rfl, rfl⟩]) (by rw [e0, mS_iff, if_pos ⟨rfl, rfl⟩]) ⟨hr.1, hr.2.1, fun k a b => by rw [E 42 _ (by omega)]; exact hr.2.2 k a b⟩ ok
  have hn : mNm (sAr S w) m' := by
    obtain ⟨n1, n2, n3, n4, n5, n6, n7, n8⟩ := h.1
    have e1 : ∀ j, j ≠ 1 → m' 41 j = m 41 j := fun j u => g 41 j (by omega) (by omega)
    unfold mNm
    rw [sAr_0 (j := 0) (by omega) a1.1, sAr_0 (j := 1) (by omega) a1.1, sAr_0 (j := 2) (by omega) a1.1, sAr_0 (j := 7) (by omega) a1.1, sAr_0 (j := 8) (by omega) a1.1, sAr_0 (j := 9) (by omega) a1.1, sAr_r (x := 1) (by omega) (by omega), sAr_r (x := 2) (by omega) (by omega), e1 3 (by omega), e1 5 (by omega), e1 17 (by omega), e1 62 (by omega), e1 63 (by omega), e1 67 (by omega)]
    exact ⟨n1, fun i a b => by rw [g 43 i (by omega) (by omega)]; exact n2 i a b, n3, fun i a b => by rw [g 44 i (by omega) (by omega)]; exact n4 i a b, n5, n6, n7, n8⟩
  have S0 : ∀ j, (j ≠ 0 ∧ j ≠ 2) → sAr S w 0 j = sAn S w 0 j := fun j u => by
    by_cases k : j = 3
    · rw [k, sAr_03, sAn_03]
    · rw [sAr_0 k a1.1, sAn_0 (by omega) a1.1]
  have he : mEs (sAr S w) m' := by
    refine mEs.cg ?_ (S0 5 (by omega)) (S0 3 (by omega)) (fun r a b => sAr_An (by omega) a1.1)
    have := h1.2.2.1
    unfold mEs at this ⊢
    rw [E 41 40 (by omega), EX 65 (by omega), EX 66 (by omega), EX 67 (by omega)] at this
    exact this
  exact h1.up (S' := sAr S w) (m' := m') hn he (fun j u => (E 41 j (by omega)).symm) (fun x u => (EX x (by omega)).symm) (fun j u => (E 42 j (by omega)).symm) (S0 3 (by omega)) (S0 4 (by omega)) (S0 6 (by omega)) (fun x u => sAr_An (by omega) a1.1)
def c_fam (S : aM) (i : Int) : Int × aM := if 0 ≤ i ∧ i < 21681 then (if S 0 3 = 50 then (-5, S) else (S 0 3, sAr S (fw i))) else (-3, S)
theorem frTw.f40 {c s : Int} {m m' : aM} (f : frTw c s m m') (h0 : 77 ≤ m 0 0) {r : Int} (hr : 1 ≤ r ∧ r ≤ 76) : m' r = m r := funext fun j => f.2.2.1 r j (by omega) (by omega)
theorem hs_137 {d : Nat} {m : aM} {Q : aO → aM → Prop} {S : aM} {F : Int → aD} {lo hi cl ch : Int → Int} {k i : Int} (hd : 60 ≤ d) (hk : 0 ≤ k) (hz0 : hZ (k + 1) S F lo hi cl ch m) (hF : hFam m) (hQ : ∀ m' lo' hi', hZ k (c_fam S i).2 F lo' hi' cl ch m' → hFam m' → (∀ x j, 41 ≤ x → x ≤ 76 → m' x j = m x j) → Q (.inl (some (aI (c_fam S i).1))) m') : am_wpc am_G am_T d 137 [aR 1, aI i] m Q := by
  have h := hz0.1
  have hr := hz0.2
  have h0 := h.1
  obtain ⟨r1, r2, r3, r4, r5⟩ := id hr
  have hS := h.2.2.2.1
  have s1 := hS.1
  have c20 := hS.2.1
  obtain ⟨dk, hdk⟩ : ∃ k, d = k + 1 := ⟨d - 1, by omega⟩
  refine am_in (k := dk) rfl (by omega) (fun d hd => ?_)
  refine am_go 400 [] (am_wpc_cm _ _ _) wf_137 ?_
  refine ct_39 (by omega) (fun h1 => ?_) (fun h1 => ?_)
  · refine And.intro (fun _ => ?_) (fun h => absurd h (by decide))
    refine And.intro (rfl) ?_
    refine And.intro (fun h2 => ?_) (fun h2 => ?_)
    · refine And.intro (rfl) ?_
      refine ct_33 (by omega) hF.2 (by omega) (by omega) (fun m1 q1 b1 u1 rr fo ha ff => ?_)
      have h1 := h.ext (m' := m1) (fun x j u => ff x j (by omega) (by omega) (by omega))
      have z00 := ff 0 0 (by omega) (by omega) (by omega)
      have z01 := ff 0 1 (by omega) (by omega) (by omega)
      have tg := ha.basic.2.2.2.2.1
      have hb1 := ha.basic
      refine And.intro (tg) ?_
      refine ct_163 (by omega) ha (by omega) (fun m2 q ft hA2 => ?_)
      have f1 := ft.1
      have f2 := ft.2.1
      have g20 : m2 1 20 = S 0 3 := by rw [ft.2.2.1 1 20 (by omega) (by omega), ff 1 20 (by omega) (by omega) (by omega)]; exact c20
      have rb := hA2.basic
      refine And.intro (rfl) ?_
      refine am_in (k := 0) rfl (by omega) (fun d hd => ?_)
      refine am_go 400 [] (am_wpc_cm _ _ _) wf_56 ?_
      refine And.intro (rfl) ?_
      refine And.intro (rfl) ?_
      refine And.intro (⟨rfl, by first | omega | (simp only [mS_iff, eq_self, Int.reduceEq, true_and, and_true, false_and, and_false, and_self, ↓reduceIte]; omega), by first | omega | (simp only [mS_iff, eq_self, Int.reduceEq, true_and, and_true, false_and, and_false, and_self, ↓reduceIte]; omega), Or.inr ⟨by omega, by simp only [mS_iff, eq_self, Int.reduceEq, true_and, and_true, false_and, and_false, and_self, ↓reduceIte]; exact rb.2.2.2.2.1⟩⟩) ?_
      refine And.intro (rfl) ?_
      refine And.intro (show -2147483648 ≤ (m2 1 20) + 1 ∧ (m2 1 20) + 1 ≤ 2147483647 by first | omega | (simp only [mS_iff, eq_self, Int.reduceEq, true_and, and_true, false_and, and_false, and_self, ↓reduceIte]; omega) | (simp only [mS_iff, eq_self, Int.reduceEq, true_and, and_true, false_and, and_false, and_self, ↓reduceIte] at *; omega)) ?_
      refine And.intro (rfl) ?_
      refine And.intro (rfl) ?_
      refine And.intro (show -2147483648 ≤ ((m2 1 20) + 1) - 1 ∧ ((m2 1 20) + 1) - 1 ≤ 2147483647 by first | omega | (simp only [mS_iff, eq_self, Int.reduceEq, true_and, and_true, false_and, and_false, and_self, ↓reduceIte]; omega) | (simp only [mS_iff, eq_self, Int.reduceEq, true_and, and_true, false_and, and_false, and_self, ↓reduceIte] at *; omega)) ?_
      have e0 : c_fam S i = (S 0 3, sAr S (fw i)) := by
        unfold c_fam
        rw [if_pos (by omega), if_neg (by omega)]
      have NB : hNr m1 ((mS (mS m2 19 (m2 1 20) q) 1 20 ((m2 1 20) + 1))) (S 0 3) q := by
        refine ⟨by rw [mS_iff, if_neg (by omega), mS_iff, if_neg (by omega)]; omega, by rw [mS_iff, if_neg (by omega), mS_iff, if_neg (by omega)]; omega, fun j u v => by rw [mS_iff, if_neg (by omega), mS_iff, if_neg (by omega)]; exact ft.2.2.2 j u v, fun x j u v a b => by rw [mS_iff, if_neg (by omega), mS_iff, if_neg (by omega)]; exact ft.2.2.1 x j u v, ?_, ?_⟩
        · rw [← g20]
          simp only [mS_iff, eq_self, Int.reduceEq, true_and, and_true, false_and, and_false, and_self, ↓reduceIte]
        · simp only [mS_iff, eq_self, Int.reduceEq, true_and, and_true, false_and, and_false, and_self, ↓reduceIte]
          omega
      have hA3 : hArms ((mS (mS m2 19 (m2 1 20) q) 1 20 ((m2 1 20) + 1))) (m1 0 0 + 1) (((mS (mS m2 19 (m2 1 20) q) 1 20 ((m2 1 20) + 1))) 0 0) q (fw i) := by
        rw [show ((mS (mS m2 19 (m2 1 20) q) 1 20 ((m2 1 20) + 1))) 0 0 = m2 0 0 by rw [mS_iff, if_neg (by omega), mS_iff, if_neg (by omega)]]
        exact hA2.keep (fun x u v => by rw [show ((mS (mS m2 19 (m2 1 20) q) 1 20 ((m2 1 20) + 1))) x = m2 x from funext fun j => by rw [mS_iff, if_neg (by omega), mS_iff, if_neg (by omega)]]; exact ⟨rfl, fun _ => rfl⟩) (by rw [mS_iff, if_neg (by omega), mS_iff, if_neg (by omega)]; omega)
      obtain ⟨lo', hi', h2⟩ := h1.ar (by omega) NB hA3
      have X14 := NB.2.2.2.1 1 14 (by omega) (by omega) (by omega) (by omega)
      have Y14 := ff 1 14 (by omega) (by omega) (by omega)
      have hF1 : hFam m1 := ⟨⟨by rw [ff 1 45 (by omega) (by omega) (by omega)]; exact hF.1.1, fun r a b => by rw [ff 37 r (by omega) (by omega) (by omega)]; exact hF.1.2 r a b⟩, fo⟩
      have hF2 : hFam ((mS (mS m2 19 (m2 1 20) q) 1 20 ((m2 1 20) + 1))) := hF1.keep (fun r a b => by rw [show ((mS (mS m2 19 (m2 1 20) q) 1 20 ((m2 1 20) + 1))) r = m1 r from funext fun j => NB.2.2.2.1 r j (by omega) (by omega) (by omega) (by omega)]; exact ⟨rfl, fun _ => rfl⟩) (NB.2.2.2.1 1 45 (by omega) (by omega) (by omega) (by omega)) ⟨NB.2.2.2.1 4 _ (by omega) (by omega) (by omega) (by omega), NB.2.2.2.1 4 _ (by omega) (by omega) (by omega) (by omega)⟩
      rw [e0] at hQ
      have N1 := NB.1
      have N2 := NB.2.1
      have hz := hQ ((mS (mS m2 19 (m2 1 20) q) 1 20 ((m2 1 20) + 1))) lo' hi' ⟨h2, by omega, by omega, by omega, by omega, by omega⟩ hF2 (fun x j u v => (NB.2.2.2.1 x j (by omega) (by omega) (by omega) (by omega)).trans (ff x j (by omega) (by omega) (by omega)))
      show Q (.inl (some (aI (((m2 1 20) + 1) - 1)))) ((mS (mS m2 19 (m2 1 20) q) 1 20 ((m2 1 20) + 1)))
      rw [show (((m2 1 20) + 1) - 1) = S 0 3 by omega]
      exact hz
    · have ev0 : c_fam S i = ((-5), S) := by
        unfold c_fam
        rw [if_pos (by omega), if_pos (by omega)]
      rw [ev0] at hQ
      exact hQ m lo hi (hz0.fr (hFr.rfl m) (by omega)) hF (fun _ _ _ _ => rfl)
  · refine And.intro (fun h => absurd h (by decide)) (fun _ => ?_)
    have ev0 : c_fam S i = ((-3), S) := by
      unfold c_fam
      rw [if_neg (by omega)]
    rw [ev0] at hQ
    exact hQ m lo hi (hz0.fr (hFr.rfl m) (by omega)) hF (fun _ _ _ _ => rfl)
theorem ms_308 {d : Nat} {m : aM} {Q : aO → aM → Prop} {S : aM} {F : Int → aD} {k i : Int} (hd : 60 ≤ d) (hk : 0 ≤ k) (hz0 : mZ (k + 1) S F m) (hF : mFam m) (hQ : ∀ m', mZ k (c_fam S i).2 F m' → mFam m' → (∀ x j, x < 41 ∨ 76 < x → m' x j = m x j) → Q (.inl (some (aI (c_fam S i).1))) m') : am_wpc am_G am_T d 308 [aR 41, aI i] m Q := by
  have h := hz0.1
  obtain ⟨r1, r2⟩ := id hz0.2
  have hS := h.2.1
  have s1 := hS.1
  have c1 := hS.2.1
  obtain ⟨dk, hdk⟩ : ∃ k, d = k + 1 := ⟨d - 1, by omega⟩
  refine am_in (k := dk) rfl (by omega) (fun d hd => ?_)
  refine am_go 400 [] (am_wpc_cm _ _ _) wf_308 ?_
  refine And.intro (fun h1 => ?_) (fun h1 => ?_)
  · have ev0 : c_fam S i = ((-3), S) := by
      unfold c_fam
      rw [if_neg (by omega)]
    rw [ev0] at hQ
    exact hQ m (hz0.fr (mFr.rfl m)) hF (fun _ _ _ => rfl)
  · refine And.intro (fun h2 => ?_) (fun h2 => ?_)
    · refine And.intro (rfl) ?_
      refine And.intro (fun h3 => ?_) (fun h3 => ?_)
      · refine And.intro (rfl) ?_
        refine ct_181 (by omega) (by omega) (fun m1 fb1 ra => ?_)
        have q1 := fb1 41 1 (by omega)
        refine And.intro (rfl) ?_
        refine ct_218 (by omega) (by omega) ra (fun m2 k1 kf kr => ?_)
        have e0 : c_fam S i = (S 0 3, sAr S (fw i)) := by
          unfold c_fam
          rw [if_pos (by omega), if_neg (by omega)]
        have n3 : m1 41 1 = S 0 3 := by omega
        rw [n3] at k1 kf kr
        have g : ∀ x j, (x ≠ 41 ∨ j ≠ 1) → (x ≠ 42 ∨ j < 66 * S 0 3) → m2 x j = m x j := fun x j u v => (kf x j u (by omega)).trans (fb1 x j (by omega))
        have h2 : mI (sAr S (fw i)) F m2 := h.ar (by omega) g k1 kr (fw_ok (by omega))
        rw [e0] at hQ
        have x27 := g 41 27 (by omega) (by omega)
        have hz := hQ m2 ⟨h2, by omega, by omega⟩ (hF.keep (g 41 66 (by omega) (by omega)) (funext fun j => g 75 j (by omega) (by omega)) (funext fun j => g 76 j (by omega) (by omega))) (fun x j u => g x j (by omega) (by omega))
        rw [n3]
        exact hz
      · have ev0 : c_fam S i = ((-5), S) := by
          unfold c_fam
          rw [if_pos (by omega), if_pos (by omega)]
        rw [ev0] at hQ
        exact hQ m (hz0.fr (mFr.rfl m)) hF (fun _ _ _ => rfl)
    · have ev0 : c_fam S i = ((-3), S) := by
        unfold c_fam
        rw [if_neg (by omega)]
      rw [ev0] at hQ
      exact hQ m (hz0.fr (mFr.rfl m)) hF (fun _ _ _ => rfl)
