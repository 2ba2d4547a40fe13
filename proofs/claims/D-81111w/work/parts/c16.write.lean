/-! needs: c15 -/
/-! CALLS: write, both; by tools/genc16.py -/
set_option maxRecDepth 100000
set_option maxHeartbeats 8000000
def sWr (S : aM) (l : List Int) : aM := fun x j => if x = 0 ∧ j = 1 then (l.length : Int) else if x = 2 then l.getD j.toNat 0 else S x j
noncomputable def c_wr (S : aM) (a : Int) : Int × aM := if v_has S a then (((o_arms (S (100 + a))).length : Int), sWr S (o_arms (S (100 + a)))) else (-2, S)
theorem sWr_r {S : aM} {l : List Int} {x : Int} (h : x ≠ 0) (g : x ≠ 2) : sWr S l x = S x := funext fun j => by unfold sWr; rw [if_neg (by omega), if_neg (by omega)]
theorem sWr_0 {S : aM} {l : List Int} {j : Int} (h : j ≠ 1) : sWr S l 0 j = S 0 j := by unfold sWr; rw [if_neg (by omega), if_neg (by omega)]
theorem sWr_1 {S : aM} {l : List Int} : sWr S l 0 1 = l.length := by unfold sWr; rw [if_pos ⟨rfl, rfl⟩]
theorem sWr_2 {S : aM} {l : List Int} {j : Int} : sWr S l 2 j = l.getD j.toNat 0 := by unfold sWr; rw [if_neg (by omega), if_pos rfl]
theorem hI.wr {S : aM} {F : Int → aD} {lo hi cl ch : Int → Int} {m m' : aM} {l : List Int} (h : hI S F lo hi cl ch m) (f : fr_W m m') (o : hOut m' l) : hI (sWr S l) F lo hi cl ch m' := by
  have E : ∀ x, x ≠ 4 → x ≠ 1 → m' x = m x := fun x a b => funext fun j => f x j a (by omega)
  have e1 : ∀ j, j ≠ 3 → m' 1 j = m 1 j := fun j u => f 1 j (by omega) (by omega)
  have hn : hNm (sWr S l) m' := by
    obtain ⟨n1, n2, n3, n4, n5, n6, n7, n8, n9⟩ := h.2.2.1
    unfold hNm
    rw [sWr_1, sWr_0 (j := 0) (by omega), sWr_0 (j := 2) (by omega), sWr_0 (j := 7) (by omega), sWr_0 (j := 8) (by omega), sWr_0 (j := 9) (by omega), sWr_r (x := 1) (by omega) (by omega), e1 17 (by omega), e1 18 (by omega), e1 38 (by omega), e1 41 (by omega), e1 46 (by omega), e1 39 (by omega), E 18 (by omega) (by omega)]
    refine ⟨n1, n2, o.1, fun i a b => ?_, n5, n6, n7, n8, n9⟩
    have z := o.2 i.toNat (by omega)
    rw [show ((i.toNat : Nat) : Int) = i by omega] at z
    rw [sWr_2]
    exact z
  exact h.up (fun x j u => f x j (by omega) (by omega)) hn ((h.2.2.2.2.1.keep (e1 29 (by omega)) (fun x u => E x (by omega) (by omega))).cg (sWr_0 (by omega)) (sWr_0 (by omega)) (fun x a b => sWr_r (by omega) (by omega))) (fun j u => e1 j (by omega)) (fun x u => E x (by omega) (by omega)) ⟨f 18 _ (by omega) (by omega), f 18 _ (by omega) (by omega)⟩ (sWr_0 (by omega)) (sWr_0 (by omega)) (sWr_0 (by omega)) (fun x u => sWr_r (by omega) (by omega))
theorem mI.wr {S : aM} {F : Int → aD} {m m' : aM} {l : List Int} (h : mI S F m) (f : fr_V m m') (o : mOut m' l) : mI (sWr S l) F m' := by
  have E : ∀ x, x ≠ 44 → x ≠ 41 → m' x = m x := fun x a b => funext fun j => f x j a (by omega)
  have e1 : ∀ j, j ≠ 5 → m' 41 j = m 41 j := fun j u => f 41 j (by omega) (by omega)
  have hn : mNm (sWr S l) m' := by
    obtain ⟨n1, n2, n3, n4, n5, n6, n7, n8⟩ := h.1
    unfold mNm
    rw [sWr_1, sWr_0 (j := 0) (by omega), sWr_0 (j := 2) (by omega), sWr_0 (j := 7) (by omega), sWr_0 (j := 8) (by omega), sWr_0 (j := 9) (by omega), sWr_r (x := 1) (by omega) (by omega), e1 3 (by omega), e1 17 (by omega), e1 62 (by omega), e1 63 (by omega), e1 67 (by omega), E 43 (by omega) (by omega)]
    refine ⟨n1, n2, o.1, fun i a b => ?_, n5, n6, n7, n8⟩
    have z := o.2 i.toNat (by omega)
    rw [show ((i.toNat : Nat) : Int) = i by omega] at z
    rw [sWr_2]
    exact z
  have he : mEs (sWr S l) m' := by
    refine mEs.cg ?_ (sWr_0 (by omega)) (sWr_0 (by omega)) (fun r a b => sWr_r (by omega) (by omega))
    unfold mEs
    rw [e1 40 (by omega), E 65 (by omega) (by omega), E 66 (by omega) (by omega), E 67 (by omega) (by omega)]
    exact h.2.2.1
  exact h.up hn he (fun j u => e1 j (by omega)) (fun x u => E x (by omega) (by omega)) (fun j u => f 42 j (by omega) (by omega)) (sWr_0 (by omega)) (sWr_0 (by omega)) (sWr_0 (by omega)) (fun x u => sWr_r (by omega) (by omega))
theorem hs_68 {d : Nat} {m : aM} {Q : aO → aM → Prop} {S : aM} {F : Int → aD} {lo hi cl ch : Int → Int} {k a : Int} (hd : 60 ≤ d) (hk : 0 ≤ k) (hz0 : hZ (k + 1) S F lo hi cl ch m) (hQ : ∀ m', hZ k (c_wr S a).2 F lo hi cl ch m' → (∀ x j, 41 ≤ x → x ≤ 76 → m' x j = m x j) → Q (.inl (some (aI (c_wr S a).1))) m') : am_wpc am_G am_T d 68 [aR 1, aI a] m Q := by
  have h := hz0.1
  have hr := hz0.2
  have fr := hFr.rfl m
  obtain ⟨r1, r2, r3, r4, r5⟩ := id hr
  have hS := h.2.2.2.1
  have h0 := h.1
  have s1 := hS.1
  obtain ⟨dk, hdk⟩ : ∃ k, d = k + 1 := ⟨d - 1, by omega⟩
  refine am_in (k := dk) rfl (by omega) (fun d hd => ?_)
  refine am_go 400 [] (am_wpc_cm _ _ _) wf_68 ?_
  refine And.intro (rfl) ?_
  refine ct_59 (by omega) h (by omega) (fun t1 => ?_) (fun t1 mw1 fx => ?_)
  · have hA1 := hS.2.2.1 a t1.1 t1.2
    have hB1 := hA1.basic
    refine And.intro (fun _ => ?_) (fun h => absurd h (by decide))
    refine And.intro (rfl) ?_
    refine And.intro (⟨rfl, by first | omega | (simp only [mS_iff, eq_self, Int.reduceEq, true_and, and_true, false_and, and_false, and_self, ↓reduceIte]; omega) | (simp only [mS_iff, eq_self, Int.reduceEq, true_and, and_true, false_and, and_false, and_self, ↓reduceIte] at *; omega)⟩) ?_
    refine And.intro (rfl) ?_
    refine ct_69 (by omega) h.2.2.2.2.2.2.2.2.2.2.1.1 hA1 (fun mw fw ow => ?_)
    refine And.intro (rfl) ?_
    have e0 : c_wr S a = _ := if_pos t1
    rw [e0] at hQ
    rw [ow.1]
    exact hQ mw ⟨h.wr fw ow, hr.up (fun j => fw 0 j (by omega) (by omega)) (fw 1 14 (by omega) (by omega))⟩ (fun x j u v => fw x j (by omega) (by omega))
  · have fr := fr.trans fx
    have cn := fr.1
    have cs := fr.2.1
    refine And.intro (fun h => absurd h (by decide)) (fun _ => ?_)
    have e0 : c_wr S a = (-2, S) := if_neg t1
    rw [e0] at hQ
    exact hQ mw1 (hz0.fr fr (by omega)) fr.M
theorem ms_226 {d : Nat} {m : aM} {Q : aO → aM → Prop} {S : aM} {F : Int → aD} {k a : Int} (hd : 60 ≤ d) (hk : 0 ≤ k) (hz0 : mZ (k + 1) S F m) (hQ : ∀ m', mZ k (c_wr S a).2 F m' → (∀ x j, x < 41 ∨ 76 < x → m' x j = m x j) → Q (.inl (some (aI (c_wr S a).1))) m') : am_wpc am_G am_T d 226 [aR 41, aI a] m Q := by
  have h := hz0.1
  obtain ⟨r1, r2⟩ := id hz0.2
  have fr := mFr.rfl m
  have hS := h.2.1
  have s1 := hS.1
  obtain ⟨dk, hdk⟩ : ∃ k, d = k + 1 := ⟨d - 1, by omega⟩
  refine am_in (k := dk) rfl (by omega) (fun d hd => ?_)
  refine am_go 400 [21] (am_wpc_cm _ _ _) wf_226 ?_
  refine And.intro (rfl) ?_
  refine ct_222 (by omega) h (fun t1 => ?_) (fun t1 => ?_)
  · have hA1 := (hS.2.2 a t1.1 t1.2).1
    have ok1 := (hS.2.2 a t1.1 t1.2).2
    refine And.intro (fun _ => ?_) (fun h => absurd h (by decide))
    refine And.intro (rfl) ?_
    obtain ⟨ma, ea⟩ : ∃ z, z = (mS m 41 5 0) := ⟨_, rfl⟩
    rw [← ea]
    have fv : fr_V m ma := fun r j u v => by rw [ea, mS_iff, if_neg (by omega)]
    have oo : mOut ma [] := ⟨by rw [ea, mS_iff, if_pos ⟨rfl, rfl⟩]; rfl, fun j z => absurd z (by simp)⟩
    have hW : mWd ma := by
      have z := h.2.2.2.2.2.2.2.1.1
      unfold mWd at *
      rw [show ma 45 = m 45 from funext fun j => fv 45 j (by omega) (by omega), show ma 46 = m 46 from funext fun j => fv 46 j (by omega) (by omega), show ma 47 = m 47 from funext fun j => fv 47 j (by omega) (by omega), show ma 48 = m 48 from funext fun j => fv 48 j (by omega) (by omega), show ma 49 = m 49 from funext fun j => fv 49 j (by omega) (by omega), show ma 50 = m 50 from funext fun j => fv 50 j (by omega) (by omega)]
      exact z
    have hA2 := hA1.keep (m' := ma) (fun j => fv 42 j (by omega) (by omega))
    refine And.intro (rfl) ?_
    refine ct_227 (l := []) (by omega) hW oo hA2 ok1 (fun mb fb ob => ?_)
    have hW2 : mWd mb := by
      unfold mWd at *
      rw [show mb 45 = ma 45 from funext fun j => fb 45 j (by omega) (by omega), show mb 46 = ma 46 from funext fun j => fb 46 j (by omega) (by omega), show mb 47 = ma 47 from funext fun j => fb 47 j (by omega) (by omega), show mb 48 = ma 48 from funext fun j => fb 48 j (by omega) (by omega), show mb 49 = ma 49 from funext fun j => fb 49 j (by omega) (by omega), show mb 50 = ma 50 from funext fun j => fb 50 j (by omega) (by omega)]
      exact hW
    refine lp_226 (by omega) hW2 (hA2.keep (fun j => fb 42 j (by omega) (by omega))) ok1 ob (fun mf x ff of ex => ?_)
    have e0 : c_wr S a = _ := if_pos t1
    rw [e0] at hQ
    have FV : fr_V m mf := fun r j u v => (ff r j u v).trans ((fb r j u v).trans (fv r j u v))
    rw [ex]
    exact hQ mf ⟨h.wr FV of, by rw [FV 41 27 (by omega) (by omega)]; omega, by rw [FV 41 27 (by omega) (by omega)]; omega⟩ (fun x j u => FV x j (by omega) (by omega))
  · refine And.intro (fun h => absurd h (by decide)) (fun _ => ?_)
    have e0 : c_wr S a = (-2, S) := if_neg t1
    rw [e0] at hQ
    exact hQ m (hz0.fr fr) fr.1
