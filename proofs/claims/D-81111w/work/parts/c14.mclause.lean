/-! needs: c12 c13 -/
/-! CALLS: clause, reference; by tools/genc14.py -/
set_option maxRecDepth 100000
set_option maxHeartbeats 8000000
theorem mI.cn {S : aM} {F : Int → aD} {m m' : aM} {f : aD} {a p hh : Int} (h : mI S F m) (h5 : S 0 6 ≠ 20) (g : ∀ x j, (x ≠ 41 ∨ ((j < 12 ∨ 18 < j) ∧ j ≠ 3 ∧ j ≠ 46 ∧ j ≠ 53 ∧ j ≠ 54 ∧ j ≠ 55 ∧ j ≠ 56)) → (x < 69 ∨ 74 < x ∨ (x ≤ 70 ∧ j ≠ S 0 6) ∨ (71 ≤ x ∧ j < 60 * S 0 6)) → m' x j = m x j) (g1 : m' 41 46 = S 0 6 + 1) (g3 : m' 41 3 = 0) (g7 : m' 41 17 = 0) (g70 : m' 70 (S 0 6) = a) (hp : p ≤ 24) (hh6 : hh ≤ 60 * S 0 6 + 60) (nd : mNd m' (60 * S 0 6) hh (m' 69 (S 0 6)) f p) : mI (sCn S a) (fCn S F f) m' := by
  obtain ⟨i1, i2, i3, i4, i5, i6, i7, i8⟩ := h
  have SR : ∀ x, x ≠ 0 → x ≠ 20 → sCn S a x = S x := fun x a b => sCn_r a b
  have S0 : ∀ j, (j ≠ 0 ∧ j ≠ 2 ∧ j ≠ 6) → sCn S a 0 j = S 0 j := fun j u => sCn_0 u
  have E : ∀ x, x ≠ 41 → (x < 69 ∨ 74 < x) → m' x = m x := fun x a b => funext fun j => g x j (by omega) (by omega)
  have e1 : ∀ j, ((j < 12 ∨ 18 < j) ∧ j ≠ 3 ∧ j ≠ 46 ∧ j ≠ 53 ∧ j ≠ 54 ∧ j ≠ 55 ∧ j ≠ 56) → m' 41 j = m 41 j := fun j a => g 41 j (by omega) (by omega)
  refine ⟨?_, ?_, ?_, ?_, ?_, ?_, ?_, ?_⟩
  · obtain ⟨n1, n2, n3, n4, n5, n6, n7, n8⟩ := i1
    unfold mNm
    rw [g3, g7, sCn_00, sCn_02, e1 5 (by omega), e1 62 (by omega), e1 63 (by omega), e1 67 (by omega), E 44 (by omega) (by omega), S0 1 (by omega), S0 7 (by omega), S0 8 (by omega), S0 9 (by omega), SR 2 (by omega) (by omega)]
    exact ⟨rfl, fun i a b => by omega, n3, n4, rfl, n6, n7, n8⟩
  · unfold mAs mRow
    rw [S0 3 (by omega), e1 1 (by omega), E 42 (by omega) (by omega)]
    exact ⟨i2.1, i2.2.1, fun i a b => by rw [SR (100 + i) (by omega) (by omega)]; exact i2.2.2 i a b⟩
  · refine mEs.cg ?_ (S0 5 (by omega)) (S0 3 (by omega)) (fun x a b => SR x (by omega) (by omega))
    unfold mEs
    rw [e1 40 (by omega), E 65 (by omega) (by omega), E 66 (by omega) (by omega), E 67 (by omega) (by omega)]
    exact i3
  · refine mPs.cg ?_ (S0 4 (by omega)) (S0 3 (by omega)) (fun x a b => SR x (by omega) (by omega))
    unfold mPs
    rw [e1 28 (by omega), E 56 (by omega) (by omega), E 57 (by omega) (by omega), E 58 (by omega) (by omega), E 59 (by omega) (by omega), E 60 (by omega) (by omega), E 61 (by omega) (by omega)]
    exact i4
  · obtain ⟨a1, a2, a3⟩ := i5
    unfold mCs
    rw [sCn_06]
    refine ⟨by omega, g1, fun i u v => ?_⟩
    unfold fCn
    by_cases k : i = S 0 6
    · subst k
      rw [if_pos rfl, sCn_n]
      exact ⟨⟨p, hh, hp, hh6, nd⟩, g70⟩
    · rw [if_neg k, sCn_o k, g 69 i (by omega) (by omega), g 70 i (by omega) (by omega)]
      obtain ⟨⟨q, hi, c1, c2, c3⟩, c4⟩ := a3 i u (by omega)
      exact ⟨⟨q, hi, c1, c2, c3.keep (fun x j u v _ z => g x j (by omega) (by omega))⟩, c4⟩
  · unfold mDn mDr
    rw [S0 3 (by omega), e1 23 (by omega), E 51 (by omega) (by omega), E 52 (by omega) (by omega)]
    exact ⟨i6.1, fun i a b c => by rw [SR (100 + i) (by omega) (by omega)]; exact i6.2 i a b c⟩
  · unfold mTk
    rw [e1 27 (by omega), E 55 (by omega) (by omega)]
    exact i7
  · unfold mOn mW5 mWr mWd
    rw [E 45 (by omega) (by omega), E 46 (by omega) (by omega), E 47 (by omega) (by omega), E 48 (by omega) (by omega), E 49 (by omega) (by omega), E 50 (by omega) (by omega)]
    exact i8
/-- the clause was not heard: numbers of the clauses being read, parts behind the told ones changed -/
theorem mI.ce {S : aM} {F : Int → aD} {m m' : aM} {c : Int} (h : mI S F m) (g : ∀ x j, (x ≠ 41 ∨ ((j < 12 ∨ 18 < j) ∧ j ≠ 3 ∧ j ≠ 53 ∧ j ≠ 54 ∧ j ≠ 55 ∧ j ≠ 56)) → (x < 71 ∨ 74 < x ∨ j < 60 * S 0 6) → m' x j = m x j) (g3 : m' 41 3 = 0) (g7 : m' 41 17 = c) : mI (sTk S c) F m' := by
  have s0 : ∀ j, j ≠ 0 → j ≠ 2 → sTk S c 0 j = S 0 j := fun j a b => by unfold sTk; rw [mS_iff, if_neg (by omega), mS_iff, if_neg (by omega)]
  have s00 : sTk S c 0 0 = 0 := by unfold sTk; rw [mS_iff, if_neg (by omega), mS_iff, if_pos ⟨rfl, rfl⟩]
  have s02 : sTk S c 0 2 = c := by unfold sTk; rw [mS_iff, if_pos ⟨rfl, rfl⟩]
  have sr : ∀ x, x ≠ 0 → sTk S c x = S x := fun x a => funext fun j => by unfold sTk; rw [mS_iff, if_neg (by omega), mS_iff, if_neg (by omega)]
  obtain ⟨i1, i2, i3, i4, i5, i6, i7, i8⟩ := h
  have E : ∀ x, x ≠ 41 → (x < 71 ∨ 74 < x) → m' x = m x := fun x a b => funext fun j => g x j (by omega) (by omega)
  have e1 : ∀ j, ((j < 12 ∨ 18 < j) ∧ j ≠ 3 ∧ j ≠ 53 ∧ j ≠ 54 ∧ j ≠ 55 ∧ j ≠ 56) → m' 41 j = m 41 j := fun j a => g 41 j (by omega) (by omega)
  refine ⟨?_, ?_, ?_, ?_, ?_, ?_, ?_, ?_⟩
  · obtain ⟨n1, n2, n3, n4, n5, n6, n7, n8⟩ := i1
    unfold mNm
    rw [g3, g7, s00, s02, e1 5 (by omega), e1 62 (by omega), e1 63 (by omega), e1 67 (by omega), E 44 (by omega) (by omega), s0 1 (by omega) (by omega), s0 7 (by omega) (by omega), s0 8 (by omega) (by omega), s0 9 (by omega) (by omega), sr 2 (by omega)]
    exact ⟨rfl, fun i a b => by omega, n3, n4, rfl, n6, n7, n8⟩
  · unfold mAs mRow
    rw [s0 3 (by omega) (by omega), e1 1 (by omega), E 42 (by omega) (by omega)]
    exact ⟨i2.1, i2.2.1, fun i a b => by rw [sr (100 + i) (by omega)]; exact i2.2.2 i a b⟩
  · refine mEs.cg ?_ (s0 5 (by omega) (by omega)) (s0 3 (by omega) (by omega)) (fun x a b => sr x (by omega))
    unfold mEs
    rw [e1 40 (by omega), E 65 (by omega) (by omega), E 66 (by omega) (by omega), E 67 (by omega) (by omega)]
    exact i3
  · refine mPs.cg ?_ (s0 4 (by omega) (by omega)) (s0 3 (by omega) (by omega)) (fun x a b => sr x (by omega))
    unfold mPs
    rw [e1 28 (by omega), E 56 (by omega) (by omega), E 57 (by omega) (by omega), E 58 (by omega) (by omega), E 59 (by omega) (by omega), E 60 (by omega) (by omega), E 61 (by omega) (by omega)]
    exact i4
  · obtain ⟨a1, a2, a3⟩ := i5
    unfold mCs
    rw [s0 6 (by omega) (by omega), sr 20 (by omega), E 69 (by omega) (by omega), E 70 (by omega) (by omega), e1 46 (by omega)]
    refine ⟨a1, a2, fun i u v => ?_⟩
    obtain ⟨⟨q, hi, c1, c2, c3⟩, c4⟩ := a3 i u v
    exact ⟨⟨q, hi, c1, c2, c3.keep (fun x j u v _ z => g x j (by omega) (by omega))⟩, c4⟩
  · unfold mDn mDr
    rw [s0 3 (by omega) (by omega), e1 23 (by omega), E 51 (by omega) (by omega), E 52 (by omega) (by omega)]
    exact ⟨i6.1, fun i a b c => by rw [sr (100 + i) (by omega)]; exact i6.2 i a b c⟩
  · unfold mTk
    rw [e1 27 (by omega), E 55 (by omega) (by omega)]
    exact i7
  · unfold mOn mW5 mWr mWd
    rw [E 45 (by omega) (by omega), E 46 (by omega) (by omega), E 47 (by omega) (by omega), E 48 (by omega) (by omega), E 49 (by omega) (by omega), E 50 (by omega) (by omega)]
    exact i8
theorem ms_282 {d : Nat} {m : aM} {Q : aO → aM → Prop} {S : aM} {F : Int → aD} {k : Int} {K A V E : Int → Int} {N : Int} (hd : 120 ≤ d) (hk : 0 ≤ k) (hz0 : mZ (k + 1) S F m) (si : sI S F) (lx : x_lx (S 1) (S 0 0) K A V E N) (nb : N ≤ 1201) (hQ : ∀ m', mZ k (c_clz K A V S F).2.1 (c_clz K A V S F).2.2 m' → (∀ x j, x < 41 ∨ 76 < x → m' x j = m x j) → Q (.inl (some (aI (c_clz K A V S F).1))) m') : am_wpc am_G am_T d 282 [aR 41] m Q := by
  have h := hz0.1
  obtain ⟨r1, r2⟩ := id hz0.2
  have fr := mFr.rfl m
  have hS := h.2.1
  have s1 := hS.1
  obtain ⟨n1, n2, n3, n4, n5, n6, n7, n8⟩ := id h.1
  have c46 := h.2.2.2.2.1.2.1
  have c20 := h.2.2.2.2.1.1
  have s10 := si.1
  have hT := lx.T s10 nb
  have hN := hT.1
  obtain ⟨dk, hdk⟩ : ∃ k, d = k + 1 := ⟨d - 1, by omega⟩
  refine am_in (k := dk) rfl (by omega) (fun d hd => ?_)
  refine am_go 400 [] (am_wpc_cm _ _ _) wf_282 ?_
  refine And.intro (rfl) ?_
  refine And.intro (fun h1 => ?_) (fun h1 => ?_)
  · refine And.intro (rfl) ?_
    refine And.intro (rfl) ?_
    refine And.intro (show -2147483648 ≤ 60 * (m 41 46) ∧ 60 * (m 41 46) ≤ 2147483647 by first | omega | (simp only [mS_iff, eq_self, Int.reduceEq, true_and, and_true, false_and, and_false, and_self, ↓reduceIte]; omega) | (simp only [mS_iff, eq_self, Int.reduceEq, true_and, and_true, false_and, and_false, and_self, ↓reduceIte] at *; omega)) ?_
    refine And.intro (rfl) ?_
    refine And.intro (rfl) ?_
    refine And.intro (rfl) ?_
    obtain ⟨ma, ea⟩ : ∃ z, z = (mS (mS (mS (mS m 41 53 0) 41 54 (60 * mS m 41 53 0 41 46)) 41 55 0) 41 56 0) := ⟨_, rfl⟩
    rw [← ea]
    have af : ∀ x j, (x ≠ 41 ∨ (j ≠ 53 ∧ j ≠ 54 ∧ j ≠ 55 ∧ j ≠ 56)) → ma x j = m x j := fun x j u => by rw [ea, mS_iff, if_neg (by omega), mS_iff, if_neg (by omega), mS_iff, if_neg (by omega), mS_iff, if_neg (by omega)]
    have a53 : ma 41 53 = 0 := by rw [ea]; simp only [mS_iff, eq_self, Int.reduceEq, true_and, and_true, false_and, and_false, and_self, ↓reduceIte]
    have a54 : ma 41 54 = 60 * S 0 6 := by rw [ea]; simp only [mS_iff, eq_self, Int.reduceEq, true_and, and_true, false_and, and_false, and_self, ↓reduceIte]; omega
    have a55 : ma 41 55 = 0 := by rw [ea]; simp only [mS_iff, eq_self, Int.reduceEq, true_and, and_true, false_and, and_false, and_self, ↓reduceIte]
    have a56 : ma 41 56 = 0 := by rw [ea]; simp only [mS_iff, eq_self, Int.reduceEq, true_and, and_true, false_and, and_false, and_self, ↓reduceIte]
    have w5 : mW5 ma := h.2.2.2.2.2.2.2.2.K (fun x u v => funext fun j => af x j (by omega))
    refine And.intro (rfl) ?_
    refine ct_193 (n := S 0 0) (K := K) (A := A) (V := V) (E := E) (N := N) (p := 0) (by omega) ⟨by rw [af 41 3 (by omega)]; exact n1, s10⟩ (fun k a b => by rw [af 43 k (by omega), n2 k a b]; exact si.2.1 k a b) (x_lx_c s10.1 (fun k a b => by rw [af 43 k (by omega)]; exact (n2 k a b).symm) lx) (fun ms fs hx => ?_)
    have w5 := w5.M fs
    have s53 := fs 41 53 (by omega)
    have s54 := fs 41 54 (by omega)
    have s55 := fs 41 55 (by omega)
    have s56 := fs 41 56 (by omega)
    have s14 : ms 41 14 = A 0 := (hx.2.2.2.2.2.2.1 rfl).2.2.2.1
    refine And.intro (rfl) ?_
    refine And.intro (rfl) ?_
    refine (mc_all hT 24030).1 _ _ _ 0 _ _ _ (d_num 0) (by omega) hx w5 (by omega) (by omega) (by omega) (fun _ => by omega) (by omega) (fun z => absurd rfl z) (fun _ c pl er m1 r q1 fg hx3 nz ql e5 => ?_) (fun _ q1 k1 g er m1 r fg hx3 e55 e56 kb e53 ql nd => ?_)
    · rw [show ms 41 56 = 0 by omega] at er
      have pb := c_x_b hT (by omega) er
      have w16 := (hx3.2.2.2.2.2.2.2 nz).1
      refine And.intro (rfl) ?_
      refine And.intro (fun h2 => ?_) (fun h2 => ?_)
      · have w17 := (hx3.2.2.2.2.2.2.2 nz).2.1
        have w18 := (hx3.2.2.2.2.2.2.2 nz).2.2
        skip
        refine And.intro (rfl) ?_
        obtain ⟨mt, et⟩ : ∃ z, z = (mS m1 41 3 0) := ⟨_, rfl⟩
        rw [← et]
        have tf : ∀ x j, (x ≠ 41 ∨ j ≠ 3) → mt x j = m1 x j := fun x j u => by rw [et, mS_iff, if_neg (by omega)]
        have t3 : mt 41 3 = 0 := by rw [et, mS_iff, if_pos ⟨rfl, rfl⟩]
        have t16 := tf 41 16 (by omega)
        have t18 := tf 41 18 (by omega)
        have gg : ∀ x j, (x ≠ 41 ∨ ((j < 12 ∨ 18 < j) ∧ j ≠ 3 ∧ j ≠ 53 ∧ j ≠ 54 ∧ j ≠ 55 ∧ j ≠ 56)) → (x < 71 ∨ 74 < x ∨ j < 60 * S 0 6) → mt x j = m x j := fun x j u v => (tf x j (by omega)).trans (((fg.2 x j (by omega) (by omega)).trans ((fs x j (by omega)).trans (af x j (by omega)))))
        have t46 : mt 41 46 = S 0 6 := (gg 41 46 (by omega) (by omega)).trans c46
        have t27 := gg 41 27 (by omega) (by omega)
        refine And.intro (rfl) ?_
        refine And.intro (fun h => absurd h (by omega)) (fun _ => ?_)
        refine And.intro (rfl) ?_
        refine And.intro (show -2147483648 ≤ (-10) - (mt 41 18) ∧ (-10) - (mt 41 18) ≤ 2147483647 by first | omega | (simp only [mS_iff, eq_self, Int.reduceEq, true_and, and_true, false_and, and_false, and_self, ↓reduceIte]; omega) | (simp only [mS_iff, eq_self, Int.reduceEq, true_and, and_true, false_and, and_false, and_self, ↓reduceIte] at *; omega)) ?_
        have e0 := c_clz_e (S := S) (F := F) (by omega) er
        have hz := hQ mt (by rw [e0]; exact ⟨h.ce gg t3 ((tf 41 17 (by omega)).trans w17), by omega, by omega⟩) (fun x j u => gg x j (by omega) (by omega))
        rw [e0] at hz
        show Q (.inl (some (aI (-10 - mt 41 18)))) mt
        rw [show mt 41 18 = pl by omega]
        exact hz
      · refine And.intro (rfl) ?_
        refine ct_201 (by omega) hx3 (by omega) (fun mf ft hy => ?_)
        rw [if_neg nz, if_neg nz] at hy
        have w16 := (hy.2.2.2.2.2.2.2 nz).1
        have w17 := (hy.2.2.2.2.2.2.2 nz).2.1
        have w18 := (hy.2.2.2.2.2.2.2 nz).2.2
        skip
        skip
        refine And.intro (rfl) ?_
        obtain ⟨mt, et⟩ : ∃ z, z = (mS mf 41 3 0) := ⟨_, rfl⟩
        rw [← et]
        have tf : ∀ x j, (x ≠ 41 ∨ j ≠ 3) → mt x j = mf x j := fun x j u => by rw [et, mS_iff, if_neg (by omega)]
        have t3 : mt 41 3 = 0 := by rw [et, mS_iff, if_pos ⟨rfl, rfl⟩]
        have t16 := tf 41 16 (by omega)
        have t18 := tf 41 18 (by omega)
        have gg : ∀ x j, (x ≠ 41 ∨ ((j < 12 ∨ 18 < j) ∧ j ≠ 3 ∧ j ≠ 53 ∧ j ≠ 54 ∧ j ≠ 55 ∧ j ≠ 56)) → (x < 71 ∨ 74 < x ∨ j < 60 * S 0 6) → mt x j = m x j := fun x j u v => (tf x j (by omega)).trans ((ft x j (by omega)).trans ((fg.2 x j (by omega) (by omega)).trans ((fs x j (by omega)).trans (af x j (by omega)))))
        have t46 : mt 41 46 = S 0 6 := (gg 41 46 (by omega) (by omega)).trans c46
        have t27 := gg 41 27 (by omega) (by omega)
        refine And.intro (rfl) ?_
        refine And.intro (fun h => absurd h (by omega)) (fun _ => ?_)
        refine And.intro (rfl) ?_
        refine And.intro (show -2147483648 ≤ (-10) - (mt 41 18) ∧ (-10) - (mt 41 18) ≤ 2147483647 by first | omega | (simp only [mS_iff, eq_self, Int.reduceEq, true_and, and_true, false_and, and_false, and_self, ↓reduceIte]; omega) | (simp only [mS_iff, eq_self, Int.reduceEq, true_and, and_true, false_and, and_false, and_self, ↓reduceIte] at *; omega)) ?_
        have e0 := c_clz_e (S := S) (F := F) (by omega) er
        have hz := hQ mt (by rw [e0]; exact ⟨h.ce gg t3 ((tf 41 17 (by omega)).trans w17), by omega, by omega⟩) (fun x j u => gg x j (by omega) (by omega))
        rw [e0] at hz
        show Q (.inl (some (aI (-10 - mt 41 18)))) mt
        rw [show mt 41 18 = pl by omega]
        exact hz
    · rw [show ms 41 56 = 0 by omega] at er nd
      have k2 := hx3.k2
      have w16 := (hx3.2.2.2.2.2.2.1 rfl).1
      refine And.intro (rfl) ?_
      refine And.intro (fun h3 => ?_) (fun h3 => ?_)
      · skip
        have kq : K q1 = 71 := by omega
        refine And.intro (rfl) ?_
        obtain ⟨mt, et⟩ : ∃ z, z = (mS m1 41 3 0) := ⟨_, rfl⟩
        rw [← et]
        have tf : ∀ x j, (x ≠ 41 ∨ j ≠ 3) → mt x j = m1 x j := fun x j u => by rw [et, mS_iff, if_neg (by omega)]
        have t3 : mt 41 3 = 0 := by rw [et, mS_iff, if_pos ⟨rfl, rfl⟩]
        have t16 := tf 41 16 (by omega)
        have t18 := tf 41 18 (by omega)
        have gg : ∀ x j, (x ≠ 41 ∨ ((j < 12 ∨ 18 < j) ∧ j ≠ 3 ∧ j ≠ 53 ∧ j ≠ 54 ∧ j ≠ 55 ∧ j ≠ 56)) → (x < 71 ∨ 74 < x ∨ j < 60 * S 0 6) → mt x j = m x j := fun x j u v => (tf x j (by omega)).trans (((fg.2 x j (by omega) (by omega)).trans ((fs x j (by omega)).trans (af x j (by omega)))))
        have t46 : mt 41 46 = S 0 6 := (gg 41 46 (by omega) (by omega)).trans c46
        have t27 := gg 41 27 (by omega) (by omega)
        refine And.intro (rfl) ?_
        refine And.intro (fun _ => ?_) (fun h => absurd h (by omega))
        refine And.intro (rfl) ?_
        refine And.intro (rfl) ?_
        refine And.intro (⟨rfl, by skip; omega⟩) ?_
        refine And.intro (rfl) ?_
        refine And.intro (rfl) ?_
        refine And.intro (⟨rfl, by first | omega | (simp only [mS_iff, eq_self, Int.reduceEq, true_and, and_true, false_and, and_false, and_self, ↓reduceIte]; omega)⟩) ?_
        refine And.intro (rfl) ?_
        refine And.intro (show -2147483648 ≤ (mt 41 46) + 1 ∧ (mt 41 46) + 1 ≤ 2147483647 by first | omega | (simp only [mS_iff, eq_self, Int.reduceEq, true_and, and_true, false_and, and_false, and_self, ↓reduceIte]; omega) | (simp only [mS_iff, eq_self, Int.reduceEq, true_and, and_true, false_and, and_false, and_self, ↓reduceIte] at *; omega)) ?_
        refine And.intro (rfl) ?_
        refine And.intro (rfl) ?_
        refine And.intro (show -2147483648 ≤ ((mt 41 46) + 1) - 1 ∧ ((mt 41 46) + 1) - 1 ≤ 2147483647 by first | omega | (simp only [mS_iff, eq_self, Int.reduceEq, true_and, and_true, false_and, and_false, and_self, ↓reduceIte]; omega) | (simp only [mS_iff, eq_self, Int.reduceEq, true_and, and_true, false_and, and_false, and_self, ↓reduceIte] at *; omega)) ?_
        have e0 := c_clz_o (S := S) (F := F) (by omega) er kq
        have w17 := (hx3.2.2.2.2.2.2.1 rfl).2.1
        have ND : mNd ((mS (mS (mS mt 69 (mt 41 46) r) 70 (mt 41 46) (ms 41 14)) 41 46 ((mt 41 46) + 1))) (60 * S 0 6) (60 * S 0 6 + k1) (((mS (mS (mS mt 69 (mt 41 46) r) 70 (mt 41 46) (ms 41 14)) 41 46 ((mt 41 46) + 1))) 69 (S 0 6)) g k1 := by
          rw [show ((mS (mS (mS mt 69 (mt 41 46) r) 70 (mt 41 46) (ms 41 14)) 41 46 ((mt 41 46) + 1))) 69 (S 0 6) = r by rw [← t46]; simp only [mS_iff, eq_self, Int.reduceEq, true_and, and_true, false_and, and_false, and_self, ↓reduceIte]]
          exact (nd.cv (by omega) (by omega) (by omega)).keep (fun x j a b c z => by rw [mS_iff, if_neg (by omega), mS_iff, if_neg (by omega), mS_iff, if_neg (by omega)]; exact tf x j (by omega))
        have g70 : ((mS (mS (mS mt 69 (mt 41 46) r) 70 (mt 41 46) (ms 41 14)) 41 46 ((mt 41 46) + 1))) 70 (S 0 6) = A 0 := by
          rw [← t46]
          simp only [mS_iff, eq_self, Int.reduceEq, true_and, and_true, false_and, and_false, and_self, ↓reduceIte]
          exact s14
        have hz := hQ ((mS (mS (mS mt 69 (mt 41 46) r) 70 (mt 41 46) (ms 41 14)) 41 46 ((mt 41 46) + 1))) (by rw [e0]; exact ⟨h.cn (by omega) (fun x j u v => by rw [mS_iff, if_neg (by omega), mS_iff, if_neg (by omega), mS_iff, if_neg (by omega)]; exact gg x j (by omega) (by omega)) (by simp only [mS_iff, eq_self, Int.reduceEq, true_and, and_true, false_and, and_false, and_self, ↓reduceIte]; omega) (by rw [mS_iff, if_neg (by omega), mS_iff, if_neg (by omega), mS_iff, if_neg (by omega)]; exact t3) (by rw [mS_iff, if_neg (by omega), mS_iff, if_neg (by omega), mS_iff, if_neg (by omega)]; exact (tf 41 17 (by omega)).trans w17) g70 (by omega) (by omega) ND, by rw [mS_iff, if_neg (by omega), mS_iff, if_neg (by omega), mS_iff, if_neg (by omega)]; omega, by rw [mS_iff, if_neg (by omega), mS_iff, if_neg (by omega), mS_iff, if_neg (by omega)]; omega⟩) (fun x j u => by rw [mS_iff, if_neg (by omega), mS_iff, if_neg (by omega), mS_iff, if_neg (by omega)]; exact gg x j (by omega) (by omega))
        rw [e0] at hz
        show Q (.inl (some (aI (((mt 41 46) + 1) - 1)))) ((mS (mS (mS mt 69 (mt 41 46) r) 70 (mt 41 46) (ms 41 14)) 41 46 ((mt 41 46) + 1)))
        rw [show (((mt 41 46) + 1) - 1) = S 0 6 by omega]
        exact hz
      · refine And.intro (rfl) ?_
        refine ct_201 (by omega) hx3 (by omega) (fun mf ft hy => ?_)
        have hy : mTx mf (S 0 0) K A V E N q1 (x_wr (K q1)) (A q1) := by unfold x_wr; rw [if_pos rfl, if_pos rfl] at hy; exact hy
        have kq : K q1 ≠ 71 := by omega
        have nz : x_wr (K q1) ≠ 0 := by unfold x_wr; omega
        have w16 := (hy.2.2.2.2.2.2.2 nz).1
        have w17 := (hy.2.2.2.2.2.2.2 nz).2.1
        have w18 := (hy.2.2.2.2.2.2.2 nz).2.2
        have Ab := (hT.2.2.2 q1 hy.2.2.2.1.1 hy.2.2.2.1.2).2.1
        skip
        skip
        refine And.intro (rfl) ?_
        obtain ⟨mt, et⟩ : ∃ z, z = (mS mf 41 3 0) := ⟨_, rfl⟩
        rw [← et]
        have tf : ∀ x j, (x ≠ 41 ∨ j ≠ 3) → mt x j = mf x j := fun x j u => by rw [et, mS_iff, if_neg (by omega)]
        have t3 : mt 41 3 = 0 := by rw [et, mS_iff, if_pos ⟨rfl, rfl⟩]
        have t16 := tf 41 16 (by omega)
        have t18 := tf 41 18 (by omega)
        have gg : ∀ x j, (x ≠ 41 ∨ ((j < 12 ∨ 18 < j) ∧ j ≠ 3 ∧ j ≠ 53 ∧ j ≠ 54 ∧ j ≠ 55 ∧ j ≠ 56)) → (x < 71 ∨ 74 < x ∨ j < 60 * S 0 6) → mt x j = m x j := fun x j u v => (tf x j (by omega)).trans ((ft x j (by omega)).trans ((fg.2 x j (by omega) (by omega)).trans ((fs x j (by omega)).trans (af x j (by omega)))))
        have t46 : mt 41 46 = S 0 6 := (gg 41 46 (by omega) (by omega)).trans c46
        have t27 := gg 41 27 (by omega) (by omega)
        refine And.intro (rfl) ?_
        refine And.intro (fun h => absurd h (by omega)) (fun _ => ?_)
        refine And.intro (rfl) ?_
        refine And.intro (show -2147483648 ≤ (-10) - (mt 41 18) ∧ (-10) - (mt 41 18) ≤ 2147483647 by first | omega | (simp only [mS_iff, eq_self, Int.reduceEq, true_and, and_true, false_and, and_false, and_self, ↓reduceIte]; omega) | (simp only [mS_iff, eq_self, Int.reduceEq, true_and, and_true, false_and, and_false, and_self, ↓reduceIte] at *; omega)) ?_
        have e0 := c_clz_w (S := S) (F := F) (by omega) er kq
        have hz := hQ mt (by rw [e0]; exact ⟨h.ce gg t3 ((tf 41 17 (by omega)).trans w17), by omega, by omega⟩) (fun x j u => gg x j (by omega) (by omega))
        rw [e0] at hz
        show Q (.inl (some (aI (-10 - mt 41 18)))) mt
        rw [show mt 41 18 = (A q1) by omega]
        exact hz
  · refine And.intro (rfl) ?_
    have e0 := c_clz_5 (K := K) (A := A) (V := V) (S := S) (F := F) (by omega)
    have hz := hQ ((mS m 41 3 0)) (by rw [e0]; exact ⟨h.t (c := S 0 2) (S' := mS S 0 0 0) (fun x j u v => by rw [mS_iff, if_neg (by omega)]) (by rw [mS_iff, if_pos ⟨rfl, rfl⟩]) (by rw [mS_iff, if_neg (by omega)]; exact n5) (fun j a b => by rw [mS_iff, if_neg (by omega)]) (by rw [mS_iff, if_pos ⟨rfl, rfl⟩]) (by rw [mS_iff, if_neg (by omega)]) (fun x a => funext fun j => by rw [mS_iff, if_neg (by omega)]), by rw [mS_iff, if_neg (by omega)]; omega, by rw [mS_iff, if_neg (by omega)]; omega⟩) (fun x j u => by rw [mS_iff, if_neg (by omega)])
    rw [e0] at hz
    exact hz
