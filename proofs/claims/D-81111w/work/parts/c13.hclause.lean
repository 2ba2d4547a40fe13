/-! needs: c11 c12p -/
/-! CALLS: clause, house; by tools/genc13.py -/
set_option maxRecDepth 100000
set_option maxHeartbeats 8000000
theorem ct_159e {d : Nat} {m : aM} {Q : aO → aM → Prop} {K A V : Int → Int} {N q f p : Int} (hd : 5 ≤ d) (hT : xT K A V N) (hx : hTx m K A V N q f p) (hQf : f ≠ 0 → Q (.inl none) m) (hQ1 : f = 0 → K q = 71 → ∀ m', fr_t m m' → m' 13 6 = 0 → Q (.inl none) m') (hQ0 : f = 0 → K q ≠ 71 → ∀ m', fr_t m m' → hTx m' K A V N q (x_wr (K q)) (A q) → Q (.inl none) m') : am_wpc am_G am_T d 159 [aR 13, aI 71] m Q := by
  have hq := hx.2.1
  have hb := hx.2.2.1
  have hN := hT.1
  have hf := hx.2.2.2.1
  have hf2 := hx.2.2.2.2.1
  have k1 : m 15 (m 13 5) = K q := by rw [hq]; exact (hx.1 _ hb.1 hb.2).1
  refine am_in rfl hd (fun d hd => ?_)
  refine am_go 400 [] (am_wpc_cm _ _ _) wf_159 ?_
  refine And.intro (rfl) ?_
  refine am_in (k := 2) rfl (by omega) (fun d hd => ?_)
  refine am_go 400 [] (am_wpc_cm _ _ _) wf_154 ?_
  refine And.intro (rfl) ?_
  refine And.intro (fun h1 => ?_) (fun h1 => ?_)
  · refine And.intro (rfl) ?_
    refine And.intro (rfl) ?_
    refine And.intro (⟨rfl, by first | omega | (simp only [mS_iff, eq_self, Int.reduceEq, true_and, and_true, false_and, and_false, and_self, ↓reduceIte]; omega) | (simp only [mS_iff, eq_self, Int.reduceEq, true_and, and_true, false_and, and_false, and_self, ↓reduceIte] at *; omega)⟩) ?_
    refine And.intro (fun h2 => ?_) (fun h2 => ?_)
    · refine And.intro (rfl) ?_
      refine ct_155 (by omega) hT hx (fun mq ft hy => ?_)
      rw [if_pos (show f = 0 by omega), if_pos (show f = 0 by omega)] at hy
      exact hQ0 (by omega) (by omega) _ ft hy
    · refine And.intro (rfl) ?_
      refine And.intro (rfl) ?_
      refine And.intro (⟨rfl, by first | omega | (simp only [mS_iff, eq_self, Int.reduceEq, true_and, and_true, false_and, and_false, and_self, ↓reduceIte]; omega) | (simp only [mS_iff, eq_self, Int.reduceEq, true_and, and_true, false_and, and_false, and_self, ↓reduceIte] at *; omega)⟩) ?_
      refine And.intro (show -2147483648 ≤ 71 + 1 ∧ 71 + 1 ≤ 2147483647 by first | omega | (simp only [mS_iff, eq_self, Int.reduceEq, true_and, and_true, false_and, and_false, and_self, ↓reduceIte]; omega) | (simp only [mS_iff, eq_self, Int.reduceEq, true_and, and_true, false_and, and_false, and_self, ↓reduceIte] at *; omega)) ?_
      refine And.intro (fun h3 => ?_) (fun h3 => ?_)
      · refine And.intro (rfl) ?_
        refine And.intro (show -2147483648 ≤ (m 13 5) + 1 ∧ (m 13 5) + 1 ≤ 2147483647 by first | omega | (simp only [mS_iff, eq_self, Int.reduceEq, true_and, and_true, false_and, and_false, and_self, ↓reduceIte]; omega) | (simp only [mS_iff, eq_self, Int.reduceEq, true_and, and_true, false_and, and_false, and_self, ↓reduceIte] at *; omega)) ?_
        refine And.intro (rfl) ?_
        have ek : m 15 (m 13 5 + 1 - 1) = K q := by rw [show m 13 5 + 1 - 1 = m 13 5 by omega]; exact k1
        refine And.intro (rfl) ?_
        refine And.intro (rfl) ?_
        refine And.intro (show -2147483648 ≤ ((m 13 5) + 1) - 1 ∧ ((m 13 5) + 1) - 1 ≤ 2147483647 by first | omega | (simp only [mS_iff, eq_self, Int.reduceEq, true_and, and_true, false_and, and_false, and_self, ↓reduceIte]; omega) | (simp only [mS_iff, eq_self, Int.reduceEq, true_and, and_true, false_and, and_false, and_self, ↓reduceIte] at *; omega)) ?_
        refine And.intro (⟨rfl, by simp only [mS_iff, eq_self, Int.reduceEq, true_and, and_true, false_and, and_false, and_self, ↓reduceIte]; omega⟩) ?_
        refine And.intro (show -2147483648 ≤ (m 15 (((m 13 5) + 1) - 1)) - 71 ∧ (m 15 (((m 13 5) + 1) - 1)) - 71 ≤ 2147483647 by first | omega | (simp only [mS_iff, eq_self, Int.reduceEq, true_and, and_true, false_and, and_false, and_self, ↓reduceIte]; omega) | (simp only [mS_iff, eq_self, Int.reduceEq, true_and, and_true, false_and, and_false, and_self, ↓reduceIte] at *; omega)) ?_
        exact hQ1 (by omega) (by omega) _ (fun x j u => by rw [mS_iff, if_neg (by omega)]) (by rw [mS_iff, if_neg (by omega)]; omega)
      · refine And.intro (rfl) ?_
        refine ct_155 (by omega) hT hx (fun mq ft hy => ?_)
        rw [if_pos (show f = 0 by omega), if_pos (show f = 0 by omega)] at hy
        exact hQ0 (by omega) (by omega) _ ft hy
  · exact hQf (by omega)
/-- a clause more -/
def sCn (S : aM) (a : Int) : aM := fun x j => if x = 0 ∧ j = 0 then 0 else if x = 0 ∧ j = 2 then 0 else if x = 0 ∧ j = 6 then S 0 6 + 1 else if x = 20 ∧ j = S 0 6 then a else S x j
def fCn (S : aM) (F : Int → aD) (f : aD) : Int → aD := fun i => if i = S 0 6 then f else F i
noncomputable def c_clz (K A V : Int → Int) (S : aM) (F : Int → aD) : Int × aM × (Int → aD) := if S 0 6 = 20 then (-5, mS S 0 0 0, F) else match c_x K A V 24030 0 0 0 0 (d_num 0) with
  | .inl (c, q) => (-10 - q, sTk S c, F)
  | .inr (q, _, f) => if K q = 71 then (S 0 6, sCn S (A 0), fCn S F f) else (-10 - A q, sTk S (x_wr (K q)), F)
theorem c_clz_5 {K A V : Int → Int} {S : aM} {F : Int → aD} (h : S 0 6 = 20) : c_clz K A V S F = (-5, mS S 0 0 0, F) := if_pos h
theorem c_clz_e {K A V : Int → Int} {S : aM} {F : Int → aD} {c q : Int} (h : S 0 6 ≠ 20) (e : c_x K A V 24030 0 0 0 0 (d_num 0) = .inl (c, q)) : c_clz K A V S F = (-10 - q, sTk S c, F) := by unfold c_clz; rw [if_neg h, e]
theorem c_clz_w {K A V : Int → Int} {S : aM} {F : Int → aD} {q k : Int} {f : aD} (h : S 0 6 ≠ 20) (e : c_x K A V 24030 0 0 0 0 (d_num 0) = .inr (q, k, f)) (w : K q ≠ 71) : c_clz K A V S F = (-10 - A q, sTk S (x_wr (K q)), F) := by unfold c_clz; rw [if_neg h, e]; exact if_neg w
theorem c_clz_o {K A V : Int → Int} {S : aM} {F : Int → aD} {q k : Int} {f : aD} (h : S 0 6 ≠ 20) (e : c_x K A V 24030 0 0 0 0 (d_num 0) = .inr (q, k, f)) (w : K q = 71) : c_clz K A V S F = (S 0 6, sCn S (A 0), fCn S F f) := by unfold c_clz; rw [if_neg h, e]; exact if_pos w
theorem sCn_0 {S : aM} {a j : Int} (h : j ≠ 0 ∧ j ≠ 2 ∧ j ≠ 6) : sCn S a 0 j = S 0 j := by unfold sCn; rw [if_neg (by omega), if_neg (by omega), if_neg (by omega), if_neg (by omega)]
theorem sCn_00 {S : aM} {a : Int} : sCn S a 0 0 = 0 := by unfold sCn; rw [if_pos ⟨rfl, rfl⟩]
theorem sCn_02 {S : aM} {a : Int} : sCn S a 0 2 = 0 := by unfold sCn; rw [if_neg (by omega), if_pos ⟨rfl, rfl⟩]
theorem sCn_06 {S : aM} {a : Int} : sCn S a 0 6 = S 0 6 + 1 := by unfold sCn; rw [if_neg (by omega), if_neg (by omega), if_pos ⟨rfl, rfl⟩]
theorem sCn_r {S : aM} {a x : Int} (h : x ≠ 0) (g : x ≠ 20) : sCn S a x = S x := funext fun j => by unfold sCn; rw [if_neg (by omega), if_neg (by omega), if_neg (by omega), if_neg (by omega)]
theorem sCn_n {S : aM} {a : Int} : sCn S a 20 (S 0 6) = a := by unfold sCn; rw [if_neg (by omega), if_neg (by omega), if_neg (by omega), if_pos ⟨rfl, rfl⟩]
theorem sCn_o {S : aM} {a j : Int} (h : j ≠ S 0 6) : sCn S a 20 j = S 20 j := by unfold sCn; rw [if_neg (by omega), if_neg (by omega), if_neg (by omega), if_neg (by omega)]
def hNc (m m' : aM) (n r a : Int) : Prop := (m 0 0 ≤ m' 0 0 ∧ m' 0 0 ≤ m 0 0 + 60) ∧ (m 0 1 ≤ m' 0 1 ∧ m' 0 1 ≤ m 0 1 + 900) ∧ (∀ j, j ≠ 0 → j ≠ 1 → m' 0 j = m 0 j) ∧ (∀ x j, x ≠ 0 → x ≤ m 0 0 → (x < 13 ∨ 17 < x ∨ j < 0) → ((x ≠ 27 ∧ x ≠ 28) ∨ j ≠ n) → (x ≠ 1 ∨ (j ≠ 17 ∧ j ≠ 18 ∧ j ≠ 34 ∧ j ≠ 37)) → m' x j = m x j) ∧ m' 27 n = r ∧ m' 28 n = a ∧ m' 1 37 = n + 1 ∧ m' 1 17 = 0 ∧ m' 1 18 = 0
theorem hI.cn {S : aM} {F : Int → aD} {lo hi cl ch : Int → Int} {m m' : aM} {r a p : Int} {f : aD} (h : hI S F lo hi cl ch m) (h5 : S 0 6 ≠ 20) (g : hNc m m' (S 0 6) r a) (hp : p ≤ 24) (hA : hNd m' (m 0 0 + 1) (m' 0 0) r f p) : hI (sCn S a) (fCn S F f) lo hi (fun i => if i = S 0 6 then m 0 0 + 1 else cl i) (fun i => if i = S 0 6 then m' 0 0 else ch i) m' := by
  obtain ⟨i1, i2, i3, i4, i5, i6, i7, i8, i9, ia, ib, ic, id⟩ := h
  obtain ⟨g1, g2, g3, g4, g5, g6, g7, g8, g9⟩ := g
  have E : ∀ x, x ≠ 0 → x ≤ m 0 0 → (x < 13 ∨ 17 < x) → x ≠ 27 → x ≠ 28 → x ≠ 1 → m' x = m x := fun x a b c d e f => funext fun j => g4 x j a b (by omega) (by omega) (by omega)
  have e1 : ∀ j, j ≠ 17 → j ≠ 18 → j ≠ 34 → j ≠ 37 → m' 1 j = m 1 j := fun j u v y z => g4 1 j (by omega) (by omega) (by omega) (by omega) (by omega)
  have K : hK m m' := ⟨by omega, fun r a b c => by rw [E r (by omega) (by omega) (by omega) (by omega) (by omega) (by omega)]; exact ⟨rfl, fun _ => rfl⟩⟩
  have SR : ∀ x, x ≠ 0 → x ≠ 20 → sCn S a x = S x := fun x a b => sCn_r a b
  have S0 : ∀ j, (j ≠ 0 ∧ j ≠ 2 ∧ j ≠ 6) → sCn S a 0 j = S 0 j := fun j u => sCn_0 u
  refine ⟨by omega, by rw [g3 2 (by omega) (by omega), g3 3 (by omega) (by omega)]; exact i2, ?_, (i4.keep K (e1 20 (by omega) (by omega) (by omega) (by omega)) (E 19 (by omega) (by omega) (by omega) (by omega) (by omega) (by omega))).cg (S0 3 (by omega)) (fun x a => SR x (by omega) (by omega)), (i5.keep (e1 29 (by omega) (by omega) (by omega) (by omega)) (fun x q => E x (by omega) (by omega) (by omega) (by omega) (by omega) (by omega))).cg (S0 5 (by omega)) (S0 3 (by omega)) (fun x a b => SR x (by omega) (by omega)), (i6.K K (e1 22 (by omega) (by omega) (by omega) (by omega)) (E 20 (by omega) (by omega) (by omega) (by omega) (by omega) (by omega))).cg (S0 4 (by omega)) (S0 3 (by omega)) (fun x a b => SR x (by omega) (by omega)), ?_, ?_, ?_, ?_, ?_, by rw [S0 3 (by omega)]; exact ic, ?_⟩
  · obtain ⟨n1, n2, n3, n4, n5, n6, n7, n8, n9⟩ := i3
    unfold hNm
    rw [g8, g9, sCn_00, sCn_02, e1 3 (by omega) (by omega) (by omega) (by omega), e1 38 (by omega) (by omega) (by omega) (by omega), e1 41 (by omega) (by omega) (by omega) (by omega), e1 46 (by omega) (by omega) (by omega) (by omega), e1 39 (by omega) (by omega) (by omega) (by omega), E 4 (by omega) (by omega) (by omega) (by omega) (by omega) (by omega), S0 1 (by omega), S0 7 (by omega), S0 8 (by omega), S0 9 (by omega), SR 2 (by omega) (by omega)]
    exact ⟨rfl, fun i a b => by omega, n3, n4, rfl, n6, n7, n8, n9⟩
  · obtain ⟨a1, a2, a3⟩ := i7
    unfold hCs
    rw [sCn_06]
    refine ⟨by omega, g7, fun i u v => ?_⟩
    unfold fCn
    dsimp only
    by_cases k : i = S 0 6
    · subst k
      rw [if_pos rfl, if_pos rfl, if_pos rfl, g5, g6, sCn_n]
      exact ⟨⟨by omega, by omega⟩, ⟨p, hp, hA⟩, rfl⟩
    · rw [if_neg k, if_neg k, if_neg k, sCn_o k, g4 27 i (by omega) (by omega) (by omega) (by omega) (by omega), g4 28 i (by omega) (by omega) (by omega) (by omega) (by omega)]
      obtain ⟨c1, ⟨q, c2, c3⟩, c4⟩ := a3 i u (by omega)
      exact ⟨⟨c1.1, by omega⟩, ⟨q, c2, c3.keep (fun r x y => K.2 r (by omega) (by omega) (by omega))⟩, c4⟩
  · intro i j u v x y
    rw [sCn_06] at v
    rw [S0 3 (by omega)] at y
    dsimp only
    by_cases k : i = S 0 6
    · rw [if_pos k, if_pos k]
      have := (i4.2.2.1 j x y).1
      omega
    · rw [if_neg k, if_neg k]
      exact i8 i j u (by omega) x y
  · unfold hDn hDr
    rw [S0 3 (by omega), e1 13 (by omega) (by omega) (by omega) (by omega), E 19 (by omega) (by omega) (by omega) (by omega) (by omega) (by omega), E 6 (by omega) (by omega) (by omega) (by omega) (by omega) (by omega), E 10 (by omega) (by omega) (by omega) (by omega) (by omega) (by omega)]
    exact ⟨by have := i9.1; omega, fun i a b c => by rw [SR (100 + i) (by omega) (by omega)]; exact i9.2 i a b c⟩
  · unfold hTk
    rw [E 9 (by omega) (by omega) (by omega) (by omega) (by omega) (by omega), e1 14 (by omega) (by omega) (by omega) (by omega)]
    exact ia
  · unfold hOn hWd hCst
    rw [E 26 (by omega) (by omega) (by omega) (by omega) (by omega) (by omega), E 3 (by omega) (by omega) (by omega) (by omega) (by omega) (by omega), g4 14 (-1) (by omega) (by omega) (by omega) (by omega) (by omega), g4 14 (-2) (by omega) (by omega) (by omega) (by omega) (by omega), E 18 (by omega) (by omega) (by omega) (by omega) (by omega) (by omega), E 2 (by omega) (by omega) (by omega) (by omega) (by omega) (by omega), E (-4) (by omega) (by omega) (by omega) (by omega) (by omega) (by omega)]
    exact ⟨⟨fun r q => (E r (by omega) (by omega) (by omega) (by omega) (by omega) (by omega)).trans (ib.1.1 r q), ib.1.2⟩, ib.2⟩
  · intro q u v
    rw [S0 4 (by omega)] at v
    rw [S0 3 (by omega), sCn_06, E 20 (by omega) (by omega) (by omega) (by omega) (by omega) (by omega)]
    refine ⟨(id q u v).1, fun i x y => ?_⟩
    dsimp only
    by_cases k : i = S 0 6
    · rw [if_pos k, if_pos k]
      have := (i6.2.2.1 q u v).1
      omega
    · rw [if_neg k, if_neg k]
      exact (id q u v).2 i x (by omega)
theorem fr_Cl.H {m m' : aM} (h : fr_Cl m m') (h0 : 77 ≤ m 0 0) (hk : m' 1 34 - m 1 34 ≤ 25) : hFr 50 m m' := by
  obtain ⟨h1, h2, h3, h4⟩ := h
  exact ⟨by omega, by omega, h4, ⟨h1.1, fun r a b c => ⟨h3 r (-1) (by omega) c (by omega) (by omega), fun _ => funext fun j => h3 r j (by omega) c (by omega) (by omega)⟩⟩, fun x j a b c => h3 x j a (by omega) (by unfold hKpt at c; omega) (by unfold hKpt at c; omega)⟩
theorem hs_122 {d : Nat} {m : aM} {Q : aO → aM → Prop} {S : aM} {F : Int → aD} {lo hi cl ch : Int → Int} {k : Int} (hd : 120 ≤ d) (hk : 0 ≤ k) (hz0 : hZ (k + 1) S F lo hi cl ch m) (si : sI S F) (hQ : ∀ K A V E N m' cl' ch', x_lx (S 1) (S 0 0) K A V E N → N ≤ 1201 → hZ k (c_clz K A V S F).2.1 (c_clz K A V S F).2.2 lo hi cl' ch' m' → (∀ x j, 29 ≤ x → x ≤ 76 → m' x j = m x j) → Q (.inl (some (aI (c_clz K A V S F).1))) m') : am_wpc am_G am_T d 122 [aR 1] m Q := by
  have h := hz0.1
  have hr := hz0.2
  have fr := hFr.rfl m
  obtain ⟨r1, r2, r3, r4, r5⟩ := id hr
  have hS := h.2.2.2.1
  have h0 := h.1
  have s1 := hS.1
  have c37 := h.2.2.2.2.2.2.1.2.1
  have c20 := h.2.2.2.2.2.2.1.1
  obtain ⟨dk, hdk⟩ : ∃ k, d = k + 1 := ⟨d - 1, by omega⟩
  refine am_in (k := dk) rfl (by omega) (fun d hd => ?_)
  refine am_go 400 [] (am_wpc_cm _ _ _) wf_122 ?_
  refine And.intro (rfl) ?_
  refine ct_44 (by omega) h si (fun mk E N fk lx nb hx k17 hk2 => ?_)
  have k37 : mk 1 37 = S 0 6 := by rw [fk 1 37 (by omega) (by omega)]; exact c37
  have k00 := fk 0 0 (by omega) (by omega)
  have k01 := fk 0 1 (by omega) (by omega)
  have k14 := fk 1 14 (by omega) (by omega)
  have hT := lx.T si.1 nb
  have hN := hT.1
  refine And.intro (rfl) ?_
  refine And.intro (fun h1 => ?_) (fun h1 => ?_)
  · refine And.intro (rfl) ?_
    obtain ⟨ms, es⟩ : ∃ z, z = (mS mk 1 34 0) := ⟨_, rfl⟩
    rw [← es]
    have sf : ∀ x j, (x ≠ 1 ∨ j ≠ 34) → ms x j = mk x j := fun x j u => by rw [es, mS_iff, if_neg (by omega)]
    have s34 : ms 1 34 = 0 := by rw [es, mS_iff, if_pos ⟨rfl, rfl⟩]
    have s00 := sf 0 0 (by omega)
    have s01 := sf 0 1 (by omega)
    have hx2 : hTx ms (mk 15) (mk 16) (mk 17) N 0 0 0 := hx.keep (fun x j a b => sf x j (by omega))
    have fs : hFr 0 mk ms := hFr.of (fun r j => r ≠ 1 ∨ j ≠ 34) (fun x j p => sf x j p) (fun j => by omega) (fun x j a b => by omega) (fun x j a b c => by unfold hKpt at c; omega)
    refine And.intro (rfl) ?_
    refine (hc_all hT 24030).1 _ _ _ 0 _ _ _ (d_num 0) (by omega) hx2 (by omega) (by omega) (fun _ => by omega) (by omega) (fun z => absurd rfl z) (fun _ c pl er m1 r q1 fc c25 hx3 nz ql => ?_) (fun _ q1 k1 g er m1 r fc e34 kb ql hx3 nd => ?_)
    · rw [s34] at er
      have pb := c_x_b hT (by omega) er
      have cn := fc.1
      have cs := fc.2.1
      refine And.intro (rfl) ?_
      refine And.intro (rfl) ?_
      refine ct_159e (by omega) hT hx3 (fun _ => ?_) (fun z => absurd z nz) (fun z => absurd z nz)
      refine And.intro (rfl) ?_
      refine And.intro (rfl) ?_
      refine And.intro (fun h => absurd h (by first | omega | (have := hx3.2.2.2.1; have := hx3.2.2.2.2.1; omega))) (fun _ => ?_)
      refine And.intro (rfl) ?_
      refine am_in (k := 0) rfl (by omega) (fun d hd => ?_)
      refine am_go 400 [] (am_wpc_cm _ _ _) wf_55 ?_
      have h7 : m1 13 7 = pl := hx3.2.2.2.2.2 nz
      refine And.intro (rfl) ?_
      refine And.intro (rfl) ?_
      refine And.intro (rfl) ?_
      refine And.intro (rfl) ?_
      refine And.intro (rfl) ?_
      refine And.intro (show -2147483648 ≤ (-10) - (m1 13 7) ∧ (-10) - (m1 13 7) ≤ 2147483647 by first | omega | (simp only [mS_iff, eq_self, Int.reduceEq, true_and, and_true, false_and, and_false, and_self, ↓reduceIte]; omega) | (simp only [mS_iff, eq_self, Int.reduceEq, true_and, and_true, false_and, and_false, and_self, ↓reduceIte] at *; omega)) ?_
      have h6 : m1 13 6 = c := hx3.2.2.2.1
      have h7 : m1 13 7 = pl := hx3.2.2.2.2.2 nz
      have fx := (fs.trans (fc.H (by omega) (by omega)))
      have z00 := fx.1
      have z01 := fx.2.1
      have z14 := fx.2.2.2.2 1 14 (by omega) (by omega) (by unfold hKpt; omega)
      have e0 := c_clz_e (S := S) (F := F) (by omega) er
      have hi2 := (hk2.fr fx).f (c := c)
      have MM : mS m1 1 18 c = mS m1 1 18 (m1 13 6) := by rw [h6]
      have hz := hQ (mk 15) (mk 16) (mk 17) E N (mS m1 1 18 c) cl ch lx nb (by rw [e0]; exact ⟨hi2, by rw [mS_iff, if_neg (by omega)]; omega, by rw [mS_iff, if_neg (by omega)]; omega, by rw [mS_iff, if_neg (by omega)]; omega, by rw [mS_iff, if_neg (by omega)]; omega, by rw [mS_iff, if_neg (by omega)]; omega⟩) (fun x j u v => by rw [mS_iff, if_neg (by omega)]; exact (fc.2.2.1 x j (by omega) (by omega) (by omega) (by omega)).trans ((sf x j (by omega)).trans (fk x j (by omega) (by omega))))
      rw [e0] at hz
      show Q (.inl (some (aI (-10 - m1 13 7)))) (mS m1 1 18 (m1 13 6))
      rw [← MM, h7]
      exact hz
    · rw [s34] at er nd
      have cn := fc.1
      have cs := fc.2.1
      refine And.intro (rfl) ?_
      refine And.intro (rfl) ?_
      refine ct_159e (by omega) hT hx3 (fun z => absurd rfl z) (fun _ kq m2 ft e6 => ?_) (fun _ kq m2 ft hx4 => ?_)
      · have t00 := ft 0 0 (by omega)
        have t01 := ft 0 1 (by omega)
        have t37 : m2 1 37 = S 0 6 := by rw [ft 1 37 (by omega), fc.2.2.1 1 37 (by omega) (by omega) (by omega) (by omega), sf 1 37 (by omega)]; exact k37
        have t34 := ft 1 34 (by omega)
        refine And.intro (rfl) ?_
        refine And.intro (rfl) ?_
        refine And.intro (fun _ => ?_) (fun h => absurd h (by first | omega | (have := hx4.2.2.2.1; have := hx4.2.2.2.2.1; omega)))
        refine And.intro (rfl) ?_
        refine And.intro (rfl) ?_
        refine And.intro (rfl) ?_
        refine And.intro (⟨rfl, by first | omega | (simp only [mS_iff, eq_self, Int.reduceEq, true_and, and_true, false_and, and_false, and_self, ↓reduceIte]; omega), by first | omega | (simp only [mS_iff, eq_self, Int.reduceEq, true_and, and_true, false_and, and_false, and_self, ↓reduceIte]; omega), Or.inr ⟨by have := nd.1; omega, by simp only [mS_iff, eq_self, Int.reduceEq, true_and, and_true, false_and, and_false, and_self, ↓reduceIte]; rw [ft r _ (by have := nd.1; omega)]; exact nd.2.1⟩⟩) ?_
        refine And.intro (rfl) ?_
        refine And.intro (rfl) ?_
        refine And.intro (rfl) ?_
        refine And.intro (rfl) ?_
        refine And.intro (⟨rfl, by first | omega | (simp only [mS_iff, eq_self, Int.reduceEq, true_and, and_true, false_and, and_false, and_self, ↓reduceIte]; omega) | (simp only [mS_iff, eq_self, Int.reduceEq, true_and, and_true, false_and, and_false, and_self, ↓reduceIte] at *; omega)⟩) ?_
        refine And.intro (⟨rfl, by first | omega | (simp only [mS_iff, eq_self, Int.reduceEq, true_and, and_true, false_and, and_false, and_self, ↓reduceIte]; omega) | (simp only [mS_iff, eq_self, Int.reduceEq, true_and, and_true, false_and, and_false, and_self, ↓reduceIte] at *; omega)⟩) ?_
        refine And.intro (rfl) ?_
        refine And.intro (show -2147483648 ≤ (m2 1 37) + 1 ∧ (m2 1 37) + 1 ≤ 2147483647 by first | omega | (simp only [mS_iff, eq_self, Int.reduceEq, true_and, and_true, false_and, and_false, and_self, ↓reduceIte]; omega) | (simp only [mS_iff, eq_self, Int.reduceEq, true_and, and_true, false_and, and_false, and_self, ↓reduceIte] at *; omega)) ?_
        refine And.intro (rfl) ?_
        refine And.intro (rfl) ?_
        refine And.intro (show -2147483648 ≤ ((m2 1 37) + 1) - 1 ∧ ((m2 1 37) + 1) - 1 ≤ 2147483647 by first | omega | (simp only [mS_iff, eq_self, Int.reduceEq, true_and, and_true, false_and, and_false, and_self, ↓reduceIte]; omega) | (simp only [mS_iff, eq_self, Int.reduceEq, true_and, and_true, false_and, and_false, and_self, ↓reduceIte] at *; omega)) ?_
        have e0 := c_clz_o (S := S) (F := F) (by omega) er kq
        have ff : ∀ x j, x ≠ 0 → x ≤ m 0 0 → (x < 13 ∨ 17 < x ∨ j < 0) → (x ≠ 1 ∨ (j ≠ 17 ∧ j ≠ 34)) → m2 x j = m x j := fun x j a b c d => (ft x j (by omega)).trans ((fc.2.2.1 x j a (by omega) (by omega) (by omega)).trans ((sf x j (by omega)).trans (fk x j (by omega) (by omega))))
        have a16 : m2 16 0 = mk 16 0 := (ft 16 0 (by omega)).trans ((fc.2.2.1 16 0 (by omega) (by omega) (by omega) (by omega)).trans (sf 16 0 (by omega)))
        have z17 : m2 1 17 = 0 := (ft 1 17 (by omega)).trans ((fc.2.2.1 1 17 (by omega) (by omega) (by omega) (by omega)).trans ((sf 1 17 (by omega)).trans k17))
        have NC : hNc m ((mS (mS (mS (mS m2 1 18 0) 27 (m2 1 37) r) 28 (m2 1 37) (m2 16 0)) 1 37 ((m2 1 37) + 1))) (S 0 6) r (mk 16 0) := by
          refine ⟨by rw [mS_iff, if_neg (by omega), mS_iff, if_neg (by omega), mS_iff, if_neg (by omega), mS_iff, if_neg (by omega)]; omega, by rw [mS_iff, if_neg (by omega), mS_iff, if_neg (by omega), mS_iff, if_neg (by omega), mS_iff, if_neg (by omega)]; omega, fun j u v => by rw [mS_iff, if_neg (by omega), mS_iff, if_neg (by omega), mS_iff, if_neg (by omega), mS_iff, if_neg (by omega)]; exact (ft 0 j (by omega)).trans ((fc.2.2.2 j u v).trans ((sf 0 j (by omega)).trans (fk 0 j (by omega) (by omega)))), fun x j u v a b c => by rw [mS_iff, if_neg (by omega), mS_iff, if_neg (by omega), mS_iff, if_neg (by omega), mS_iff, if_neg (by omega)]; exact ff x j u v a (by omega), ?_, ?_, ?_, ?_, ?_⟩
          · rw [← t37]
            simp only [mS_iff, eq_self, Int.reduceEq, true_and, and_true, false_and, and_false, and_self, ↓reduceIte]
          · rw [← t37, ← a16]
            simp only [mS_iff, eq_self, Int.reduceEq, true_and, and_true, false_and, and_false, and_self, ↓reduceIte]
          · simp only [mS_iff, eq_self, Int.reduceEq, true_and, and_true, false_and, and_false, and_self, ↓reduceIte]
            omega
          · rw [mS_iff, if_neg (by omega), mS_iff, if_neg (by omega), mS_iff, if_neg (by omega), mS_iff, if_neg (by omega)]
            exact z17
          · simp only [mS_iff, eq_self, Int.reduceEq, true_and, and_true, false_and, and_false, and_self, ↓reduceIte]
        have nd2 : hNd ((mS (mS (mS (mS m2 1 18 0) 27 (m2 1 37) r) 28 (m2 1 37) (m2 16 0)) 1 37 ((m2 1 37) + 1))) (m 0 0 + 1) (((mS (mS (mS (mS m2 1 18 0) 27 (m2 1 37) r) 28 (m2 1 37) (m2 16 0)) 1 37 ((m2 1 37) + 1))) 0 0) r g k1 := by
          have q := (nd.mv (b := (mS (mS (mS (mS m2 1 18 0) 27 (m2 1 37) r) 28 (m2 1 37) (m2 16 0)) 1 37 ((m2 1 37) + 1))) (fun y j u v => by rw [mS_iff, if_neg (by omega), mS_iff, if_neg (by omega), mS_iff, if_neg (by omega), mS_iff, if_neg (by omega)]; exact ft y j (by omega))).wd (p' := k1) (by omega)
          rw [show ((mS (mS (mS (mS m2 1 18 0) 27 (m2 1 37) r) 28 (m2 1 37) (m2 16 0)) 1 37 ((m2 1 37) + 1))) 0 0 = m1 0 0 by rw [mS_iff, if_neg (by omega), mS_iff, if_neg (by omega), mS_iff, if_neg (by omega), mS_iff, if_neg (by omega)]; omega, show m 0 0 = ms 0 0 by omega]
          exact q
        have hz := hQ (mk 15) (mk 16) (mk 17) E N ((mS (mS (mS (mS m2 1 18 0) 27 (m2 1 37) r) 28 (m2 1 37) (m2 16 0)) 1 37 ((m2 1 37) + 1))) _ _ lx nb (by rw [e0]; exact ⟨h.cn (by omega) NC (by omega) nd2, by have := NC.1; omega, by have := NC.2.1; omega, by have := NC.2.1; omega, by rw [NC.2.2.2.1 1 14 (by omega) (by omega) (by omega) (by omega) (by omega)]; omega, by rw [NC.2.2.2.1 1 14 (by omega) (by omega) (by omega) (by omega) (by omega)]; omega⟩) (fun x j u v => NC.2.2.2.1 x j (by omega) (by omega) (by omega) (by omega) (by omega))
        rw [e0] at hz
        show Q (.inl (some (aI (((m2 1 37) + 1) - 1)))) ((mS (mS (mS (mS m2 1 18 0) 27 (m2 1 37) r) 28 (m2 1 37) (m2 16 0)) 1 37 ((m2 1 37) + 1)))
        rw [show (((m2 1 37) + 1) - 1) = S 0 6 by omega]
        exact hz
      · have t00 := ft 0 0 (by omega)
        have t01 := ft 0 1 (by omega)
        have t34 := ft 1 34 (by omega)
        have nz : x_wr (mk 15 q1) ≠ 0 := by unfold x_wr; omega
        have Ab := (hT.2.2.2 q1 hx4.2.2.1.1 hx4.2.2.1.2).2.1
        refine And.intro (rfl) ?_
        refine And.intro (rfl) ?_
        refine And.intro (fun h => absurd h (by first | omega | (have := hx4.2.2.2.1; have := hx4.2.2.2.2.1; omega))) (fun _ => ?_)
        refine And.intro (rfl) ?_
        refine am_in (k := 0) rfl (by omega) (fun d hd => ?_)
        refine am_go 400 [] (am_wpc_cm _ _ _) wf_55 ?_
        have h7 : m2 13 7 = mk 16 q1 := hx4.2.2.2.2.2 nz
        refine And.intro (rfl) ?_
        refine And.intro (rfl) ?_
        refine And.intro (rfl) ?_
        refine And.intro (rfl) ?_
        refine And.intro (rfl) ?_
        refine And.intro (show -2147483648 ≤ (-10) - (m2 13 7) ∧ (-10) - (m2 13 7) ≤ 2147483647 by first | omega | (simp only [mS_iff, eq_self, Int.reduceEq, true_and, and_true, false_and, and_false, and_self, ↓reduceIte]; omega) | (simp only [mS_iff, eq_self, Int.reduceEq, true_and, and_true, false_and, and_false, and_self, ↓reduceIte] at *; omega)) ?_
        have h6 : m2 13 6 = (x_wr (mk 15 q1)) := hx4.2.2.2.1
        have h7 : m2 13 7 = (mk 16 q1) := hx4.2.2.2.2.2 nz
        have fx := ((fs.trans (fc.H (by omega) (by omega))).trans (ft.C.H (by omega) (by omega)))
        have z00 := fx.1
        have z01 := fx.2.1
        have z14 := fx.2.2.2.2 1 14 (by omega) (by omega) (by unfold hKpt; omega)
        have e0 := c_clz_w (S := S) (F := F) (by omega) er kq
        have hi2 := (hk2.fr fx).f (c := (x_wr (mk 15 q1)))
        have MM : mS m2 1 18 (x_wr (mk 15 q1)) = mS m2 1 18 (m2 13 6) := by rw [h6]
        have hz := hQ (mk 15) (mk 16) (mk 17) E N (mS m2 1 18 (x_wr (mk 15 q1))) cl ch lx nb (by rw [e0]; exact ⟨hi2, by rw [mS_iff, if_neg (by omega)]; omega, by rw [mS_iff, if_neg (by omega)]; omega, by rw [mS_iff, if_neg (by omega)]; omega, by rw [mS_iff, if_neg (by omega)]; omega, by rw [mS_iff, if_neg (by omega)]; omega⟩) (fun x j u v => by rw [mS_iff, if_neg (by omega)]; exact (ft x j (by omega)).trans <| (fc.2.2.1 x j (by omega) (by omega) (by omega) (by omega)).trans ((sf x j (by omega)).trans (fk x j (by omega) (by omega))))
        rw [e0] at hz
        show Q (.inl (some (aI (-10 - m2 13 7)))) (mS m2 1 18 (m2 13 6))
        rw [← MM, h7]
        exact hz
  · have e0 := c_clz_5 (K := mk 15) (A := mk 16) (V := mk 17) (S := S) (F := F) (by omega)
    have hz := hQ (mk 15) (mk 16) (mk 17) E N mk cl ch lx nb (by rw [e0]; exact ⟨hk2, by omega, by omega, by omega, by omega, by omega⟩) (fun x j u v => fk x j (by omega) (by omega))
    rw [e0] at hz
    exact hz
