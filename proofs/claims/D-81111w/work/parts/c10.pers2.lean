/-! needs: c09 -/
/-! CALLS: a person more, both; by tools/genc10.py -/
set_option maxRecDepth 100000
set_option maxHeartbeats 8000000
/-- a person more -/
def sPn (S : aM) (w f mo b own : Int) : aM := fun x j => if x = 0 ∧ j = 4 then S 0 4 + 1 else if j = S 0 4 ∧ 10 ≤ x ∧ x ≤ 15 then (if x = 10 then w else if x = 11 then f else if x = 12 then mo else if x = 13 then b else if x = 14 then 10000 else own) else S x j
def c_per (S : aM) (w f mo b own : Int) : Int × aM := if (-1 ≤ f ∧ f < S 0 4) ∧ (-1 ≤ mo ∧ mo < S 0 4) ∧ (own = -1 ∨ v_has S own) then (if v_day b then (if (f = -1 ∨ (S 10 f = 0 ∧ S 13 f < b)) ∧ (mo = -1 ∨ (S 10 mo ≠ 0 ∧ S 13 mo < b)) then (if S 0 4 = 40 then (-5, S) else (S 0 4, sPn S w f mo b own)) else (-4, S)) else (-3, S)) else (-2, S)
theorem sPn_r {S : aM} {w f mo b own x : Int} (h : x ≠ 0) (g : x < 10 ∨ 15 < x) : sPn S w f mo b own x = S x := funext fun j => by unfold sPn; rw [if_neg (by omega), if_neg (by omega)]
theorem sPn_0 {S : aM} {w f mo b own j : Int} (h : j ≠ 4) : sPn S w f mo b own 0 j = S 0 j := by unfold sPn; rw [if_neg (by omega), if_neg (by omega)]
theorem sPn_4 {S : aM} {w f mo b own : Int} : sPn S w f mo b own 0 4 = S 0 4 + 1 := by unfold sPn; rw [if_pos ⟨rfl, rfl⟩]
theorem sPn_o {S : aM} {w f mo b own x j : Int} (h : x ≠ 0) (g : j ≠ S 0 4) : sPn S w f mo b own x j = S x j := by unfold sPn; rw [if_neg (by omega), if_neg (by omega)]
theorem sPn_n {S : aM} {w f mo b own x : Int} (g : 10 ≤ x ∧ x ≤ 15) : sPn S w f mo b own x (S 0 4) = (if x = 10 then w else if x = 11 then f else if x = 12 then mo else if x = 13 then b else if x = 14 then 10000 else own) := by unfold sPn; rw [if_neg (by omega), if_pos ⟨rfl, g.1, g.2⟩]
def okPn (S : aM) (w f mo b own : Int) : Prop := (w = 0 ∨ w = 1) ∧ (-1 ≤ f ∧ f < S 0 4) ∧ (-1 ≤ mo ∧ mo < S 0 4) ∧ v_day b ∧ (own = -1 ∨ v_has S own) ∧ S 0 4 < 40 ∧ 0 ≤ S 0 3
theorem sPs.pn {S : aM} {w f mo b own : Int} (h : sPs S) (o : okPn S w f mo b own) : sPs (sPn S w f mo b own) := by
  obtain ⟨h1, h2⟩ := h
  obtain ⟨o1, o2, o3, o4, o5, o6⟩ := o
  have o5 : own = -1 ∨ (0 ≤ own ∧ own < S 0 3) := o5
  have o4 : 0 ≤ b ∧ b ≤ 9999 := o4
  unfold sPs
  rw [sPn_4, sPn_0 (j := 3) (by omega)]
  refine ⟨by omega, fun q a c => ?_⟩
  by_cases k : q = S 0 4
  · subst k
    rw [sPn_n (by omega), sPn_n (by omega), sPn_n (by omega), sPn_n (by omega), sPn_n (by omega), sPn_n (by omega)]
    simp only [Int.reduceEq, ↓reduceIte]
    omega
  · rw [sPn_o (by omega) k, sPn_o (by omega) k, sPn_o (by omega) k, sPn_o (by omega) k, sPn_o (by omega) k, sPn_o (by omega) k]
    exact h2 q a (by omega)
/-- what the new person's object says -/
def hNp (m m' : aM) (n w rf rm b own : Int) : Prop := m' 0 0 = m 0 0 + 1 ∧ (m 0 1 ≤ m' 0 1 ∧ m' 0 1 ≤ m 0 1 + 20) ∧ (∀ j, j ≠ 0 → j ≠ 1 → m' 0 j = m 0 j) ∧ (∀ x j, x ≠ 0 → x ≤ m 0 0 → (x ≠ 20 ∨ j ≠ n) → (x ≠ 1 ∨ j ≠ 22) → m' x j = m x j) ∧ m' 20 n = m 0 0 + 1 ∧ m' 1 22 = n + 1 ∧ m' (m 0 0 + 1) (-1) = 11 ∧ m' (m 0 0 + 1) 0 = w ∧ m' (m 0 0 + 1) 1 = rf ∧ m' (m 0 0 + 1) 2 = rm ∧ m' (m 0 0 + 1) 3 = n ∧ m' (m 0 0 + 1) 4 = b ∧ m' (m 0 0 + 1) 5 = 10000 ∧ m' (m 0 0 + 1) 6 = own
theorem hI.pn {S : aM} {F : Int → aD} {lo hi cl ch : Int → Int} {m m' : aM} {w f mo b own : Int} (h : hI S F lo hi cl ch m) (o : okPn S w f mo b own) (g : hNp m m' (S 0 4) w (hpr m f) (hpr m mo) b own) : hI (sPn S w f mo b own) F lo hi cl ch m' := by
  obtain ⟨i1, i2, i3, i4, i5, i6, i7, i8, i9, ia, ib, ic, id⟩ := h
  obtain ⟨g1, g2, g3, g4, g5, g6, g7, g8, g9, ga, gb, gc, gd, ge⟩ := g
  have E : ∀ x, x ≠ 0 → x ≤ m 0 0 → x ≠ 20 → x ≠ 1 → m' x = m x := fun x a b c d => funext fun j => g4 x j a b (by omega) (by omega)
  have e1 : ∀ j, j ≠ 22 → m' 1 j = m 1 j := fun j u => g4 1 j (by omega) (by omega) (by omega) (by omega)
  have e20 : ∀ j, j ≠ S 0 4 → m' 20 j = m 20 j := fun j u => g4 20 j (by omega) (by omega) (by omega) (by omega)
  have K : hK m m' := ⟨by omega, fun r a b c => by rw [E r (by omega) (by omega) (by omega) (by omega)]; exact ⟨rfl, fun _ => rfl⟩⟩
  have S0 : ∀ j, j ≠ 4 → sPn S w f mo b own 0 j = S 0 j := fun j u => sPn_0 u
  have SR : ∀ x, x ≠ 0 → (x < 10 ∨ 15 < x) → sPn S w f mo b own x = S x := fun x a b => sPn_r a b
  obtain ⟨o1, o2, o3, o4, o5, o6⟩ := (show okPn S w f mo b own from o)
  refine ⟨by omega, by rw [g3 2 (by omega) (by omega), g3 3 (by omega) (by omega)]; exact i2, ?_, (i4.keep K (e1 20 (by omega)) (E 19 (by omega) (by omega) (by omega) (by omega))).cg (S0 3 (by omega)) (fun x a => SR x (by omega) (by omega)), (i5.keep (e1 29 (by omega)) (fun x q => E x (by omega) (by omega) (by omega) (by omega))).cg (S0 5 (by omega)) (S0 3 (by omega)) (fun x a b => SR x (by omega) (by omega)), ?_, ?_, ?_, ?_, ?_, ?_, by rw [S0 3 (by omega)]; exact ic, ?_⟩
  · unfold hNm
    rw [e1 17 (by omega), e1 3 (by omega), e1 18 (by omega), e1 38 (by omega), e1 41 (by omega), e1 46 (by omega), e1 39 (by omega), E 18 (by omega) (by omega) (by omega) (by omega), E 4 (by omega) (by omega) (by omega) (by omega), S0 0 (by omega), S0 1 (by omega), S0 2 (by omega), S0 7 (by omega), S0 8 (by omega), S0 9 (by omega), SR 1 (by omega) (by omega), SR 2 (by omega) (by omega)]
    exact i3
  · obtain ⟨p1, p2, p3, p4⟩ := i6
    have H : ∀ x, -1 ≤ x → x < S 0 4 → hpr m' x = hpr m x := fun x a b => by unfold hpr; rw [e20 x (by omega)]
    refine ⟨p1.pn o, by rw [g6, sPn_4], fun q a c => ?_, fun q q2 a c a2 c2 n => ?_⟩
    · rw [sPn_4] at c
      by_cases k : q = S 0 4
      · subst k
        rw [g5, sPn_n (by omega), sPn_n (by omega), sPn_n (by omega), sPn_n (by omega), sPn_n (by omega), sPn_n (by omega)]
        simp only [Int.reduceEq, ↓reduceIte]
        rw [H f o2.1 o2.2, H mo o3.1 o3.2]
        exact ⟨⟨by omega, by omega⟩, g7, g8, g9, ga, gb, gc, gd, ge⟩
      · rw [e20 q k, sPn_o (by omega) k, sPn_o (by omega) k, sPn_o (by omega) k, sPn_o (by omega) k, sPn_o (by omega) k, sPn_o (by omega) k]
        obtain ⟨q1, q2, q3⟩ := p3 q a (by omega)
        have s := p1.2 q a (by omega)
        rw [E (m 20 q) (by omega) (by omega) (by omega) (by omega), H (S 11 q) (by omega) (by omega), H (S 12 q) (by omega) (by omega)]
        exact ⟨⟨q1.1, by omega⟩, q2, q3⟩
    · rw [sPn_4] at c c2
      by_cases k : q = S 0 4
      · subst k
        have := (p3 q2 a2 (by omega)).1
        rw [g5, e20 q2 (by omega)]
        omega
      · by_cases k2 : q2 = S 0 4
        · subst k2
          have := (p3 q a (by omega)).1
          rw [g5, e20 q k]
          omega
        · rw [e20 q k, e20 q2 k2]
          exact p4 q q2 a (by omega) a2 (by omega) n
  · have i7 := i7.K K (e1 37 (by omega)) (E 27 (by omega) (by omega) (by omega) (by omega)) (E 28 (by omega) (by omega) (by omega) (by omega))
    unfold hCs
    rw [S0 6 (by omega), SR 20 (by omega) (by omega)]
    exact i7
  · unfold hAp
    rw [S0 6 (by omega), S0 3 (by omega)]
    exact i8
  · unfold hDn hDr
    rw [S0 3 (by omega), e1 13 (by omega), E 19 (by omega) (by omega) (by omega) (by omega), E 6 (by omega) (by omega) (by omega) (by omega), E 10 (by omega) (by omega) (by omega) (by omega)]
    exact ⟨by have := i9.1; omega, fun i a b c => by rw [SR (100 + i) (by omega) (by omega)]; exact i9.2 i a b c⟩
  · unfold hTk
    rw [E 9 (by omega) (by omega) (by omega) (by omega), e1 14 (by omega)]
    exact ia
  · unfold hOn hWd hCst
    rw [E 26 (by omega) (by omega) (by omega) (by omega), E 3 (by omega) (by omega) (by omega) (by omega), E 14 (by omega) (by omega) (by omega) (by omega), E 18 (by omega) (by omega) (by omega) (by omega), E 2 (by omega) (by omega) (by omega) (by omega), E (-4) (by omega) (by omega) (by omega) (by omega)]
    exact ⟨⟨fun r q => (E r (by omega) (by omega) (by omega) (by omega)).trans (ib.1.1 r q), ib.1.2⟩, ib.2⟩
  · intro q a c
    rw [sPn_4] at c
    rw [S0 3 (by omega), S0 6 (by omega)]
    by_cases k : q = S 0 4
    · subst k
      rw [g5]
      exact ⟨fun i u v => Or.inr (by have := (i4.2.2.1 i u v).1.2; omega), fun i u v => Or.inr (by have := (i7.2.2 i u v).1; omega)⟩
    · rw [e20 q k]
      exact id q a (by omega)
theorem ct_94 {d : Nat} {m : aM} {Q : aO → aM → Prop} {S : aM} {F : Int → aD} {lo hi cl ch : Int → Int} {a : Int} (hd : 2 ≤ d) (h : hI S F lo hi cl ch m) (hQ1 : (-1 ≤ a ∧ a < S 0 4) → Q (.inl (some (aI 1))) m) (hQ0 : ¬ (-1 ≤ a ∧ a < S 0 4) → Q (.inl (some (aI 0))) m) : am_wpc am_G am_T d 94 [aR 1, aI a] m Q := by
  have s2 := h.2.2.2.2.2.1.2.1
  have s3 := h.2.2.2.2.2.1.1.1
  refine am_in rfl hd (fun d hd => ?_)
  refine am_go 400 [] (am_wpc_cm _ _ _) wf_94 ?_
  refine And.intro (rfl) ?_
  refine And.intro (show -2147483648 ≤ (m 1 22) - 1 ∧ (m 1 22) - 1 ≤ 2147483647 by first | omega | (simp only [mS_iff, eq_self, Int.reduceEq, true_and, and_true, false_and, and_false, and_self, ↓reduceIte]; omega) | (simp only [mS_iff, eq_self, Int.reduceEq, true_and, and_true, false_and, and_false, and_self, ↓reduceIte] at *; omega)) ?_
  refine ct_39 (by omega) (fun h1 => ?_) (fun h1 => ?_)
  · refine And.intro (by first | omega | (simp only [mS_iff, eq_self, Int.reduceEq, true_and, and_true, false_and, and_false, and_self, ↓reduceIte]; omega) | (simp only [mS_iff, eq_self, Int.reduceEq, true_and, and_true, false_and, and_false, and_self, ↓reduceIte] at *; omega)) ?_
    exact hQ1 (by omega)
  · refine And.intro (by first | omega | (simp only [mS_iff, eq_self, Int.reduceEq, true_and, and_true, false_and, and_false, and_self, ↓reduceIte]; omega) | (simp only [mS_iff, eq_self, Int.reduceEq, true_and, and_true, false_and, and_false, and_self, ↓reduceIte] at *; omega)) ?_
    exact hQ0 (by omega)
theorem hs_93 {d : Nat} {m : aM} {Q : aO → aM → Prop} {S : aM} {F : Int → aD} {lo hi cl ch : Int → Int} {w f mo b own : Int} {k : Int} (hd : 60 ≤ d) (hk : 0 ≤ k) (hz0 : hZ (k + 1) S F lo hi cl ch m) (hw : w = 0 ∨ w = 1) (hQ : ∀ m', hZ k (c_per S w f mo b own).2 F lo hi cl ch m' → (∀ x j, 41 ≤ x → x ≤ 76 → m' x j = m x j) → Q (.inl (some (aI (c_per S w f mo b own).1))) m') : am_wpc am_G am_T d 93 [aR 1, aI w, aI f, aI mo, aI b, aI own] m Q := by
  have h := hz0.1
  have hr := hz0.2
  have fr := hFr.rfl m
  obtain ⟨r1, r2, r3, r4, r5⟩ := id hr
  have hS := h.2.2.2.1
  have h0 := h.1
  have s1 := hS.1
  obtain ⟨n1, n2, n3, n4, n5, n6, n7, n8, n9⟩ := id h.2.2.1
  have hE := h.2.2.2.2.1
  have e5 := hE.2.1
  have e6 := hE.1.1
  have e7 := hE.1.2
  obtain ⟨dk, hdk⟩ : ∃ k, d = k + 1 := ⟨d - 1, by omega⟩
  refine am_in (k := dk) rfl (by omega) (fun d hd => ?_)
  refine am_go 400 [] (am_wpc_cm _ _ _) wf_93 ?_
  have q22 := h.2.2.2.2.2.1.2.1
  have p40 := h.2.2.2.2.2.1.1.1
  refine And.intro (rfl) ?_
  refine ct_94 (by omega) h (fun p1 => ?_) (fun p1 => ?_)
  · refine And.intro (fun h => absurd h (by decide)) (fun _ => ?_)
    refine And.intro (rfl) ?_
    refine ct_94 (by omega) h (fun p2 => ?_) (fun p2 => ?_)
    · refine And.intro (fun h => absurd h (by decide)) (fun _ => ?_)
      refine And.intro (fun h1 => ?_) (fun h1 => ?_)
      · refine ct_95 (by omega) (fun h2 => ?_) (fun h2 => ?_)
        · have dy := h2
          refine And.intro (fun _ => ?_) (fun h => absurd h (by decide))
          refine And.intro (fun h3 => ?_) (fun h3 => ?_)
          · refine And.intro (rfl) ?_
            refine And.intro (⟨rfl, by omega⟩) ?_
            have xf := h.2.2.2.2.2.1.2.2.1 f (by omega) (by omega)
            have xf1 := xf.1
            have xf2 := xf.2.1
            have xf3 := xf.2.2.1
            have xf4 := xf.2.2.2.2.2.2.1
            have yf := (h.2.2.2.2.2.1.1.2 f (by omega) (by omega)).1
            refine And.intro (fun h4 => ?_) (fun h4 => ?_)
            · refine And.intro (rfl) ?_
              refine And.intro (⟨rfl, by omega⟩) ?_
              have xmo := h.2.2.2.2.2.1.2.2.1 mo (by omega) (by omega)
              have xmo1 := xmo.1
              have xmo2 := xmo.2.1
              have xmo3 := xmo.2.2.1
              have xmo4 := xmo.2.2.2.2.2.2.1
              have ymo := (h.2.2.2.2.2.1.1.2 mo (by omega) (by omega)).1
              refine And.intro (show (m 20 f) ≠ -9 by first | omega | (simp only [mS_iff, eq_self, Int.reduceEq, true_and, and_true, false_and, and_false, and_self, ↓reduceIte]; omega) | (simp only [mS_iff, eq_self, Int.reduceEq, true_and, and_true, false_and, and_false, and_self, ↓reduceIte] at *; omega)) ?_
              refine And.intro (fun h5 => ?_) (fun h5 => ?_)
              · refine And.intro (show (m 20 mo) ≠ -9 by first | omega | (simp only [mS_iff, eq_self, Int.reduceEq, true_and, and_true, false_and, and_false, and_self, ↓reduceIte]; omega) | (simp only [mS_iff, eq_self, Int.reduceEq, true_and, and_true, false_and, and_false, and_self, ↓reduceIte] at *; omega)) ?_
                refine And.intro (fun h6 => ?_) (fun h6 => ?_)
                · refine And.intro (rfl) ?_
                  refine And.intro (fun h7 => ?_) (fun h7 => ?_)
                  · refine And.intro (by first | omega | (simp only [mS_iff, eq_self, Int.reduceEq, true_and, and_true, false_and, and_false, and_self, ↓reduceIte]; omega) | (simp only [mS_iff, eq_self, Int.reduceEq, true_and, and_true, false_and, and_false, and_self, ↓reduceIte] at *; omega)) ?_
                    generalize h10 : mN m 11 7 = mw8
                    generalize h11 : m 0 0 + 1 = r9
                    obtain ⟨w1, w2, w3, w4, w5, w6⟩ := mN_f h10 h11 (by omega)
                    have rr : r9 = m 0 0 + 1 := Eq.symm h11
                    have e22 : mw8 1 22 = S 0 4 := by rw [w5 1 22 (by omega) (by omega)]; exact q22
                    refine And.intro (show 0 < r9 by first | omega | (simp only [mS_iff, eq_self, Int.reduceEq, true_and, and_true, false_and, and_false, and_self, ↓reduceIte]; omega) | (simp only [mS_iff, eq_self, Int.reduceEq, true_and, and_true, false_and, and_false, and_self, ↓reduceIte] at *; omega)) ?_
                    refine am_in (k := 0) rfl (by omega) (fun d hd => ?_)
                    refine am_go 400 [] (am_wpc_cm _ _ _) wf_320 ?_
                    refine And.intro (show 0 < r9 by first | omega | (simp only [mS_iff, eq_self, Int.reduceEq, true_and, and_true, false_and, and_false, and_self, ↓reduceIte]; omega) | (simp only [mS_iff, eq_self, Int.reduceEq, true_and, and_true, false_and, and_false, and_self, ↓reduceIte] at *; omega)) ?_
                    refine And.intro (show 0 < r9 ∧ (mw8 r9 (-1)) = 11 by first | omega | (simp only [mS_iff, eq_self, Int.reduceEq, true_and, and_true, false_and, and_false, and_self, ↓reduceIte]; omega) | (simp only [mS_iff, eq_self, Int.reduceEq, true_and, and_true, false_and, and_false, and_self, ↓reduceIte] at *; omega)) ?_
                    refine And.intro (show 0 < r9 ∧ ((mS mw8 r9 5 10000) r9 (-1)) = 11 ∧ (w = 0 ∨ w = 1) by first | omega | (simp only [mS_iff, eq_self, Int.reduceEq, true_and, and_true, false_and, and_false, and_self, ↓reduceIte]; omega) | (simp only [mS_iff, eq_self, Int.reduceEq, true_and, and_true, false_and, and_false, and_self, ↓reduceIte] at *; omega)) ?_
                    refine And.intro (show 0 < r9 ∧ ((mS (mS mw8 r9 5 10000) r9 0 w) r9 (-1)) = 11 by first | omega | (simp only [mS_iff, eq_self, Int.reduceEq, true_and, and_true, false_and, and_false, and_self, ↓reduceIte]; omega) | (simp only [mS_iff, eq_self, Int.reduceEq, true_and, and_true, false_and, and_false, and_self, ↓reduceIte] at *; omega)) ?_
                    refine And.intro (show 0 < r9 ∧ ((mS (mS (mS mw8 r9 5 10000) r9 0 w) r9 1 (m 20 f)) r9 (-1)) = 11 by first | omega | (simp only [mS_iff, eq_self, Int.reduceEq, true_and, and_true, false_and, and_false, and_self, ↓reduceIte]; omega) | (simp only [mS_iff, eq_self, Int.reduceEq, true_and, and_true, false_and, and_false, and_self, ↓reduceIte] at *; omega)) ?_
                    refine And.intro (show 0 < r9 ∧ ((mS (mS (mS (mS mw8 r9 5 10000) r9 0 w) r9 1 (m 20 f)) r9 2 (m 20 mo)) r9 (-1)) = 11 by first | omega | (simp only [mS_iff, eq_self, Int.reduceEq, true_and, and_true, false_and, and_false, and_self, ↓reduceIte]; omega) | (simp only [mS_iff, eq_self, Int.reduceEq, true_and, and_true, false_and, and_false, and_self, ↓reduceIte] at *; omega)) ?_
                    refine And.intro (show 0 < r9 ∧ ((mS (mS (mS (mS (mS mw8 r9 5 10000) r9 0 w) r9 1 (m 20 f)) r9 2 (m 20 mo)) r9 4 b) r9 (-1)) = 11 by first | omega | (simp only [mS_iff, eq_self, Int.reduceEq, true_and, and_true, false_and, and_false, and_self, ↓reduceIte]; omega) | (simp only [mS_iff, eq_self, Int.reduceEq, true_and, and_true, false_and, and_false, and_self, ↓reduceIte] at *; omega)) ?_
                    obtain ⟨mp, emp⟩ : ∃ z, z = (mS (mS (mS (mS (mS (mS mw8 r9 5 10000) r9 0 w) r9 1 (m 20 f)) r9 2 (m 20 mo)) r9 4 b) r9 6 own) := ⟨_, rfl⟩
                    rw [← emp]
                    have fmp : ∀ x j, x ≠ r9 → mp x j = mw8 x j := fun x j u => by rw [emp, mS_a _ _ _ _ u, mS_a _ _ _ _ u, mS_a _ _ _ _ u, mS_a _ _ _ _ u, mS_a _ _ _ _ u, mS_a _ _ _ _ u]
                    have g0 : mp r9 0 = w := by rw [emp]; simp only [mS_iff, eq_self, Int.reduceEq, true_and, and_true, false_and, and_false, and_self, ↓reduceIte]
                    have g1 : mp r9 1 = (m 20 f) := by rw [emp]; simp only [mS_iff, eq_self, Int.reduceEq, true_and, and_true, false_and, and_false, and_self, ↓reduceIte]
                    have g2 : mp r9 2 = (m 20 mo) := by rw [emp]; simp only [mS_iff, eq_self, Int.reduceEq, true_and, and_true, false_and, and_false, and_self, ↓reduceIte]
                    have g4 : mp r9 4 = b := by rw [emp]; simp only [mS_iff, eq_self, Int.reduceEq, true_and, and_true, false_and, and_false, and_self, ↓reduceIte]
                    have g5 : mp r9 5 = 10000 := by rw [emp]; simp only [mS_iff, eq_self, Int.reduceEq, true_and, and_true, false_and, and_false, and_self, ↓reduceIte]
                    have g6 : mp r9 6 = own := by rw [emp]; simp only [mS_iff, eq_self, Int.reduceEq, true_and, and_true, false_and, and_false, and_self, ↓reduceIte]
                    have g7 : mp r9 (-1) = 11 := by rw [emp]; simp only [mS_iff, eq_self, Int.reduceEq, true_and, and_true, false_and, and_false, and_self, ↓reduceIte]; exact w3
                    have e22 : mp 1 22 = S 0 4 := by rw [fmp 1 22 (by omega)]; exact e22
                    refine And.intro (rfl) ?_
                    refine And.intro (show 0 < r9 ∧ (mp r9 (-1)) = 11 by first | omega | (simp only [mS_iff, eq_self, Int.reduceEq, true_and, and_true, false_and, and_false, and_self, ↓reduceIte]; omega) | (simp only [mS_iff, eq_self, Int.reduceEq, true_and, and_true, false_and, and_false, and_self, ↓reduceIte] at *; omega)) ?_
                    obtain ⟨mq, emq⟩ : ∃ z, z = (mS mp r9 3 (mp 1 22)) := ⟨_, rfl⟩
                    rw [← emq]
                    have fmq : ∀ x j, x ≠ r9 → mq x j = mp x j := fun x j u => by rw [emq, mS_a _ _ _ _ u]
                    have g0 : mq r9 0 = _ := (by rw [emq, mS_iff, if_neg (by omega)] : mq r9 0 = mp r9 0).trans g0
                    have g1 : mq r9 1 = _ := (by rw [emq, mS_iff, if_neg (by omega)] : mq r9 1 = mp r9 1).trans g1
                    have g2 : mq r9 2 = _ := (by rw [emq, mS_iff, if_neg (by omega)] : mq r9 2 = mp r9 2).trans g2
                    have g4 : mq r9 4 = _ := (by rw [emq, mS_iff, if_neg (by omega)] : mq r9 4 = mp r9 4).trans g4
                    have g5 : mq r9 5 = _ := (by rw [emq, mS_iff, if_neg (by omega)] : mq r9 5 = mp r9 5).trans g5
                    have g6 : mq r9 6 = _ := (by rw [emq, mS_iff, if_neg (by omega)] : mq r9 6 = mp r9 6).trans g6
                    have g7 : mq r9 (-1) = _ := (by rw [emq, mS_iff, if_neg (by omega)] : mq r9 (-1) = mp r9 (-1)).trans g7
                    have g3 : mq r9 3 = S 0 4 := by rw [emq, mS_iff, if_pos ⟨rfl, rfl⟩]; exact e22
                    have e22 : mq 1 22 = S 0 4 := by rw [fmq 1 22 (by omega)]; exact e22
                    refine And.intro (rfl) ?_
                    refine And.intro (rfl) ?_
                    refine And.intro (⟨rfl, by omega, by omega, Or.inr ⟨by omega, g7⟩⟩) ?_
                    refine And.intro (rfl) ?_
                    refine And.intro (show -2147483648 ≤ (mq 1 22) + 1 ∧ (mq 1 22) + 1 ≤ 2147483647 by first | omega | (simp only [mS_iff, eq_self, Int.reduceEq, true_and, and_true, false_and, and_false, and_self, ↓reduceIte]; omega) | (simp only [mS_iff, eq_self, Int.reduceEq, true_and, and_true, false_and, and_false, and_self, ↓reduceIte] at *; omega)) ?_
                    refine And.intro (rfl) ?_
                    refine And.intro (by rw [mS_iff, if_neg (by omega), mS_iff, if_neg (by omega)]; exact g7) ?_
                    have ev0 : c_per S w f mo b own = (S 0 4, sPn S w f mo b own) := by
                      unfold c_per
                      repeat' split
                      all_goals first | rfl | (exfalso; omega) | (refine Prod.ext ?_ ?_ <;> first | rfl | (show _ = _; omega))
                    rw [ev0] at hQ
                    dsimp only at hQ
                    have ok : okPn S w f mo b own := ⟨hw, p1, p2, dy, by omega, by omega, by omega⟩
                    have hf : (m 20 f) = hpr m f := by unfold hpr; rw [if_neg (by omega)]
                    have hm : (m 20 mo) = hpr m mo := by unfold hpr; rw [if_neg (by omega)]
                    have ff : ∀ x j, x ≠ r9 → mq x j = mw8 x j := fun x j u => (fmq x j u).trans (fmp x j u)
                    have z00 := ff 0 0 (by omega)
                    have z01 := ff 0 1 (by omega)
                    have NP : hNp m ((mS (mS mq 20 (mq 1 22) r9) 1 22 ((mq 1 22) + 1))) (S 0 4) w (hpr m f) (hpr m mo) b own := by
                      refine ⟨by rw [mS_iff, if_neg (by omega), mS_iff, if_neg (by omega)]; omega, by rw [mS_iff, if_neg (by omega), mS_iff, if_neg (by omega)]; omega, fun j u v => by rw [mS_iff, if_neg (by omega), mS_iff, if_neg (by omega)]; exact (ff 0 j (by omega)).trans (w6 j u v), fun x j u v y z => by rw [mS_iff, if_neg (by omega), mS_iff, if_neg (by omega)]; exact (ff x j (by omega)).trans (w5 x j u (by omega)), ?_, ?_, ?_, ?_, ?_, ?_, ?_, ?_, ?_, ?_⟩
                      all_goals try rw [← rr]
                      · rw [← e22]
                        simp only [mS_iff, eq_self, Int.reduceEq, true_and, and_true, false_and, and_false, and_self, ↓reduceIte]
                      · simp only [mS_iff, eq_self, Int.reduceEq, true_and, and_true, false_and, and_false, and_self, ↓reduceIte]
                        omega
                      · rw [mS_iff, if_neg (by omega), mS_iff, if_neg (by omega)]
                        exact g7
                      · rw [mS_iff, if_neg (by omega), mS_iff, if_neg (by omega)]
                        exact g0
                      · rw [mS_iff, if_neg (by omega), mS_iff, if_neg (by omega)]
                        exact g1.trans hf
                      · rw [mS_iff, if_neg (by omega), mS_iff, if_neg (by omega)]
                        exact g2.trans hm
                      · rw [mS_iff, if_neg (by omega), mS_iff, if_neg (by omega)]
                        exact g3
                      · rw [mS_iff, if_neg (by omega), mS_iff, if_neg (by omega)]
                        exact g4
                      · rw [mS_iff, if_neg (by omega), mS_iff, if_neg (by omega)]
                        exact g5
                      · rw [mS_iff, if_neg (by omega), mS_iff, if_neg (by omega)]
                        exact g6
                    show Q (.inl (some (aI ((mS (mS mq 20 (mq 1 22) r9) 1 22 ((mq 1 22) + 1)) r9 3)))) ((mS (mS mq 20 (mq 1 22) r9) 1 22 ((mq 1 22) + 1)))
                    rw [show ((mS (mS mq 20 (mq 1 22) r9) 1 22 ((mq 1 22) + 1)) r9 3) = S 0 4 from (by rw [mS_iff, if_neg (by omega), mS_iff, if_neg (by omega)]; exact g3)]
                    exact hQ _ ⟨h.pn ok NP, ⟨by rw [NP.1]; omega, by have := NP.2.1; omega, by have := NP.2.1; omega, by rw [NP.2.2.2.1 1 14 (by omega) (by omega) (by omega) (by omega)]; omega, by rw [NP.2.2.2.1 1 14 (by omega) (by omega) (by omega) (by omega)]; omega⟩⟩ (fun x j u v => NP.2.2.2.1 x j (by omega) (by omega) (by omega) (by omega))
                  · have ev0 : c_per S w f mo b own = ((-5), S) := by
                      unfold c_per
                      repeat' split
                      all_goals first | rfl | (exfalso; omega) | (refine Prod.ext ?_ ?_ <;> first | rfl | (show _ = _; omega))
                    rw [ev0] at hQ
                    dsimp only at hQ
                    exact hQ m (hz0.fr fr (by omega)) fr.M
                · refine And.intro (show (m (m 20 mo) (-1)) = 11 by first | assumption | omega | (simp only [mS_iff, eq_self, Int.reduceEq, true_and, and_true, false_and, and_false, and_self, ↓reduceIte]; omega) | (simp only [mS_iff, eq_self, Int.reduceEq, true_and, and_true, false_and, and_false, and_self, ↓reduceIte] at *; omega)) ?_
                  refine And.intro (fun h12 => ?_) (fun h12 => ?_)
                  · have ev0 : c_per S w f mo b own = ((-4), S) := by
                      unfold c_per
                      repeat' split
                      all_goals first | rfl | (exfalso; omega) | (refine Prod.ext ?_ ?_ <;> first | rfl | (show _ = _; omega))
                    rw [ev0] at hQ
                    dsimp only at hQ
                    exact hQ m (hz0.fr fr (by omega)) fr.M
                  · refine And.intro (show (m (m 20 mo) (-1)) = 11 by first | assumption | omega | (simp only [mS_iff, eq_self, Int.reduceEq, true_and, and_true, false_and, and_false, and_self, ↓reduceIte]; omega) | (simp only [mS_iff, eq_self, Int.reduceEq, true_and, and_true, false_and, and_false, and_self, ↓reduceIte] at *; omega)) ?_
                    refine And.intro (fun h13 => ?_) (fun h13 => ?_)
                    · refine And.intro (rfl) ?_
                      refine And.intro (fun h14 => ?_) (fun h14 => ?_)
                      · refine And.intro (by first | omega | (simp only [mS_iff, eq_self, Int.reduceEq, true_and, and_true, false_and, and_false, and_self, ↓reduceIte]; omega) | (simp only [mS_iff, eq_self, Int.reduceEq, true_and, and_true, false_and, and_false, and_self, ↓reduceIte] at *; omega)) ?_
                        generalize h17 : mN m 11 7 = mw15
                        generalize h18 : m 0 0 + 1 = r16
                        obtain ⟨w1, w2, w3, w4, w5, w6⟩ := mN_f h17 h18 (by omega)
                        have rr : r16 = m 0 0 + 1 := Eq.symm h18
                        have e22 : mw15 1 22 = S 0 4 := by rw [w5 1 22 (by omega) (by omega)]; exact q22
                        refine And.intro (show 0 < r16 by first | omega | (simp only [mS_iff, eq_self, Int.reduceEq, true_and, and_true, false_and, and_false, and_self, ↓reduceIte]; omega) | (simp only [mS_iff, eq_self, Int.reduceEq, true_and, and_true, false_and, and_false, and_self, ↓reduceIte] at *; omega)) ?_
                        refine am_in (k := 0) rfl (by omega) (fun d hd => ?_)
                        refine am_go 400 [] (am_wpc_cm _ _ _) wf_320 ?_
                        refine And.intro (show 0 < r16 by first | omega | (simp only [mS_iff, eq_self, Int.reduceEq, true_and, and_true, false_and, and_false, and_self, ↓reduceIte]; omega) | (simp only [mS_iff, eq_self, Int.reduceEq, true_and, and_true, false_and, and_false, and_self, ↓reduceIte] at *; omega)) ?_
                        refine And.intro (show 0 < r16 ∧ (mw15 r16 (-1)) = 11 by first | omega | (simp only [mS_iff, eq_self, Int.reduceEq, true_and, and_true, false_and, and_false, and_self, ↓reduceIte]; omega) | (simp only [mS_iff, eq_self, Int.reduceEq, true_and, and_true, false_and, and_false, and_self, ↓reduceIte] at *; omega)) ?_
                        refine And.intro (show 0 < r16 ∧ ((mS mw15 r16 5 10000) r16 (-1)) = 11 ∧ (w = 0 ∨ w = 1) by first | omega | (simp only [mS_iff, eq_self, Int.reduceEq, true_and, and_true, false_and, and_false, and_self, ↓reduceIte]; omega) | (simp only [mS_iff, eq_self, Int.reduceEq, true_and, and_true, false_and, and_false, and_self, ↓reduceIte] at *; omega)) ?_
                        refine And.intro (show 0 < r16 ∧ ((mS (mS mw15 r16 5 10000) r16 0 w) r16 (-1)) = 11 by first | omega | (simp only [mS_iff, eq_self, Int.reduceEq, true_and, and_true, false_and, and_false, and_self, ↓reduceIte]; omega) | (simp only [mS_iff, eq_self, Int.reduceEq, true_and, and_true, false_and, and_false, and_self, ↓reduceIte] at *; omega)) ?_
                        refine And.intro (show 0 < r16 ∧ ((mS (mS (mS mw15 r16 5 10000) r16 0 w) r16 1 (m 20 f)) r16 (-1)) = 11 by first | omega | (simp only [mS_iff, eq_self, Int.reduceEq, true_and, and_true, false_and, and_false, and_self, ↓reduceIte]; omega) | (simp only [mS_iff, eq_self, Int.reduceEq, true_and, and_true, false_and, and_false, and_self, ↓reduceIte] at *; omega)) ?_
                        refine And.intro (show 0 < r16 ∧ ((mS (mS (mS (mS mw15 r16 5 10000) r16 0 w) r16 1 (m 20 f)) r16 2 (m 20 mo)) r16 (-1)) = 11 by first | omega | (simp only [mS_iff, eq_self, Int.reduceEq, true_and, and_true, false_and, and_false, and_self, ↓reduceIte]; omega) | (simp only [mS_iff, eq_self, Int.reduceEq, true_and, and_true, false_and, and_false, and_self, ↓reduceIte] at *; omega)) ?_
                        refine And.intro (show 0 < r16 ∧ ((mS (mS (mS (mS (mS mw15 r16 5 10000) r16 0 w) r16 1 (m 20 f)) r16 2 (m 20 mo)) r16 4 b) r16 (-1)) = 11 by first | omega | (simp only [mS_iff, eq_self, Int.reduceEq, true_and, and_true, false_and, and_false, and_self, ↓reduceIte]; omega) | (simp only [mS_iff, eq_self, Int.reduceEq, true_and, and_true, false_and, and_false, and_self, ↓reduceIte] at *; omega)) ?_
                        obtain ⟨mp, emp⟩ : ∃ z, z = (mS (mS (mS (mS (mS (mS mw15 r16 5 10000) r16 0 w) r16 1 (m 20 f)) r16 2 (m 20 mo)) r16 4 b) r16 6 own) := ⟨_, rfl⟩
                        rw [← emp]
                        have fmp : ∀ x j, x ≠ r16 → mp x j = mw15 x j := fun x j u => by rw [emp, mS_a _ _ _ _ u, mS_a _ _ _ _ u, mS_a _ _ _ _ u, mS_a _ _ _ _ u, mS_a _ _ _ _ u, mS_a _ _ _ _ u]
                        have g0 : mp r16 0 = w := by rw [emp]; simp only [mS_iff, eq_self, Int.reduceEq, true_and, and_true, false_and, and_false, and_self, ↓reduceIte]
                        have g1 : mp r16 1 = (m 20 f) := by rw [emp]; simp only [mS_iff, eq_self, Int.reduceEq, true_and, and_true, false_and, and_false, and_self, ↓reduceIte]
                        have g2 : mp r16 2 = (m 20 mo) := by rw [emp]; simp only [mS_iff, eq_self, Int.reduceEq, true_and, and_true, false_and, and_false, and_self, ↓reduceIte]
                        have g4 : mp r16 4 = b := by rw [emp]; simp only [mS_iff, eq_self, Int.reduceEq, true_and, and_true, false_and, and_false, and_self, ↓reduceIte]
                        have g5 : mp r16 5 = 10000 := by rw [emp]; simp only [mS_iff, eq_self, Int.reduceEq, true_and, and_true, false_and, and_false, and_self, ↓reduceIte]
                        have g6 : mp r16 6 = own := by rw [emp]; simp only [mS_iff, eq_self, Int.reduceEq, true_and, and_true, false_and, and_false, and_self, ↓reduceIte]
                        have g7 : mp r16 (-1) = 11 := by rw [emp]; simp only [mS_iff, eq_self, Int.reduceEq, true_and, and_true, false_and, and_false, and_self, ↓reduceIte]; exact w3
                        have e22 : mp 1 22 = S 0 4 := by rw [fmp 1 22 (by omega)]; exact e22
                        refine And.intro (rfl) ?_
                        refine And.intro (show 0 < r16 ∧ (mp r16 (-1)) = 11 by first | omega | (simp only [mS_iff, eq_self, Int.reduceEq, true_and, and_true, false_and, and_false, and_self, ↓reduceIte]; omega) | (simp only [mS_iff, eq_self, Int.reduceEq, true_and, and_true, false_and, and_false, and_self, ↓reduceIte] at *; omega)) ?_
                        obtain ⟨mq, emq⟩ : ∃ z, z = (mS mp r16 3 (mp 1 22)) := ⟨_, rfl⟩
                        rw [← emq]
                        have fmq : ∀ x j, x ≠ r16 → mq x j = mp x j := fun x j u => by rw [emq, mS_a _ _ _ _ u]
                        have g0 : mq r16 0 = _ := (by rw [emq, mS_iff, if_neg (by omega)] : mq r16 0 = mp r16 0).trans g0
                        have g1 : mq r16 1 = _ := (by rw [emq, mS_iff, if_neg (by omega)] : mq r16 1 = mp r16 1).trans g1
                        have g2 : mq r16 2 = _ := (by rw [emq, mS_iff, if_neg (by omega)] : mq r16 2 = mp r16 2).trans g2
                        have g4 : mq r16 4 = _ := (by rw [emq, mS_iff, if_neg (by omega)] : mq r16 4 = mp r16 4).trans g4
                        have g5 : mq r16 5 = _ := (by rw [emq, mS_iff, if_neg (by omega)] : mq r16 5 = mp r16 5).trans g5
                        have g6 : mq r16 6 = _ := (by rw [emq, mS_iff, if_neg (by omega)] : mq r16 6 = mp r16 6).trans g6
                        have g7 : mq r16 (-1) = _ := (by rw [emq, mS_iff, if_neg (by omega)] : mq r16 (-1) = mp r16 (-1)).trans g7
                        have g3 : mq r16 3 = S 0 4 := by rw [emq, mS_iff, if_pos ⟨rfl, rfl⟩]; exact e22
                        have e22 : mq 1 22 = S 0 4 := by rw [fmq 1 22 (by omega)]; exact e22
                        refine And.intro (rfl) ?_
                        refine And.intro (rfl) ?_
                        refine And.intro (⟨rfl, by omega, by omega, Or.inr ⟨by omega, g7⟩⟩) ?_
                        refine And.intro (rfl) ?_
                        refine And.intro (show -2147483648 ≤ (mq 1 22) + 1 ∧ (mq 1 22) + 1 ≤ 2147483647 by first | omega | (simp only [mS_iff, eq_self, Int.reduceEq, true_and, and_true, false_and, and_false, and_self, ↓reduceIte]; omega) | (simp only [mS_iff, eq_self, Int.reduceEq, true_and, and_true, false_and, and_false, and_self, ↓reduceIte] at *; omega)) ?_
                        refine And.intro (rfl) ?_
                        refine And.intro (by rw [mS_iff, if_neg (by omega), mS_iff, if_neg (by omega)]; exact g7) ?_
                        have ev0 : c_per S w f mo b own = (S 0 4, sPn S w f mo b own) := by
                          unfold c_per
                          repeat' split
                          all_goals first | rfl | (exfalso; omega) | (refine Prod.ext ?_ ?_ <;> first | rfl | (show _ = _; omega))
                        rw [ev0] at hQ
                        dsimp only at hQ
                        have ok : okPn S w f mo b own := ⟨hw, p1, p2, dy, by omega, by omega, by omega⟩
                        have hf : (m 20 f) = hpr m f := by unfold hpr; rw [if_neg (by omega)]
                        have hm : (m 20 mo) = hpr m mo := by unfold hpr; rw [if_neg (by omega)]
                        have ff : ∀ x j, x ≠ r16 → mq x j = mw15 x j := fun x j u => (fmq x j u).trans (fmp x j u)
                        have z00 := ff 0 0 (by omega)
                        have z01 := ff 0 1 (by omega)
                        have NP : hNp m ((mS (mS mq 20 (mq 1 22) r16) 1 22 ((mq 1 22) + 1))) (S 0 4) w (hpr m f) (hpr m mo) b own := by
                          refine ⟨by rw [mS_iff, if_neg (by omega), mS_iff, if_neg (by omega)]; omega, by rw [mS_iff, if_neg (by omega), mS_iff, if_neg (by omega)]; omega, fun j u v => by rw [mS_iff, if_neg (by omega), mS_iff, if_neg (by omega)]; exact (ff 0 j (by omega)).trans (w6 j u v), fun x j u v y z => by rw [mS_iff, if_neg (by omega), mS_iff, if_neg (by omega)]; exact (ff x j (by omega)).trans (w5 x j u (by omega)), ?_, ?_, ?_, ?_, ?_, ?_, ?_, ?_, ?_, ?_⟩
                          all_goals try rw [← rr]
                          · rw [← e22]
                            simp only [mS_iff, eq_self, Int.reduceEq, true_and, and_true, false_and, and_false, and_self, ↓reduceIte]
                          · simp only [mS_iff, eq_self, Int.reduceEq, true_and, and_true, false_and, and_false, and_self, ↓reduceIte]
                            omega
                          · rw [mS_iff, if_neg (by omega), mS_iff, if_neg (by omega)]
                            exact g7
                          · rw [mS_iff, if_neg (by omega), mS_iff, if_neg (by omega)]
                            exact g0
                          · rw [mS_iff, if_neg (by omega), mS_iff, if_neg (by omega)]
                            exact g1.trans hf
                          · rw [mS_iff, if_neg (by omega), mS_iff, if_neg (by omega)]
                            exact g2.trans hm
                          · rw [mS_iff, if_neg (by omega), mS_iff, if_neg (by omega)]
                            exact g3
                          · rw [mS_iff, if_neg (by omega), mS_iff, if_neg (by omega)]
                            exact g4
                          · rw [mS_iff, if_neg (by omega), mS_iff, if_neg (by omega)]
                            exact g5
                          · rw [mS_iff, if_neg (by omega), mS_iff, if_neg (by omega)]
                            exact g6
                        show Q (.inl (some (aI ((mS (mS mq 20 (mq 1 22) r16) 1 22 ((mq 1 22) + 1)) r16 3)))) ((mS (mS mq 20 (mq 1 22) r16) 1 22 ((mq 1 22) + 1)))
                        rw [show ((mS (mS mq 20 (mq 1 22) r16) 1 22 ((mq 1 22) + 1)) r16 3) = S 0 4 from (by rw [mS_iff, if_neg (by omega), mS_iff, if_neg (by omega)]; exact g3)]
                        exact hQ _ ⟨h.pn ok NP, ⟨by rw [NP.1]; omega, by have := NP.2.1; omega, by have := NP.2.1; omega, by rw [NP.2.2.2.1 1 14 (by omega) (by omega) (by omega) (by omega)]; omega, by rw [NP.2.2.2.1 1 14 (by omega) (by omega) (by omega) (by omega)]; omega⟩⟩ (fun x j u v => NP.2.2.2.1 x j (by omega) (by omega) (by omega) (by omega))
                      · have ev0 : c_per S w f mo b own = ((-5), S) := by
                          unfold c_per
                          repeat' split
                          all_goals first | rfl | (exfalso; omega) | (refine Prod.ext ?_ ?_ <;> first | rfl | (show _ = _; omega))
                        rw [ev0] at hQ
                        dsimp only at hQ
                        exact hQ m (hz0.fr fr (by omega)) fr.M
                    · have ev0 : c_per S w f mo b own = ((-4), S) := by
                        unfold c_per
                        repeat' split
                        all_goals first | rfl | (exfalso; omega) | (refine Prod.ext ?_ ?_ <;> first | rfl | (show _ = _; omega))
                      rw [ev0] at hQ
                      dsimp only at hQ
                      exact hQ m (hz0.fr fr (by omega)) fr.M
              · refine And.intro (show (m (m 20 f) (-1)) = 11 by first | assumption | omega | (simp only [mS_iff, eq_self, Int.reduceEq, true_and, and_true, false_and, and_false, and_self, ↓reduceIte]; omega) | (simp only [mS_iff, eq_self, Int.reduceEq, true_and, and_true, false_and, and_false, and_self, ↓reduceIte] at *; omega)) ?_
                refine And.intro (fun h19 => ?_) (fun h19 => ?_)
                · have ev0 : c_per S w f mo b own = ((-4), S) := by
                    unfold c_per
                    repeat' split
                    all_goals first | rfl | (exfalso; omega) | (refine Prod.ext ?_ ?_ <;> first | rfl | (show _ = _; omega))
                  rw [ev0] at hQ
                  dsimp only at hQ
                  exact hQ m (hz0.fr fr (by omega)) fr.M
                · refine And.intro (show (m (m 20 f) (-1)) = 11 by first | assumption | omega | (simp only [mS_iff, eq_self, Int.reduceEq, true_and, and_true, false_and, and_false, and_self, ↓reduceIte]; omega) | (simp only [mS_iff, eq_self, Int.reduceEq, true_and, and_true, false_and, and_false, and_self, ↓reduceIte] at *; omega)) ?_
                  refine And.intro (fun h20 => ?_) (fun h20 => ?_)
                  · have ev0 : c_per S w f mo b own = ((-4), S) := by
                      unfold c_per
                      repeat' split
                      all_goals first | rfl | (exfalso; omega) | (refine Prod.ext ?_ ?_ <;> first | rfl | (show _ = _; omega))
                    rw [ev0] at hQ
                    dsimp only at hQ
                    exact hQ m (hz0.fr fr (by omega)) fr.M
                  · refine And.intro (show (m 20 mo) ≠ -9 by first | omega | (simp only [mS_iff, eq_self, Int.reduceEq, true_and, and_true, false_and, and_false, and_self, ↓reduceIte]; omega) | (simp only [mS_iff, eq_self, Int.reduceEq, true_and, and_true, false_and, and_false, and_self, ↓reduceIte] at *; omega)) ?_
                    refine And.intro (fun h21 => ?_) (fun h21 => ?_)
                    · refine And.intro (rfl) ?_
                      refine And.intro (fun h22 => ?_) (fun h22 => ?_)
                      · refine And.intro (by first | omega | (simp only [mS_iff, eq_self, Int.reduceEq, true_and, and_true, false_and, and_false, and_self, ↓reduceIte]; omega) | (simp only [mS_iff, eq_self, Int.reduceEq, true_and, and_true, false_and, and_false, and_self, ↓reduceIte] at *; omega)) ?_
                        generalize h25 : mN m 11 7 = mw23
                        generalize h26 : m 0 0 + 1 = r24
                        obtain ⟨w1, w2, w3, w4, w5, w6⟩ := mN_f h25 h26 (by omega)
                        have rr : r24 = m 0 0 + 1 := Eq.symm h26
                        have e22 : mw23 1 22 = S 0 4 := by rw [w5 1 22 (by omega) (by omega)]; exact q22
                        refine And.intro (show 0 < r24 by first | omega | (simp only [mS_iff, eq_self, Int.reduceEq, true_and, and_true, false_and, and_false, and_self, ↓reduceIte]; omega) | (simp only [mS_iff, eq_self, Int.reduceEq, true_and, and_true, false_and, and_false, and_self, ↓reduceIte] at *; omega)) ?_
                        refine am_in (k := 0) rfl (by omega) (fun d hd => ?_)
                        refine am_go 400 [] (am_wpc_cm _ _ _) wf_320 ?_
                        refine And.intro (show 0 < r24 by first | omega | (simp only [mS_iff, eq_self, Int.reduceEq, true_and, and_true, false_and, and_false, and_self, ↓reduceIte]; omega) | (simp only [mS_iff, eq_self, Int.reduceEq, true_and, and_true, false_and, and_false, and_self, ↓reduceIte] at *; omega)) ?_
                        refine And.intro (show 0 < r24 ∧ (mw23 r24 (-1)) = 11 by first | omega | (simp only [mS_iff, eq_self, Int.reduceEq, true_and, and_true, false_and, and_false, and_self, ↓reduceIte]; omega) | (simp only [mS_iff, eq_self, Int.reduceEq, true_and, and_true, false_and, and_false, and_self, ↓reduceIte] at *; omega)) ?_
                        refine And.intro (show 0 < r24 ∧ ((mS mw23 r24 5 10000) r24 (-1)) = 11 ∧ (w = 0 ∨ w = 1) by first | omega | (simp only [mS_iff, eq_self, Int.reduceEq, true_and, and_true, false_and, and_false, and_self, ↓reduceIte]; omega) | (simp only [mS_iff, eq_self, Int.reduceEq, true_and, and_true, false_and, and_false, and_self, ↓reduceIte] at *; omega)) ?_
                        refine And.intro (show 0 < r24 ∧ ((mS (mS mw23 r24 5 10000) r24 0 w) r24 (-1)) = 11 by first | omega | (simp only [mS_iff, eq_self, Int.reduceEq, true_and, and_true, false_and, and_false, and_self, ↓reduceIte]; omega) | (simp only [mS_iff, eq_self, Int.reduceEq, true_and, and_true, false_and, and_false, and_self, ↓reduceIte] at *; omega)) ?_
                        refine And.intro (show 0 < r24 ∧ ((mS (mS (mS mw23 r24 5 10000) r24 0 w) r24 1 (m 20 f)) r24 (-1)) = 11 by first | omega | (simp only [mS_iff, eq_self, Int.reduceEq, true_and, and_true, false_and, and_false, and_self, ↓reduceIte]; omega) | (simp only [mS_iff, eq_self, Int.reduceEq, true_and, and_true, false_and, and_false, and_self, ↓reduceIte] at *; omega)) ?_
                        refine And.intro (show 0 < r24 ∧ ((mS (mS (mS (mS mw23 r24 5 10000) r24 0 w) r24 1 (m 20 f)) r24 2 (m 20 mo)) r24 (-1)) = 11 by first | omega | (simp only [mS_iff, eq_self, Int.reduceEq, true_and, and_true, false_and, and_false, and_self, ↓reduceIte]; omega) | (simp only [mS_iff, eq_self, Int.reduceEq, true_and, and_true, false_and, and_false, and_self, ↓reduceIte] at *; omega)) ?_
                        refine And.intro (show 0 < r24 ∧ ((mS (mS (mS (mS (mS mw23 r24 5 10000) r24 0 w) r24 1 (m 20 f)) r24 2 (m 20 mo)) r24 4 b) r24 (-1)) = 11 by first | omega | (simp only [mS_iff, eq_self, Int.reduceEq, true_and, and_true, false_and, and_false, and_self, ↓reduceIte]; omega) | (simp only [mS_iff, eq_self, Int.reduceEq, true_and, and_true, false_and, and_false, and_self, ↓reduceIte] at *; omega)) ?_
                        obtain ⟨mp, emp⟩ : ∃ z, z = (mS (mS (mS (mS (mS (mS mw23 r24 5 10000) r24 0 w) r24 1 (m 20 f)) r24 2 (m 20 mo)) r24 4 b) r24 6 own) := ⟨_, rfl⟩
                        rw [← emp]
                        have fmp : ∀ x j, x ≠ r24 → mp x j = mw23 x j := fun x j u => by rw [emp, mS_a _ _ _ _ u, mS_a _ _ _ _ u, mS_a _ _ _ _ u, mS_a _ _ _ _ u, mS_a _ _ _ _ u, mS_a _ _ _ _ u]
                        have g0 : mp r24 0 = w := by rw [emp]; simp only [mS_iff, eq_self, Int.reduceEq, true_and, and_true, false_and, and_false, and_self, ↓reduceIte]
                        have g1 : mp r24 1 = (m 20 f) := by rw [emp]; simp only [mS_iff, eq_self, Int.reduceEq, true_and, and_true, false_and, and_false, and_self, ↓reduceIte]
                        have g2 : mp r24 2 = (m 20 mo) := by rw [emp]; simp only [mS_iff, eq_self, Int.reduceEq, true_and, and_true, false_and, and_false, and_self, ↓reduceIte]
                        have g4 : mp r24 4 = b := by rw [emp]; simp only [mS_iff, eq_self, Int.reduceEq, true_and, and_true, false_and, and_false, and_self, ↓reduceIte]
                        have g5 : mp r24 5 = 10000 := by rw [emp]; simp only [mS_iff, eq_self, Int.reduceEq, true_and, and_true, false_and, and_false, and_self, ↓reduceIte]
                        have g6 : mp r24 6 = own := by rw [emp]; simp only [mS_iff, eq_self, Int.reduceEq, true_and, and_true, false_and, and_false, and_self, ↓reduceIte]
                        have g7 : mp r24 (-1) = 11 := by rw [emp]; simp only [mS_iff, eq_self, Int.reduceEq, true_and, and_true, false_and, and_false, and_self, ↓reduceIte]; exact w3
                        have e22 : mp 1 22 = S 0 4 := by rw [fmp 1 22 (by omega)]; exact e22
                        refine And.intro (rfl) ?_
                        refine And.intro (show 0 < r24 ∧ (mp r24 (-1)) = 11 by first | omega | (simp only [mS_iff, eq_self, Int.reduceEq, true_and, and_true, false_and, and_false, and_self, ↓reduceIte]; omega) | (simp only [mS_iff, eq_self, Int.reduceEq, true_and, and_true, false_and, and_false, and_self, ↓reduceIte] at *; omega)) ?_
                        obtain ⟨mq, emq⟩ : ∃ z, z = (mS mp r24 3 (mp 1 22)) := ⟨_, rfl⟩
                        rw [← emq]
                        have fmq : ∀ x j, x ≠ r24 → mq x j = mp x j := fun x j u => by rw [emq, mS_a _ _ _ _ u]
                        have g0 : mq r24 0 = _ := (by rw [emq, mS_iff, if_neg (by omega)] : mq r24 0 = mp r24 0).trans g0
                        have g1 : mq r24 1 = _ := (by rw [emq, mS_iff, if_neg (by omega)] : mq r24 1 = mp r24 1).trans g1
                        have g2 : mq r24 2 = _ := (by rw [emq, mS_iff, if_neg (by omega)] : mq r24 2 = mp r24 2).trans g2
                        have g4 : mq r24 4 = _ := (by rw [emq, mS_iff, if_neg (by omega)] : mq r24 4 = mp r24 4).trans g4
                        have g5 : mq r24 5 = _ := (by rw [emq, mS_iff, if_neg (by omega)] : mq r24 5 = mp r24 5).trans g5
                        have g6 : mq r24 6 = _ := (by rw [emq, mS_iff, if_neg (by omega)] : mq r24 6 = mp r24 6).trans g6
                        have g7 : mq r24 (-1) = _ := (by rw [emq, mS_iff, if_neg (by omega)] : mq r24 (-1) = mp r24 (-1)).trans g7
                        have g3 : mq r24 3 = S 0 4 := by rw [emq, mS_iff, if_pos ⟨rfl, rfl⟩]; exact e22
                        have e22 : mq 1 22 = S 0 4 := by rw [fmq 1 22 (by omega)]; exact e22
                        refine And.intro (rfl) ?_
                        refine And.intro (rfl) ?_
                        refine And.intro (⟨rfl, by omega, by omega, Or.inr ⟨by omega, g7⟩⟩) ?_
                        refine And.intro (rfl) ?_
                        refine And.intro (show -2147483648 ≤ (mq 1 22) + 1 ∧ (mq 1 22) + 1 ≤ 2147483647 by first | omega | (simp only [mS_iff, eq_self, Int.reduceEq, true_and, and_true, false_and, and_false, and_self, ↓reduceIte]; omega) | (simp only [mS_iff, eq_self, Int.reduceEq, true_and, and_true, false_and, and_false, and_self, ↓reduceIte] at *; omega)) ?_
                        refine And.intro (rfl) ?_
                        refine And.intro (by rw [mS_iff, if_neg (by omega), mS_iff, if_neg (by omega)]; exact g7) ?_
                        have ev0 : c_per S w f mo b own = (S 0 4, sPn S w f mo b own) := by
                          unfold c_per
                          repeat' split
                          all_goals first | rfl | (exfalso; omega) | (refine Prod.ext ?_ ?_ <;> first | rfl | (show _ = _; omega))
                        rw [ev0] at hQ
                        dsimp only at hQ
                        have ok : okPn S w f mo b own := ⟨hw, p1, p2, dy, by omega, by omega, by omega⟩
                        have hf : (m 20 f) = hpr m f := by unfold hpr; rw [if_neg (by omega)]
                        have hm : (m 20 mo) = hpr m mo := by unfold hpr; rw [if_neg (by omega)]
                        have ff : ∀ x j, x ≠ r24 → mq x j = mw23 x j := fun x j u => (fmq x j u).trans (fmp x j u)
                        have z00 := ff 0 0 (by omega)
                        have z01 := ff 0 1 (by omega)
                        have NP : hNp m ((mS (mS mq 20 (mq 1 22) r24) 1 22 ((mq 1 22) + 1))) (S 0 4) w (hpr m f) (hpr m mo) b own := by
                          refine ⟨by rw [mS_iff, if_neg (by omega), mS_iff, if_neg (by omega)]; omega, by rw [mS_iff, if_neg (by omega), mS_iff, if_neg (by omega)]; omega, fun j u v => by rw [mS_iff, if_neg (by omega), mS_iff, if_neg (by omega)]; exact (ff 0 j (by omega)).trans (w6 j u v), fun x j u v y z => by rw [mS_iff, if_neg (by omega), mS_iff, if_neg (by omega)]; exact (ff x j (by omega)).trans (w5 x j u (by omega)), ?_, ?_, ?_, ?_, ?_, ?_, ?_, ?_, ?_, ?_⟩
                          all_goals try rw [← rr]
                          · rw [← e22]
                            simp only [mS_iff, eq_self, Int.reduceEq, true_and, and_true, false_and, and_false, and_self, ↓reduceIte]
                          · simp only [mS_iff, eq_self, Int.reduceEq, true_and, and_true, false_and, and_false, and_self, ↓reduceIte]
                            omega
                          · rw [mS_iff, if_neg (by omega), mS_iff, if_neg (by omega)]
                            exact g7
                          · rw [mS_iff, if_neg (by omega), mS_iff, if_neg (by omega)]
                            exact g0
                          · rw [mS_iff, if_neg (by omega), mS_iff, if_neg (by omega)]
                            exact g1.trans hf
                          · rw [mS_iff, if_neg (by omega), mS_iff, if_neg (by omega)]
                            exact g2.trans hm
                          · rw [mS_iff, if_neg (by omega), mS_iff, if_neg (by omega)]
                            exact g3
                          · rw [mS_iff, if_neg (by omega), mS_iff, if_neg (by omega)]
                            exact g4
                          · rw [mS_iff, if_neg (by omega), mS_iff, if_neg (by omega)]
                            exact g5
                          · rw [mS_iff, if_neg (by omega), mS_iff, if_neg (by omega)]
                            exact g6
                        show Q (.inl (some (aI ((mS (mS mq 20 (mq 1 22) r24) 1 22 ((mq 1 22) + 1)) r24 3)))) ((mS (mS mq 20 (mq 1 22) r24) 1 22 ((mq 1 22) + 1)))
                        rw [show ((mS (mS mq 20 (mq 1 22) r24) 1 22 ((mq 1 22) + 1)) r24 3) = S 0 4 from (by rw [mS_iff, if_neg (by omega), mS_iff, if_neg (by omega)]; exact g3)]
                        exact hQ _ ⟨h.pn ok NP, ⟨by rw [NP.1]; omega, by have := NP.2.1; omega, by have := NP.2.1; omega, by rw [NP.2.2.2.1 1 14 (by omega) (by omega) (by omega) (by omega)]; omega, by rw [NP.2.2.2.1 1 14 (by omega) (by omega) (by omega) (by omega)]; omega⟩⟩ (fun x j u v => NP.2.2.2.1 x j (by omega) (by omega) (by omega) (by omega))
                      · have ev0 : c_per S w f mo b own = ((-5), S) := by
                          unfold c_per
                          repeat' split
                          all_goals first | rfl | (exfalso; omega) | (refine Prod.ext ?_ ?_ <;> first | rfl | (show _ = _; omega))
                        rw [ev0] at hQ
                        dsimp only at hQ
                        exact hQ m (hz0.fr fr (by omega)) fr.M
                    · refine And.intro (show (m (m 20 mo) (-1)) = 11 by first | assumption | omega | (simp only [mS_iff, eq_self, Int.reduceEq, true_and, and_true, false_and, and_false, and_self, ↓reduceIte]; omega) | (simp only [mS_iff, eq_self, Int.reduceEq, true_and, and_true, false_and, and_false, and_self, ↓reduceIte] at *; omega)) ?_
                      refine And.intro (fun h27 => ?_) (fun h27 => ?_)
                      · have ev0 : c_per S w f mo b own = ((-4), S) := by
                          unfold c_per
                          repeat' split
                          all_goals first | rfl | (exfalso; omega) | (refine Prod.ext ?_ ?_ <;> first | rfl | (show _ = _; omega))
                        rw [ev0] at hQ
                        dsimp only at hQ
                        exact hQ m (hz0.fr fr (by omega)) fr.M
                      · refine And.intro (show (m (m 20 mo) (-1)) = 11 by first | assumption | omega | (simp only [mS_iff, eq_self, Int.reduceEq, true_and, and_true, false_and, and_false, and_self, ↓reduceIte]; omega) | (simp only [mS_iff, eq_self, Int.reduceEq, true_and, and_true, false_and, and_false, and_self, ↓reduceIte] at *; omega)) ?_
                        refine And.intro (fun h28 => ?_) (fun h28 => ?_)
                        · refine And.intro (rfl) ?_
                          refine And.intro (fun h29 => ?_) (fun h29 => ?_)
                          · refine And.intro (by first | omega | (simp only [mS_iff, eq_self, Int.reduceEq, true_and, and_true, false_and, and_false, and_self, ↓reduceIte]; omega) | (simp only [mS_iff, eq_self, Int.reduceEq, true_and, and_true, false_and, and_false, and_self, ↓reduceIte] at *; omega)) ?_
                            generalize h32 : mN m 11 7 = mw30
                            generalize h33 : m 0 0 + 1 = r31
                            obtain ⟨w1, w2, w3, w4, w5, w6⟩ := mN_f h32 h33 (by omega)
                            have rr : r31 = m 0 0 + 1 := Eq.symm h33
                            have e22 : mw30 1 22 = S 0 4 := by rw [w5 1 22 (by omega) (by omega)]; exact q22
                            refine And.intro (show 0 < r31 by first | omega | (simp only [mS_iff, eq_self, Int.reduceEq, true_and, and_true, false_and, and_false, and_self, ↓reduceIte]; omega) | (simp only [mS_iff, eq_self, Int.reduceEq, true_and, and_true, false_and, and_false, and_self, ↓reduceIte] at *; omega)) ?_
                            refine am_in (k := 0) rfl (by omega) (fun d hd => ?_)
                            refine am_go 400 [] (am_wpc_cm _ _ _) wf_320 ?_
                            refine And.intro (show 0 < r31 by first | omega | (simp only [mS_iff, eq_self, Int.reduceEq, true_and, and_true, false_and, and_false, and_self, ↓reduceIte]; omega) | (simp only [mS_iff, eq_self, Int.reduceEq, true_and, and_true, false_and, and_false, and_self, ↓reduceIte] at *; omega)) ?_
                            refine And.intro (show 0 < r31 ∧ (mw30 r31 (-1)) = 11 by first | omega | (simp only [mS_iff, eq_self, Int.reduceEq, true_and, and_true, false_and, and_false, and_self, ↓reduceIte]; omega) | (simp only [mS_iff, eq_self, Int.reduceEq, true_and, and_true, false_and, and_false, and_self, ↓reduceIte] at *; omega)) ?_
                            refine And.intro (show 0 < r31 ∧ ((mS mw30 r31 5 10000) r31 (-1)) = 11 ∧ (w = 0 ∨ w = 1) by first | omega | (simp only [mS_iff, eq_self, Int.reduceEq, true_and, and_true, false_and, and_false, and_self, ↓reduceIte]; omega) | (simp only [mS_iff, eq_self, Int.reduceEq, true_and, and_true, false_and, and_false, and_self, ↓reduceIte] at *; omega)) ?_
                            refine And.intro (show 0 < r31 ∧ ((mS (mS mw30 r31 5 10000) r31 0 w) r31 (-1)) = 11 by first | omega | (simp only [mS_iff, eq_self, Int.reduceEq, true_and, and_true, false_and, and_false, and_self, ↓reduceIte]; omega) | (simp only [mS_iff, eq_self, Int.reduceEq, true_and, and_true, false_and, and_false, and_self, ↓reduceIte] at *; omega)) ?_
                            refine And.intro (show 0 < r31 ∧ ((mS (mS (mS mw30 r31 5 10000) r31 0 w) r31 1 (m 20 f)) r31 (-1)) = 11 by first | omega | (simp only [mS_iff, eq_self, Int.reduceEq, true_and, and_true, false_and, and_false, and_self, ↓reduceIte]; omega) | (simp only [mS_iff, eq_self, Int.reduceEq, true_and, and_true, false_and, and_false, and_self, ↓reduceIte] at *; omega)) ?_
                            refine And.intro (show 0 < r31 ∧ ((mS (mS (mS (mS mw30 r31 5 10000) r31 0 w) r31 1 (m 20 f)) r31 2 (m 20 mo)) r31 (-1)) = 11 by first | omega | (simp only [mS_iff, eq_self, Int.reduceEq, true_and, and_true, false_and, and_false, and_self, ↓reduceIte]; omega) | (simp only [mS_iff, eq_self, Int.reduceEq, true_and, and_true, false_and, and_false, and_self, ↓reduceIte] at *; omega)) ?_
                            refine And.intro (show 0 < r31 ∧ ((mS (mS (mS (mS (mS mw30 r31 5 10000) r31 0 w) r31 1 (m 20 f)) r31 2 (m 20 mo)) r31 4 b) r31 (-1)) = 11 by first | omega | (simp only [mS_iff, eq_self, Int.reduceEq, true_and, and_true, false_and, and_false, and_self, ↓reduceIte]; omega) | (simp only [mS_iff, eq_self, Int.reduceEq, true_and, and_true, false_and, and_false, and_self, ↓reduceIte] at *; omega)) ?_
                            obtain ⟨mp, emp⟩ : ∃ z, z = (mS (mS (mS (mS (mS (mS mw30 r31 5 10000) r31 0 w) r31 1 (m 20 f)) r31 2 (m 20 mo)) r31 4 b) r31 6 own) := ⟨_, rfl⟩
                            rw [← emp]
                            have fmp : ∀ x j, x ≠ r31 → mp x j = mw30 x j := fun x j u => by rw [emp, mS_a _ _ _ _ u, mS_a _ _ _ _ u, mS_a _ _ _ _ u, mS_a _ _ _ _ u, mS_a _ _ _ _ u, mS_a _ _ _ _ u]
                            have g0 : mp r31 0 = w := by rw [emp]; simp only [mS_iff, eq_self, Int.reduceEq, true_and, and_true, false_and, and_false, and_self, ↓reduceIte]
                            have g1 : mp r31 1 = (m 20 f) := by rw [emp]; simp only [mS_iff, eq_self, Int.reduceEq, true_and, and_true, false_and, and_false, and_self, ↓reduceIte]
                            have g2 : mp r31 2 = (m 20 mo) := by rw [emp]; simp only [mS_iff, eq_self, Int.reduceEq, true_and, and_true, false_and, and_false, and_self, ↓reduceIte]
                            have g4 : mp r31 4 = b := by rw [emp]; simp only [mS_iff, eq_self, Int.reduceEq, true_and, and_true, false_and, and_false, and_self, ↓reduceIte]
                            have g5 : mp r31 5 = 10000 := by rw [emp]; simp only [mS_iff, eq_self, Int.reduceEq, true_and, and_true, false_and, and_false, and_self, ↓reduceIte]
                            have g6 : mp r31 6 = own := by rw [emp]; simp only [mS_iff, eq_self, Int.reduceEq, true_and, and_true, false_and, and_false, and_self, ↓reduceIte]
                            have g7 : mp r31 (-1) = 11 := by rw [emp]; simp only [mS_iff, eq_self, Int.reduceEq, true_and, and_true, false_and, and_false, and_self, ↓reduceIte]; exact w3
                            have e22 : mp 1 22 = S 0 4 := by rw [fmp 1 22 (by omega)]; exact e22
                            refine And.intro (rfl) ?_
                            refine And.intro (show 0 < r31 ∧ (mp r31 (-1)) = 11 by first | omega | (simp only [mS_iff, eq_self, Int.reduceEq, true_and, and_true, false_and, and_false, and_self, ↓reduceIte]; omega) | (simp only [mS_iff, eq_self, Int.reduceEq, true_and, and_true, false_and, and_false, and_self, ↓reduceIte] at *; omega)) ?_
                            obtain ⟨mq, emq⟩ : ∃ z, z = (mS mp r31 3 (mp 1 22)) := ⟨_, rfl⟩
                            rw [← emq]
                            have fmq : ∀ x j, x ≠ r31 → mq x j = mp x j := fun x j u => by rw [emq, mS_a _ _ _ _ u]
                            have g0 : mq r31 0 = _ := (by rw [emq, mS_iff, if_neg (by omega)] : mq r31 0 = mp r31 0).trans g0
                            have g1 : mq r31 1 = _ := (by rw [emq, mS_iff, if_neg (by omega)] : mq r31 1 = mp r31 1).trans g1
                            have g2 : mq r31 2 = _ := (by rw [emq, mS_iff, if_neg (by omega)] : mq r31 2 = mp r31 2).trans g2
                            have g4 : mq r31 4 = _ := (by rw [emq, mS_iff, if_neg (by omega)] : mq r31 4 = mp r31 4).trans g4
                            have g5 : mq r31 5 = _ := (by rw [emq, mS_iff, if_neg (by omega)] : mq r31 5 = mp r31 5).trans g5
                            have g6 : mq r31 6 = _ := (by rw [emq, mS_iff, if_neg (by omega)] : mq r31 6 = mp r31 6).trans g6
                            have g7 : mq r31 (-1) = _ := (by rw [emq, mS_iff, if_neg (by omega)] : mq r31 (-1) = mp r31 (-1)).trans g7
                            have g3 : mq r31 3 = S 0 4 := by rw [emq, mS_iff, if_pos ⟨rfl, rfl⟩]; exact e22
                            have e22 : mq 1 22 = S 0 4 := by rw [fmq 1 22 (by omega)]; exact e22
                            refine And.intro (rfl) ?_
                            refine And.intro (rfl) ?_
                            refine And.intro (⟨rfl, by omega, by omega, Or.inr ⟨by omega, g7⟩⟩) ?_
                            refine And.intro (rfl) ?_
                            refine And.intro (show -2147483648 ≤ (mq 1 22) + 1 ∧ (mq 1 22) + 1 ≤ 2147483647 by first | omega | (simp only [mS_iff, eq_self, Int.reduceEq, true_and, and_true, false_and, and_false, and_self, ↓reduceIte]; omega) | (simp only [mS_iff, eq_self, Int.reduceEq, true_and, and_true, false_and, and_false, and_self, ↓reduceIte] at *; omega)) ?_
                            refine And.intro (rfl) ?_
                            refine And.intro (by rw [mS_iff, if_neg (by omega), mS_iff, if_neg (by omega)]; exact g7) ?_
                            have ev0 : c_per S w f mo b own = (S 0 4, sPn S w f mo b own) := by
                              unfold c_per
                              repeat' split
                              all_goals first | rfl | (exfalso; omega) | (refine Prod.ext ?_ ?_ <;> first | rfl | (show _ = _; omega))
                            rw [ev0] at hQ
                            dsimp only at hQ
                            have ok : okPn S w f mo b own := ⟨hw, p1, p2, dy, by omega, by omega, by omega⟩
                            have hf : (m 20 f) = hpr m f := by unfold hpr; rw [if_neg (by omega)]
                            have hm : (m 20 mo) = hpr m mo := by unfold hpr; rw [if_neg (by omega)]
                            have ff : ∀ x j, x ≠ r31 → mq x j = mw30 x j := fun x j u => (fmq x j u).trans (fmp x j u)
                            have z00 := ff 0 0 (by omega)
                            have z01 := ff 0 1 (by omega)
                            have NP : hNp m ((mS (mS mq 20 (mq 1 22) r31) 1 22 ((mq 1 22) + 1))) (S 0 4) w (hpr m f) (hpr m mo) b own := by
                              refine ⟨by rw [mS_iff, if_neg (by omega), mS_iff, if_neg (by omega)]; omega, by rw [mS_iff, if_neg (by omega), mS_iff, if_neg (by omega)]; omega, fun j u v => by rw [mS_iff, if_neg (by omega), mS_iff, if_neg (by omega)]; exact (ff 0 j (by omega)).trans (w6 j u v), fun x j u v y z => by rw [mS_iff, if_neg (by omega), mS_iff, if_neg (by omega)]; exact (ff x j (by omega)).trans (w5 x j u (by omega)), ?_, ?_, ?_, ?_, ?_, ?_, ?_, ?_, ?_, ?_⟩
                              all_goals try rw [← rr]
                              · rw [← e22]
                                simp only [mS_iff, eq_self, Int.reduceEq, true_and, and_true, false_and, and_false, and_self, ↓reduceIte]
                              · simp only [mS_iff, eq_self, Int.reduceEq, true_and, and_true, false_and, and_false, and_self, ↓reduceIte]
                                omega
                              · rw [mS_iff, if_neg (by omega), mS_iff, if_neg (by omega)]
                                exact g7
                              · rw [mS_iff, if_neg (by omega), mS_iff, if_neg (by omega)]
                                exact g0
                              · rw [mS_iff, if_neg (by omega), mS_iff, if_neg (by omega)]
                                exact g1.trans hf
                              · rw [mS_iff, if_neg (by omega), mS_iff, if_neg (by omega)]
                                exact g2.trans hm
                              · rw [mS_iff, if_neg (by omega), mS_iff, if_neg (by omega)]
                                exact g3
                              · rw [mS_iff, if_neg (by omega), mS_iff, if_neg (by omega)]
                                exact g4
                              · rw [mS_iff, if_neg (by omega), mS_iff, if_neg (by omega)]
                                exact g5
                              · rw [mS_iff, if_neg (by omega), mS_iff, if_neg (by omega)]
                                exact g6
                            show Q (.inl (some (aI ((mS (mS mq 20 (mq 1 22) r31) 1 22 ((mq 1 22) + 1)) r31 3)))) ((mS (mS mq 20 (mq 1 22) r31) 1 22 ((mq 1 22) + 1)))
                            rw [show ((mS (mS mq 20 (mq 1 22) r31) 1 22 ((mq 1 22) + 1)) r31 3) = S 0 4 from (by rw [mS_iff, if_neg (by omega), mS_iff, if_neg (by omega)]; exact g3)]
                            exact hQ _ ⟨h.pn ok NP, ⟨by rw [NP.1]; omega, by have := NP.2.1; omega, by have := NP.2.1; omega, by rw [NP.2.2.2.1 1 14 (by omega) (by omega) (by omega) (by omega)]; omega, by rw [NP.2.2.2.1 1 14 (by omega) (by omega) (by omega) (by omega)]; omega⟩⟩ (fun x j u v => NP.2.2.2.1 x j (by omega) (by omega) (by omega) (by omega))
                          · have ev0 : c_per S w f mo b own = ((-5), S) := by
                              unfold c_per
                              repeat' split
                              all_goals first | rfl | (exfalso; omega) | (refine Prod.ext ?_ ?_ <;> first | rfl | (show _ = _; omega))
                            rw [ev0] at hQ
                            dsimp only at hQ
                            exact hQ m (hz0.fr fr (by omega)) fr.M
                        · have ev0 : c_per S w f mo b own = ((-4), S) := by
                            unfold c_per
                            repeat' split
                            all_goals first | rfl | (exfalso; omega) | (refine Prod.ext ?_ ?_ <;> first | rfl | (show _ = _; omega))
                          rw [ev0] at hQ
                          dsimp only at hQ
                          exact hQ m (hz0.fr fr (by omega)) fr.M
            · skip
              refine And.intro (show (m 20 f) ≠ -9 by first | omega | (simp only [mS_iff, eq_self, Int.reduceEq, true_and, and_true, false_and, and_false, and_self, ↓reduceIte]; omega) | (simp only [mS_iff, eq_self, Int.reduceEq, true_and, and_true, false_and, and_false, and_self, ↓reduceIte] at *; omega)) ?_
              refine And.intro (fun h34 => ?_) (fun h34 => ?_)
              · refine And.intro (by decide) ?_
                refine And.intro (fun _ => ?_) (fun h => absurd h (by decide))
                refine And.intro (rfl) ?_
                refine And.intro (fun h35 => ?_) (fun h35 => ?_)
                · refine And.intro (by first | omega | (simp only [mS_iff, eq_self, Int.reduceEq, true_and, and_true, false_and, and_false, and_self, ↓reduceIte]; omega) | (simp only [mS_iff, eq_self, Int.reduceEq, true_and, and_true, false_and, and_false, and_self, ↓reduceIte] at *; omega)) ?_
                  generalize h38 : mN m 11 7 = mw36
                  generalize h39 : m 0 0 + 1 = r37
                  obtain ⟨w1, w2, w3, w4, w5, w6⟩ := mN_f h38 h39 (by omega)
                  have rr : r37 = m 0 0 + 1 := Eq.symm h39
                  have e22 : mw36 1 22 = S 0 4 := by rw [w5 1 22 (by omega) (by omega)]; exact q22
                  refine And.intro (show 0 < r37 by first | omega | (simp only [mS_iff, eq_self, Int.reduceEq, true_and, and_true, false_and, and_false, and_self, ↓reduceIte]; omega) | (simp only [mS_iff, eq_self, Int.reduceEq, true_and, and_true, false_and, and_false, and_self, ↓reduceIte] at *; omega)) ?_
                  refine am_in (k := 0) rfl (by omega) (fun d hd => ?_)
                  refine am_go 400 [] (am_wpc_cm _ _ _) wf_320 ?_
                  refine And.intro (show 0 < r37 by first | omega | (simp only [mS_iff, eq_self, Int.reduceEq, true_and, and_true, false_and, and_false, and_self, ↓reduceIte]; omega) | (simp only [mS_iff, eq_self, Int.reduceEq, true_and, and_true, false_and, and_false, and_self, ↓reduceIte] at *; omega)) ?_
                  refine And.intro (show 0 < r37 ∧ (mw36 r37 (-1)) = 11 by first | omega | (simp only [mS_iff, eq_self, Int.reduceEq, true_and, and_true, false_and, and_false, and_self, ↓reduceIte]; omega) | (simp only [mS_iff, eq_self, Int.reduceEq, true_and, and_true, false_and, and_false, and_self, ↓reduceIte] at *; omega)) ?_
                  refine And.intro (show 0 < r37 ∧ ((mS mw36 r37 5 10000) r37 (-1)) = 11 ∧ (w = 0 ∨ w = 1) by first | omega | (simp only [mS_iff, eq_self, Int.reduceEq, true_and, and_true, false_and, and_false, and_self, ↓reduceIte]; omega) | (simp only [mS_iff, eq_self, Int.reduceEq, true_and, and_true, false_and, and_false, and_self, ↓reduceIte] at *; omega)) ?_
                  refine And.intro (show 0 < r37 ∧ ((mS (mS mw36 r37 5 10000) r37 0 w) r37 (-1)) = 11 by first | omega | (simp only [mS_iff, eq_self, Int.reduceEq, true_and, and_true, false_and, and_false, and_self, ↓reduceIte]; omega) | (simp only [mS_iff, eq_self, Int.reduceEq, true_and, and_true, false_and, and_false, and_self, ↓reduceIte] at *; omega)) ?_
                  refine And.intro (show 0 < r37 ∧ ((mS (mS (mS mw36 r37 5 10000) r37 0 w) r37 1 (m 20 f)) r37 (-1)) = 11 by first | omega | (simp only [mS_iff, eq_self, Int.reduceEq, true_and, and_true, false_and, and_false, and_self, ↓reduceIte]; omega) | (simp only [mS_iff, eq_self, Int.reduceEq, true_and, and_true, false_and, and_false, and_self, ↓reduceIte] at *; omega)) ?_
                  refine And.intro (show 0 < r37 ∧ ((mS (mS (mS (mS mw36 r37 5 10000) r37 0 w) r37 1 (m 20 f)) r37 2 0) r37 (-1)) = 11 by first | omega | (simp only [mS_iff, eq_self, Int.reduceEq, true_and, and_true, false_and, and_false, and_self, ↓reduceIte]; omega) | (simp only [mS_iff, eq_self, Int.reduceEq, true_and, and_true, false_and, and_false, and_self, ↓reduceIte] at *; omega)) ?_
                  refine And.intro (show 0 < r37 ∧ ((mS (mS (mS (mS (mS mw36 r37 5 10000) r37 0 w) r37 1 (m 20 f)) r37 2 0) r37 4 b) r37 (-1)) = 11 by first | omega | (simp only [mS_iff, eq_self, Int.reduceEq, true_and, and_true, false_and, and_false, and_self, ↓reduceIte]; omega) | (simp only [mS_iff, eq_self, Int.reduceEq, true_and, and_true, false_and, and_false, and_self, ↓reduceIte] at *; omega)) ?_
                  obtain ⟨mp, emp⟩ : ∃ z, z = (mS (mS (mS (mS (mS (mS mw36 r37 5 10000) r37 0 w) r37 1 (m 20 f)) r37 2 0) r37 4 b) r37 6 own) := ⟨_, rfl⟩
                  rw [← emp]
                  have fmp : ∀ x j, x ≠ r37 → mp x j = mw36 x j := fun x j u => by rw [emp, mS_a _ _ _ _ u, mS_a _ _ _ _ u, mS_a _ _ _ _ u, mS_a _ _ _ _ u, mS_a _ _ _ _ u, mS_a _ _ _ _ u]
                  have g0 : mp r37 0 = w := by rw [emp]; simp only [mS_iff, eq_self, Int.reduceEq, true_and, and_true, false_and, and_false, and_self, ↓reduceIte]
                  have g1 : mp r37 1 = (m 20 f) := by rw [emp]; simp only [mS_iff, eq_self, Int.reduceEq, true_and, and_true, false_and, and_false, and_self, ↓reduceIte]
                  have g2 : mp r37 2 = 0 := by rw [emp]; simp only [mS_iff, eq_self, Int.reduceEq, true_and, and_true, false_and, and_false, and_self, ↓reduceIte]
                  have g4 : mp r37 4 = b := by rw [emp]; simp only [mS_iff, eq_self, Int.reduceEq, true_and, and_true, false_and, and_false, and_self, ↓reduceIte]
                  have g5 : mp r37 5 = 10000 := by rw [emp]; simp only [mS_iff, eq_self, Int.reduceEq, true_and, and_true, false_and, and_false, and_self, ↓reduceIte]
                  have g6 : mp r37 6 = own := by rw [emp]; simp only [mS_iff, eq_self, Int.reduceEq, true_and, and_true, false_and, and_false, and_self, ↓reduceIte]
                  have g7 : mp r37 (-1) = 11 := by rw [emp]; simp only [mS_iff, eq_self, Int.reduceEq, true_and, and_true, false_and, and_false, and_self, ↓reduceIte]; exact w3
                  have e22 : mp 1 22 = S 0 4 := by rw [fmp 1 22 (by omega)]; exact e22
                  refine And.intro (rfl) ?_
                  refine And.intro (show 0 < r37 ∧ (mp r37 (-1)) = 11 by first | omega | (simp only [mS_iff, eq_self, Int.reduceEq, true_and, and_true, false_and, and_false, and_self, ↓reduceIte]; omega) | (simp only [mS_iff, eq_self, Int.reduceEq, true_and, and_true, false_and, and_false, and_self, ↓reduceIte] at *; omega)) ?_
                  obtain ⟨mq, emq⟩ : ∃ z, z = (mS mp r37 3 (mp 1 22)) := ⟨_, rfl⟩
                  rw [← emq]
                  have fmq : ∀ x j, x ≠ r37 → mq x j = mp x j := fun x j u => by rw [emq, mS_a _ _ _ _ u]
                  have g0 : mq r37 0 = _ := (by rw [emq, mS_iff, if_neg (by omega)] : mq r37 0 = mp r37 0).trans g0
                  have g1 : mq r37 1 = _ := (by rw [emq, mS_iff, if_neg (by omega)] : mq r37 1 = mp r37 1).trans g1
                  have g2 : mq r37 2 = _ := (by rw [emq, mS_iff, if_neg (by omega)] : mq r37 2 = mp r37 2).trans g2
                  have g4 : mq r37 4 = _ := (by rw [emq, mS_iff, if_neg (by omega)] : mq r37 4 = mp r37 4).trans g4
                  have g5 : mq r37 5 = _ := (by rw [emq, mS_iff, if_neg (by omega)] : mq r37 5 = mp r37 5).trans g5
                  have g6 : mq r37 6 = _ := (by rw [emq, mS_iff, if_neg (by omega)] : mq r37 6 = mp r37 6).trans g6
                  have g7 : mq r37 (-1) = _ := (by rw [emq, mS_iff, if_neg (by omega)] : mq r37 (-1) = mp r37 (-1)).trans g7
                  have g3 : mq r37 3 = S 0 4 := by rw [emq, mS_iff, if_pos ⟨rfl, rfl⟩]; exact e22
                  have e22 : mq 1 22 = S 0 4 := by rw [fmq 1 22 (by omega)]; exact e22
                  refine And.intro (rfl) ?_
                  refine And.intro (rfl) ?_
                  refine And.intro (⟨rfl, by omega, by omega, Or.inr ⟨by omega, g7⟩⟩) ?_
                  refine And.intro (rfl) ?_
                  refine And.intro (show -2147483648 ≤ (mq 1 22) + 1 ∧ (mq 1 22) + 1 ≤ 2147483647 by first | omega | (simp only [mS_iff, eq_self, Int.reduceEq, true_and, and_true, false_and, and_false, and_self, ↓reduceIte]; omega) | (simp only [mS_iff, eq_self, Int.reduceEq, true_and, and_true, false_and, and_false, and_self, ↓reduceIte] at *; omega)) ?_
                  refine And.intro (rfl) ?_
                  refine And.intro (by rw [mS_iff, if_neg (by omega), mS_iff, if_neg (by omega)]; exact g7) ?_
                  have ev0 : c_per S w f mo b own = (S 0 4, sPn S w f mo b own) := by
                    unfold c_per
                    repeat' split
                    all_goals first | rfl | (exfalso; omega) | (refine Prod.ext ?_ ?_ <;> first | rfl | (show _ = _; omega))
                  rw [ev0] at hQ
                  dsimp only at hQ
                  have ok : okPn S w f mo b own := ⟨hw, p1, p2, dy, by omega, by omega, by omega⟩
                  have hf : (m 20 f) = hpr m f := by unfold hpr; rw [if_neg (by omega)]
                  have hm : 0 = hpr m mo := by unfold hpr; rw [if_pos (by omega)]
                  have ff : ∀ x j, x ≠ r37 → mq x j = mw36 x j := fun x j u => (fmq x j u).trans (fmp x j u)
                  have z00 := ff 0 0 (by omega)
                  have z01 := ff 0 1 (by omega)
                  have NP : hNp m ((mS (mS mq 20 (mq 1 22) r37) 1 22 ((mq 1 22) + 1))) (S 0 4) w (hpr m f) (hpr m mo) b own := by
                    refine ⟨by rw [mS_iff, if_neg (by omega), mS_iff, if_neg (by omega)]; omega, by rw [mS_iff, if_neg (by omega), mS_iff, if_neg (by omega)]; omega, fun j u v => by rw [mS_iff, if_neg (by omega), mS_iff, if_neg (by omega)]; exact (ff 0 j (by omega)).trans (w6 j u v), fun x j u v y z => by rw [mS_iff, if_neg (by omega), mS_iff, if_neg (by omega)]; exact (ff x j (by omega)).trans (w5 x j u (by omega)), ?_, ?_, ?_, ?_, ?_, ?_, ?_, ?_, ?_, ?_⟩
                    all_goals try rw [← rr]
                    · rw [← e22]
                      simp only [mS_iff, eq_self, Int.reduceEq, true_and, and_true, false_and, and_false, and_self, ↓reduceIte]
                    · simp only [mS_iff, eq_self, Int.reduceEq, true_and, and_true, false_and, and_false, and_self, ↓reduceIte]
                      omega
                    · rw [mS_iff, if_neg (by omega), mS_iff, if_neg (by omega)]
                      exact g7
                    · rw [mS_iff, if_neg (by omega), mS_iff, if_neg (by omega)]
                      exact g0
                    · rw [mS_iff, if_neg (by omega), mS_iff, if_neg (by omega)]
                      exact g1.trans hf
                    · rw [mS_iff, if_neg (by omega), mS_iff, if_neg (by omega)]
                      exact g2.trans hm
                    · rw [mS_iff, if_neg (by omega), mS_iff, if_neg (by omega)]
                      exact g3
                    · rw [mS_iff, if_neg (by omega), mS_iff, if_neg (by omega)]
                      exact g4
                    · rw [mS_iff, if_neg (by omega), mS_iff, if_neg (by omega)]
                      exact g5
                    · rw [mS_iff, if_neg (by omega), mS_iff, if_neg (by omega)]
                      exact g6
                  show Q (.inl (some (aI ((mS (mS mq 20 (mq 1 22) r37) 1 22 ((mq 1 22) + 1)) r37 3)))) ((mS (mS mq 20 (mq 1 22) r37) 1 22 ((mq 1 22) + 1)))
                  rw [show ((mS (mS mq 20 (mq 1 22) r37) 1 22 ((mq 1 22) + 1)) r37 3) = S 0 4 from (by rw [mS_iff, if_neg (by omega), mS_iff, if_neg (by omega)]; exact g3)]
                  exact hQ _ ⟨h.pn ok NP, ⟨by rw [NP.1]; omega, by have := NP.2.1; omega, by have := NP.2.1; omega, by rw [NP.2.2.2.1 1 14 (by omega) (by omega) (by omega) (by omega)]; omega, by rw [NP.2.2.2.1 1 14 (by omega) (by omega) (by omega) (by omega)]; omega⟩⟩ (fun x j u v => NP.2.2.2.1 x j (by omega) (by omega) (by omega) (by omega))
                · have ev0 : c_per S w f mo b own = ((-5), S) := by
                    unfold c_per
                    repeat' split
                    all_goals first | rfl | (exfalso; omega) | (refine Prod.ext ?_ ?_ <;> first | rfl | (show _ = _; omega))
                  rw [ev0] at hQ
                  dsimp only at hQ
                  exact hQ m (hz0.fr fr (by omega)) fr.M
              · refine And.intro (show (m (m 20 f) (-1)) = 11 by first | assumption | omega | (simp only [mS_iff, eq_self, Int.reduceEq, true_and, and_true, false_and, and_false, and_self, ↓reduceIte]; omega) | (simp only [mS_iff, eq_self, Int.reduceEq, true_and, and_true, false_and, and_false, and_self, ↓reduceIte] at *; omega)) ?_
                refine And.intro (fun h40 => ?_) (fun h40 => ?_)
                · have ev0 : c_per S w f mo b own = ((-4), S) := by
                    unfold c_per
                    repeat' split
                    all_goals first | rfl | (exfalso; omega) | (refine Prod.ext ?_ ?_ <;> first | rfl | (show _ = _; omega))
                  rw [ev0] at hQ
                  dsimp only at hQ
                  exact hQ m (hz0.fr fr (by omega)) fr.M
                · refine And.intro (show (m (m 20 f) (-1)) = 11 by first | assumption | omega | (simp only [mS_iff, eq_self, Int.reduceEq, true_and, and_true, false_and, and_false, and_self, ↓reduceIte]; omega) | (simp only [mS_iff, eq_self, Int.reduceEq, true_and, and_true, false_and, and_false, and_self, ↓reduceIte] at *; omega)) ?_
                  refine And.intro (fun h41 => ?_) (fun h41 => ?_)
                  · have ev0 : c_per S w f mo b own = ((-4), S) := by
                      unfold c_per
                      repeat' split
                      all_goals first | rfl | (exfalso; omega) | (refine Prod.ext ?_ ?_ <;> first | rfl | (show _ = _; omega))
                    rw [ev0] at hQ
                    dsimp only at hQ
                    exact hQ m (hz0.fr fr (by omega)) fr.M
                  · refine And.intro (by decide) ?_
                    refine And.intro (fun _ => ?_) (fun h => absurd h (by decide))
                    refine And.intro (rfl) ?_
                    refine And.intro (fun h42 => ?_) (fun h42 => ?_)
                    · refine And.intro (by first | omega | (simp only [mS_iff, eq_self, Int.reduceEq, true_and, and_true, false_and, and_false, and_self, ↓reduceIte]; omega) | (simp only [mS_iff, eq_self, Int.reduceEq, true_and, and_true, false_and, and_false, and_self, ↓reduceIte] at *; omega)) ?_
                      generalize h45 : mN m 11 7 = mw43
                      generalize h46 : m 0 0 + 1 = r44
                      obtain ⟨w1, w2, w3, w4, w5, w6⟩ := mN_f h45 h46 (by omega)
                      have rr : r44 = m 0 0 + 1 := Eq.symm h46
                      have e22 : mw43 1 22 = S 0 4 := by rw [w5 1 22 (by omega) (by omega)]; exact q22
                      refine And.intro (show 0 < r44 by first | omega | (simp only [mS_iff, eq_self, Int.reduceEq, true_and, and_true, false_and, and_false, and_self, ↓reduceIte]; omega) | (simp only [mS_iff, eq_self, Int.reduceEq, true_and, and_true, false_and, and_false, and_self, ↓reduceIte] at *; omega)) ?_
                      refine am_in (k := 0) rfl (by omega) (fun d hd => ?_)
                      refine am_go 400 [] (am_wpc_cm _ _ _) wf_320 ?_
                      refine And.intro (show 0 < r44 by first | omega | (simp only [mS_iff, eq_self, Int.reduceEq, true_and, and_true, false_and, and_false, and_self, ↓reduceIte]; omega) | (simp only [mS_iff, eq_self, Int.reduceEq, true_and, and_true, false_and, and_false, and_self, ↓reduceIte] at *; omega)) ?_
                      refine And.intro (show 0 < r44 ∧ (mw43 r44 (-1)) = 11 by first | omega | (simp only [mS_iff, eq_self, Int.reduceEq, true_and, and_true, false_and, and_false, and_self, ↓reduceIte]; omega) | (simp only [mS_iff, eq_self, Int.reduceEq, true_and, and_true, false_and, and_false, and_self, ↓reduceIte] at *; omega)) ?_
                      refine And.intro (show 0 < r44 ∧ ((mS mw43 r44 5 10000) r44 (-1)) = 11 ∧ (w = 0 ∨ w = 1) by first | omega | (simp only [mS_iff, eq_self, Int.reduceEq, true_and, and_true, false_and, and_false, and_self, ↓reduceIte]; omega) | (simp only [mS_iff, eq_self, Int.reduceEq, true_and, and_true, false_and, and_false, and_self, ↓reduceIte] at *; omega)) ?_
                      refine And.intro (show 0 < r44 ∧ ((mS (mS mw43 r44 5 10000) r44 0 w) r44 (-1)) = 11 by first | omega | (simp only [mS_iff, eq_self, Int.reduceEq, true_and, and_true, false_and, and_false, and_self, ↓reduceIte]; omega) | (simp only [mS_iff, eq_self, Int.reduceEq, true_and, and_true, false_and, and_false, and_self, ↓reduceIte] at *; omega)) ?_
                      refine And.intro (show 0 < r44 ∧ ((mS (mS (mS mw43 r44 5 10000) r44 0 w) r44 1 (m 20 f)) r44 (-1)) = 11 by first | omega | (simp only [mS_iff, eq_self, Int.reduceEq, true_and, and_true, false_and, and_false, and_self, ↓reduceIte]; omega) | (simp only [mS_iff, eq_self, Int.reduceEq, true_and, and_true, false_and, and_false, and_self, ↓reduceIte] at *; omega)) ?_
                      refine And.intro (show 0 < r44 ∧ ((mS (mS (mS (mS mw43 r44 5 10000) r44 0 w) r44 1 (m 20 f)) r44 2 0) r44 (-1)) = 11 by first | omega | (simp only [mS_iff, eq_self, Int.reduceEq, true_and, and_true, false_and, and_false, and_self, ↓reduceIte]; omega) | (simp only [mS_iff, eq_self, Int.reduceEq, true_and, and_true, false_and, and_false, and_self, ↓reduceIte] at *; omega)) ?_
                      refine And.intro (show 0 < r44 ∧ ((mS (mS (mS (mS (mS mw43 r44 5 10000) r44 0 w) r44 1 (m 20 f)) r44 2 0) r44 4 b) r44 (-1)) = 11 by first | omega | (simp only [mS_iff, eq_self, Int.reduceEq, true_and, and_true, false_and, and_false, and_self, ↓reduceIte]; omega) | (simp only [mS_iff, eq_self, Int.reduceEq, true_and, and_true, false_and, and_false, and_self, ↓reduceIte] at *; omega)) ?_
                      obtain ⟨mp, emp⟩ : ∃ z, z = (mS (mS (mS (mS (mS (mS mw43 r44 5 10000) r44 0 w) r44 1 (m 20 f)) r44 2 0) r44 4 b) r44 6 own) := ⟨_, rfl⟩
                      rw [← emp]
                      have fmp : ∀ x j, x ≠ r44 → mp x j = mw43 x j := fun x j u => by rw [emp, mS_a _ _ _ _ u, mS_a _ _ _ _ u, mS_a _ _ _ _ u, mS_a _ _ _ _ u, mS_a _ _ _ _ u, mS_a _ _ _ _ u]
                      have g0 : mp r44 0 = w := by rw [emp]; simp only [mS_iff, eq_self, Int.reduceEq, true_and, and_true, false_and, and_false, and_self, ↓reduceIte]
                      have g1 : mp r44 1 = (m 20 f) := by rw [emp]; simp only [mS_iff, eq_self, Int.reduceEq, true_and, and_true, false_and, and_false, and_self, ↓reduceIte]
                      have g2 : mp r44 2 = 0 := by rw [emp]; simp only [mS_iff, eq_self, Int.reduceEq, true_and, and_true, false_and, and_false, and_self, ↓reduceIte]
                      have g4 : mp r44 4 = b := by rw [emp]; simp only [mS_iff, eq_self, Int.reduceEq, true_and, and_true, false_and, and_false, and_self, ↓reduceIte]
                      have g5 : mp r44 5 = 10000 := by rw [emp]; simp only [mS_iff, eq_self, Int.reduceEq, true_and, and_true, false_and, and_false, and_self, ↓reduceIte]
                      have g6 : mp r44 6 = own := by rw [emp]; simp only [mS_iff, eq_self, Int.reduceEq, true_and, and_true, false_and, and_false, and_self, ↓reduceIte]
                      have g7 : mp r44 (-1) = 11 := by rw [emp]; simp only [mS_iff, eq_self, Int.reduceEq, true_and, and_true, false_and, and_false, and_self, ↓reduceIte]; exact w3
                      have e22 : mp 1 22 = S 0 4 := by rw [fmp 1 22 (by omega)]; exact e22
                      refine And.intro (rfl) ?_
                      refine And.intro (show 0 < r44 ∧ (mp r44 (-1)) = 11 by first | omega | (simp only [mS_iff, eq_self, Int.reduceEq, true_and, and_true, false_and, and_false, and_self, ↓reduceIte]; omega) | (simp only [mS_iff, eq_self, Int.reduceEq, true_and, and_true, false_and, and_false, and_self, ↓reduceIte] at *; omega)) ?_
                      obtain ⟨mq, emq⟩ : ∃ z, z = (mS mp r44 3 (mp 1 22)) := ⟨_, rfl⟩
                      rw [← emq]
                      have fmq : ∀ x j, x ≠ r44 → mq x j = mp x j := fun x j u => by rw [emq, mS_a _ _ _ _ u]
                      have g0 : mq r44 0 = _ := (by rw [emq, mS_iff, if_neg (by omega)] : mq r44 0 = mp r44 0).trans g0
                      have g1 : mq r44 1 = _ := (by rw [emq, mS_iff, if_neg (by omega)] : mq r44 1 = mp r44 1).trans g1
                      have g2 : mq r44 2 = _ := (by rw [emq, mS_iff, if_neg (by omega)] : mq r44 2 = mp r44 2).trans g2
                      have g4 : mq r44 4 = _ := (by rw [emq, mS_iff, if_neg (by omega)] : mq r44 4 = mp r44 4).trans g4
                      have g5 : mq r44 5 = _ := (by rw [emq, mS_iff, if_neg (by omega)] : mq r44 5 = mp r44 5).trans g5
                      have g6 : mq r44 6 = _ := (by rw [emq, mS_iff, if_neg (by omega)] : mq r44 6 = mp r44 6).trans g6
                      have g7 : mq r44 (-1) = _ := (by rw [emq, mS_iff, if_neg (by omega)] : mq r44 (-1) = mp r44 (-1)).trans g7
                      have g3 : mq r44 3 = S 0 4 := by rw [emq, mS_iff, if_pos ⟨rfl, rfl⟩]; exact e22
                      have e22 : mq 1 22 = S 0 4 := by rw [fmq 1 22 (by omega)]; exact e22
                      refine And.intro (rfl) ?_
                      refine And.intro (rfl) ?_
                      refine And.intro (⟨rfl, by omega, by omega, Or.inr ⟨by omega, g7⟩⟩) ?_
                      refine And.intro (rfl) ?_
                      refine And.intro (show -2147483648 ≤ (mq 1 22) + 1 ∧ (mq 1 22) + 1 ≤ 2147483647 by first | omega | (simp only [mS_iff, eq_self, Int.reduceEq, true_and, and_true, false_and, and_false, and_self, ↓reduceIte]; omega) | (simp only [mS_iff, eq_self, Int.reduceEq, true_and, and_true, false_and, and_false, and_self, ↓reduceIte] at *; omega)) ?_
                      refine And.intro (rfl) ?_
                      refine And.intro (by rw [mS_iff, if_neg (by omega), mS_iff, if_neg (by omega)]; exact g7) ?_
                      have ev0 : c_per S w f mo b own = (S 0 4, sPn S w f mo b own) := by
                        unfold c_per
                        repeat' split
                        all_goals first | rfl | (exfalso; omega) | (refine Prod.ext ?_ ?_ <;> first | rfl | (show _ = _; omega))
                      rw [ev0] at hQ
                      dsimp only at hQ
                      have ok : okPn S w f mo b own := ⟨hw, p1, p2, dy, by omega, by omega, by omega⟩
                      have hf : (m 20 f) = hpr m f := by unfold hpr; rw [if_neg (by omega)]
                      have hm : 0 = hpr m mo := by unfold hpr; rw [if_pos (by omega)]
                      have ff : ∀ x j, x ≠ r44 → mq x j = mw43 x j := fun x j u => (fmq x j u).trans (fmp x j u)
                      have z00 := ff 0 0 (by omega)
                      have z01 := ff 0 1 (by omega)
                      have NP : hNp m ((mS (mS mq 20 (mq 1 22) r44) 1 22 ((mq 1 22) + 1))) (S 0 4) w (hpr m f) (hpr m mo) b own := by
                        refine ⟨by rw [mS_iff, if_neg (by omega), mS_iff, if_neg (by omega)]; omega, by rw [mS_iff, if_neg (by omega), mS_iff, if_neg (by omega)]; omega, fun j u v => by rw [mS_iff, if_neg (by omega), mS_iff, if_neg (by omega)]; exact (ff 0 j (by omega)).trans (w6 j u v), fun x j u v y z => by rw [mS_iff, if_neg (by omega), mS_iff, if_neg (by omega)]; exact (ff x j (by omega)).trans (w5 x j u (by omega)), ?_, ?_, ?_, ?_, ?_, ?_, ?_, ?_, ?_, ?_⟩
                        all_goals try rw [← rr]
                        · rw [← e22]
                          simp only [mS_iff, eq_self, Int.reduceEq, true_and, and_true, false_and, and_false, and_self, ↓reduceIte]
                        · simp only [mS_iff, eq_self, Int.reduceEq, true_and, and_true, false_and, and_false, and_self, ↓reduceIte]
                          omega
                        · rw [mS_iff, if_neg (by omega), mS_iff, if_neg (by omega)]
                          exact g7
                        · rw [mS_iff, if_neg (by omega), mS_iff, if_neg (by omega)]
                          exact g0
                        · rw [mS_iff, if_neg (by omega), mS_iff, if_neg (by omega)]
                          exact g1.trans hf
                        · rw [mS_iff, if_neg (by omega), mS_iff, if_neg (by omega)]
                          exact g2.trans hm
                        · rw [mS_iff, if_neg (by omega), mS_iff, if_neg (by omega)]
                          exact g3
                        · rw [mS_iff, if_neg (by omega), mS_iff, if_neg (by omega)]
                          exact g4
                        · rw [mS_iff, if_neg (by omega), mS_iff, if_neg (by omega)]
                          exact g5
                        · rw [mS_iff, if_neg (by omega), mS_iff, if_neg (by omega)]
                          exact g6
                      show Q (.inl (some (aI ((mS (mS mq 20 (mq 1 22) r44) 1 22 ((mq 1 22) + 1)) r44 3)))) ((mS (mS mq 20 (mq 1 22) r44) 1 22 ((mq 1 22) + 1)))
                      rw [show ((mS (mS mq 20 (mq 1 22) r44) 1 22 ((mq 1 22) + 1)) r44 3) = S 0 4 from (by rw [mS_iff, if_neg (by omega), mS_iff, if_neg (by omega)]; exact g3)]
                      exact hQ _ ⟨h.pn ok NP, ⟨by rw [NP.1]; omega, by have := NP.2.1; omega, by have := NP.2.1; omega, by rw [NP.2.2.2.1 1 14 (by omega) (by omega) (by omega) (by omega)]; omega, by rw [NP.2.2.2.1 1 14 (by omega) (by omega) (by omega) (by omega)]; omega⟩⟩ (fun x j u v => NP.2.2.2.1 x j (by omega) (by omega) (by omega) (by omega))
                    · have ev0 : c_per S w f mo b own = ((-5), S) := by
                        unfold c_per
                        repeat' split
                        all_goals first | rfl | (exfalso; omega) | (refine Prod.ext ?_ ?_ <;> first | rfl | (show _ = _; omega))
                      rw [ev0] at hQ
                      dsimp only at hQ
                      exact hQ m (hz0.fr fr (by omega)) fr.M
          · skip
            refine And.intro (fun h47 => ?_) (fun h47 => ?_)
            · refine And.intro (rfl) ?_
              refine And.intro (⟨rfl, by omega⟩) ?_
              have xmo := h.2.2.2.2.2.1.2.2.1 mo (by omega) (by omega)
              have xmo1 := xmo.1
              have xmo2 := xmo.2.1
              have xmo3 := xmo.2.2.1
              have xmo4 := xmo.2.2.2.2.2.2.1
              have ymo := (h.2.2.2.2.2.1.1.2 mo (by omega) (by omega)).1
              refine And.intro (by decide) ?_
              refine And.intro (fun _ => ?_) (fun h => absurd h (by decide))
              refine And.intro (show (m 20 mo) ≠ -9 by first | omega | (simp only [mS_iff, eq_self, Int.reduceEq, true_and, and_true, false_and, and_false, and_self, ↓reduceIte]; omega) | (simp only [mS_iff, eq_self, Int.reduceEq, true_and, and_true, false_and, and_false, and_self, ↓reduceIte] at *; omega)) ?_
              refine And.intro (fun h48 => ?_) (fun h48 => ?_)
              · refine And.intro (rfl) ?_
                refine And.intro (fun h49 => ?_) (fun h49 => ?_)
                · refine And.intro (by first | omega | (simp only [mS_iff, eq_self, Int.reduceEq, true_and, and_true, false_and, and_false, and_self, ↓reduceIte]; omega) | (simp only [mS_iff, eq_self, Int.reduceEq, true_and, and_true, false_and, and_false, and_self, ↓reduceIte] at *; omega)) ?_
                  generalize h52 : mN m 11 7 = mw50
                  generalize h53 : m 0 0 + 1 = r51
                  obtain ⟨w1, w2, w3, w4, w5, w6⟩ := mN_f h52 h53 (by omega)
                  have rr : r51 = m 0 0 + 1 := Eq.symm h53
                  have e22 : mw50 1 22 = S 0 4 := by rw [w5 1 22 (by omega) (by omega)]; exact q22
                  refine And.intro (show 0 < r51 by first | omega | (simp only [mS_iff, eq_self, Int.reduceEq, true_and, and_true, false_and, and_false, and_self, ↓reduceIte]; omega) | (simp only [mS_iff, eq_self, Int.reduceEq, true_and, and_true, false_and, and_false, and_self, ↓reduceIte] at *; omega)) ?_
                  refine am_in (k := 0) rfl (by omega) (fun d hd => ?_)
                  refine am_go 400 [] (am_wpc_cm _ _ _) wf_320 ?_
                  refine And.intro (show 0 < r51 by first | omega | (simp only [mS_iff, eq_self, Int.reduceEq, true_and, and_true, false_and, and_false, and_self, ↓reduceIte]; omega) | (simp only [mS_iff, eq_self, Int.reduceEq, true_and, and_true, false_and, and_false, and_self, ↓reduceIte] at *; omega)) ?_
                  refine And.intro (show 0 < r51 ∧ (mw50 r51 (-1)) = 11 by first | omega | (simp only [mS_iff, eq_self, Int.reduceEq, true_and, and_true, false_and, and_false, and_self, ↓reduceIte]; omega) | (simp only [mS_iff, eq_self, Int.reduceEq, true_and, and_true, false_and, and_false, and_self, ↓reduceIte] at *; omega)) ?_
                  refine And.intro (show 0 < r51 ∧ ((mS mw50 r51 5 10000) r51 (-1)) = 11 ∧ (w = 0 ∨ w = 1) by first | omega | (simp only [mS_iff, eq_self, Int.reduceEq, true_and, and_true, false_and, and_false, and_self, ↓reduceIte]; omega) | (simp only [mS_iff, eq_self, Int.reduceEq, true_and, and_true, false_and, and_false, and_self, ↓reduceIte] at *; omega)) ?_
                  refine And.intro (show 0 < r51 ∧ ((mS (mS mw50 r51 5 10000) r51 0 w) r51 (-1)) = 11 by first | omega | (simp only [mS_iff, eq_self, Int.reduceEq, true_and, and_true, false_and, and_false, and_self, ↓reduceIte]; omega) | (simp only [mS_iff, eq_self, Int.reduceEq, true_and, and_true, false_and, and_false, and_self, ↓reduceIte] at *; omega)) ?_
                  refine And.intro (show 0 < r51 ∧ ((mS (mS (mS mw50 r51 5 10000) r51 0 w) r51 1 0) r51 (-1)) = 11 by first | omega | (simp only [mS_iff, eq_self, Int.reduceEq, true_and, and_true, false_and, and_false, and_self, ↓reduceIte]; omega) | (simp only [mS_iff, eq_self, Int.reduceEq, true_and, and_true, false_and, and_false, and_self, ↓reduceIte] at *; omega)) ?_
                  refine And.intro (show 0 < r51 ∧ ((mS (mS (mS (mS mw50 r51 5 10000) r51 0 w) r51 1 0) r51 2 (m 20 mo)) r51 (-1)) = 11 by first | omega | (simp only [mS_iff, eq_self, Int.reduceEq, true_and, and_true, false_and, and_false, and_self, ↓reduceIte]; omega) | (simp only [mS_iff, eq_self, Int.reduceEq, true_and, and_true, false_and, and_false, and_self, ↓reduceIte] at *; omega)) ?_
                  refine And.intro (show 0 < r51 ∧ ((mS (mS (mS (mS (mS mw50 r51 5 10000) r51 0 w) r51 1 0) r51 2 (m 20 mo)) r51 4 b) r51 (-1)) = 11 by first | omega | (simp only [mS_iff, eq_self, Int.reduceEq, true_and, and_true, false_and, and_false, and_self, ↓reduceIte]; omega) | (simp only [mS_iff, eq_self, Int.reduceEq, true_and, and_true, false_and, and_false, and_self, ↓reduceIte] at *; omega)) ?_
                  obtain ⟨mp, emp⟩ : ∃ z, z = (mS (mS (mS (mS (mS (mS mw50 r51 5 10000) r51 0 w) r51 1 0) r51 2 (m 20 mo)) r51 4 b) r51 6 own) := ⟨_, rfl⟩
                  rw [← emp]
                  have fmp : ∀ x j, x ≠ r51 → mp x j = mw50 x j := fun x j u => by rw [emp, mS_a _ _ _ _ u, mS_a _ _ _ _ u, mS_a _ _ _ _ u, mS_a _ _ _ _ u, mS_a _ _ _ _ u, mS_a _ _ _ _ u]
                  have g0 : mp r51 0 = w := by rw [emp]; simp only [mS_iff, eq_self, Int.reduceEq, true_and, and_true, false_and, and_false, and_self, ↓reduceIte]
                  have g1 : mp r51 1 = 0 := by rw [emp]; simp only [mS_iff, eq_self, Int.reduceEq, true_and, and_true, false_and, and_false, and_self, ↓reduceIte]
                  have g2 : mp r51 2 = (m 20 mo) := by rw [emp]; simp only [mS_iff, eq_self, Int.reduceEq, true_and, and_true, false_and, and_false, and_self, ↓reduceIte]
                  have g4 : mp r51 4 = b := by rw [emp]; simp only [mS_iff, eq_self, Int.reduceEq, true_and, and_true, false_and, and_false, and_self, ↓reduceIte]
                  have g5 : mp r51 5 = 10000 := by rw [emp]; simp only [mS_iff, eq_self, Int.reduceEq, true_and, and_true, false_and, and_false, and_self, ↓reduceIte]
                  have g6 : mp r51 6 = own := by rw [emp]; simp only [mS_iff, eq_self, Int.reduceEq, true_and, and_true, false_and, and_false, and_self, ↓reduceIte]
                  have g7 : mp r51 (-1) = 11 := by rw [emp]; simp only [mS_iff, eq_self, Int.reduceEq, true_and, and_true, false_and, and_false, and_self, ↓reduceIte]; exact w3
                  have e22 : mp 1 22 = S 0 4 := by rw [fmp 1 22 (by omega)]; exact e22
                  refine And.intro (rfl) ?_
                  refine And.intro (show 0 < r51 ∧ (mp r51 (-1)) = 11 by first | omega | (simp only [mS_iff, eq_self, Int.reduceEq, true_and, and_true, false_and, and_false, and_self, ↓reduceIte]; omega) | (simp only [mS_iff, eq_self, Int.reduceEq, true_and, and_true, false_and, and_false, and_self, ↓reduceIte] at *; omega)) ?_
                  obtain ⟨mq, emq⟩ : ∃ z, z = (mS mp r51 3 (mp 1 22)) := ⟨_, rfl⟩
                  rw [← emq]
                  have fmq : ∀ x j, x ≠ r51 → mq x j = mp x j := fun x j u => by rw [emq, mS_a _ _ _ _ u]
                  have g0 : mq r51 0 = _ := (by rw [emq, mS_iff, if_neg (by omega)] : mq r51 0 = mp r51 0).trans g0
                  have g1 : mq r51 1 = _ := (by rw [emq, mS_iff, if_neg (by omega)] : mq r51 1 = mp r51 1).trans g1
                  have g2 : mq r51 2 = _ := (by rw [emq, mS_iff, if_neg (by omega)] : mq r51 2 = mp r51 2).trans g2
                  have g4 : mq r51 4 = _ := (by rw [emq, mS_iff, if_neg (by omega)] : mq r51 4 = mp r51 4).trans g4
                  have g5 : mq r51 5 = _ := (by rw [emq, mS_iff, if_neg (by omega)] : mq r51 5 = mp r51 5).trans g5
                  have g6 : mq r51 6 = _ := (by rw [emq, mS_iff, if_neg (by omega)] : mq r51 6 = mp r51 6).trans g6
                  have g7 : mq r51 (-1) = _ := (by rw [emq, mS_iff, if_neg (by omega)] : mq r51 (-1) = mp r51 (-1)).trans g7
                  have g3 : mq r51 3 = S 0 4 := by rw [emq, mS_iff, if_pos ⟨rfl, rfl⟩]; exact e22
                  have e22 : mq 1 22 = S 0 4 := by rw [fmq 1 22 (by omega)]; exact e22
                  refine And.intro (rfl) ?_
                  refine And.intro (rfl) ?_
                  refine And.intro (⟨rfl, by omega, by omega, Or.inr ⟨by omega, g7⟩⟩) ?_
                  refine And.intro (rfl) ?_
                  refine And.intro (show -2147483648 ≤ (mq 1 22) + 1 ∧ (mq 1 22) + 1 ≤ 2147483647 by first | omega | (simp only [mS_iff, eq_self, Int.reduceEq, true_and, and_true, false_and, and_false, and_self, ↓reduceIte]; omega) | (simp only [mS_iff, eq_self, Int.reduceEq, true_and, and_true, false_and, and_false, and_self, ↓reduceIte] at *; omega)) ?_
                  refine And.intro (rfl) ?_
                  refine And.intro (by rw [mS_iff, if_neg (by omega), mS_iff, if_neg (by omega)]; exact g7) ?_
                  have ev0 : c_per S w f mo b own = (S 0 4, sPn S w f mo b own) := by
                    unfold c_per
                    repeat' split
                    all_goals first | rfl | (exfalso; omega) | (refine Prod.ext ?_ ?_ <;> first | rfl | (show _ = _; omega))
                  rw [ev0] at hQ
                  dsimp only at hQ
                  have ok : okPn S w f mo b own := ⟨hw, p1, p2, dy, by omega, by omega, by omega⟩
                  have hf : 0 = hpr m f := by unfold hpr; rw [if_pos (by omega)]
                  have hm : (m 20 mo) = hpr m mo := by unfold hpr; rw [if_neg (by omega)]
                  have ff : ∀ x j, x ≠ r51 → mq x j = mw50 x j := fun x j u => (fmq x j u).trans (fmp x j u)
                  have z00 := ff 0 0 (by omega)
                  have z01 := ff 0 1 (by omega)
                  have NP : hNp m ((mS (mS mq 20 (mq 1 22) r51) 1 22 ((mq 1 22) + 1))) (S 0 4) w (hpr m f) (hpr m mo) b own := by
                    refine ⟨by rw [mS_iff, if_neg (by omega), mS_iff, if_neg (by omega)]; omega, by rw [mS_iff, if_neg (by omega), mS_iff, if_neg (by omega)]; omega, fun j u v => by rw [mS_iff, if_neg (by omega), mS_iff, if_neg (by omega)]; exact (ff 0 j (by omega)).trans (w6 j u v), fun x j u v y z => by rw [mS_iff, if_neg (by omega), mS_iff, if_neg (by omega)]; exact (ff x j (by omega)).trans (w5 x j u (by omega)), ?_, ?_, ?_, ?_, ?_, ?_, ?_, ?_, ?_, ?_⟩
                    all_goals try rw [← rr]
                    · rw [← e22]
                      simp only [mS_iff, eq_self, Int.reduceEq, true_and, and_true, false_and, and_false, and_self, ↓reduceIte]
                    · simp only [mS_iff, eq_self, Int.reduceEq, true_and, and_true, false_and, and_false, and_self, ↓reduceIte]
                      omega
                    · rw [mS_iff, if_neg (by omega), mS_iff, if_neg (by omega)]
                      exact g7
                    · rw [mS_iff, if_neg (by omega), mS_iff, if_neg (by omega)]
                      exact g0
                    · rw [mS_iff, if_neg (by omega), mS_iff, if_neg (by omega)]
                      exact g1.trans hf
                    · rw [mS_iff, if_neg (by omega), mS_iff, if_neg (by omega)]
                      exact g2.trans hm
                    · rw [mS_iff, if_neg (by omega), mS_iff, if_neg (by omega)]
                      exact g3
                    · rw [mS_iff, if_neg (by omega), mS_iff, if_neg (by omega)]
                      exact g4
                    · rw [mS_iff, if_neg (by omega), mS_iff, if_neg (by omega)]
                      exact g5
                    · rw [mS_iff, if_neg (by omega), mS_iff, if_neg (by omega)]
                      exact g6
                  show Q (.inl (some (aI ((mS (mS mq 20 (mq 1 22) r51) 1 22 ((mq 1 22) + 1)) r51 3)))) ((mS (mS mq 20 (mq 1 22) r51) 1 22 ((mq 1 22) + 1)))
                  rw [show ((mS (mS mq 20 (mq 1 22) r51) 1 22 ((mq 1 22) + 1)) r51 3) = S 0 4 from (by rw [mS_iff, if_neg (by omega), mS_iff, if_neg (by omega)]; exact g3)]
                  exact hQ _ ⟨h.pn ok NP, ⟨by rw [NP.1]; omega, by have := NP.2.1; omega, by have := NP.2.1; omega, by rw [NP.2.2.2.1 1 14 (by omega) (by omega) (by omega) (by omega)]; omega, by rw [NP.2.2.2.1 1 14 (by omega) (by omega) (by omega) (by omega)]; omega⟩⟩ (fun x j u v => NP.2.2.2.1 x j (by omega) (by omega) (by omega) (by omega))
                · have ev0 : c_per S w f mo b own = ((-5), S) := by
                    unfold c_per
                    repeat' split
                    all_goals first | rfl | (exfalso; omega) | (refine Prod.ext ?_ ?_ <;> first | rfl | (show _ = _; omega))
                  rw [ev0] at hQ
                  dsimp only at hQ
                  exact hQ m (hz0.fr fr (by omega)) fr.M
              · refine And.intro (show (m (m 20 mo) (-1)) = 11 by first | assumption | omega | (simp only [mS_iff, eq_self, Int.reduceEq, true_and, and_true, false_and, and_false, and_self, ↓reduceIte]; omega) | (simp only [mS_iff, eq_self, Int.reduceEq, true_and, and_true, false_and, and_false, and_self, ↓reduceIte] at *; omega)) ?_
                refine And.intro (fun h54 => ?_) (fun h54 => ?_)
                · have ev0 : c_per S w f mo b own = ((-4), S) := by
                    unfold c_per
                    repeat' split
                    all_goals first | rfl | (exfalso; omega) | (refine Prod.ext ?_ ?_ <;> first | rfl | (show _ = _; omega))
                  rw [ev0] at hQ
                  dsimp only at hQ
                  exact hQ m (hz0.fr fr (by omega)) fr.M
                · refine And.intro (show (m (m 20 mo) (-1)) = 11 by first | assumption | omega | (simp only [mS_iff, eq_self, Int.reduceEq, true_and, and_true, false_and, and_false, and_self, ↓reduceIte]; omega) | (simp only [mS_iff, eq_self, Int.reduceEq, true_and, and_true, false_and, and_false, and_self, ↓reduceIte] at *; omega)) ?_
                  refine And.intro (fun h55 => ?_) (fun h55 => ?_)
                  · refine And.intro (rfl) ?_
                    refine And.intro (fun h56 => ?_) (fun h56 => ?_)
                    · refine And.intro (by first | omega | (simp only [mS_iff, eq_self, Int.reduceEq, true_and, and_true, false_and, and_false, and_self, ↓reduceIte]; omega) | (simp only [mS_iff, eq_self, Int.reduceEq, true_and, and_true, false_and, and_false, and_self, ↓reduceIte] at *; omega)) ?_
                      generalize h59 : mN m 11 7 = mw57
                      generalize h60 : m 0 0 + 1 = r58
                      obtain ⟨w1, w2, w3, w4, w5, w6⟩ := mN_f h59 h60 (by omega)
                      have rr : r58 = m 0 0 + 1 := Eq.symm h60
                      have e22 : mw57 1 22 = S 0 4 := by rw [w5 1 22 (by omega) (by omega)]; exact q22
                      refine And.intro (show 0 < r58 by first | omega | (simp only [mS_iff, eq_self, Int.reduceEq, true_and, and_true, false_and, and_false, and_self, ↓reduceIte]; omega) | (simp only [mS_iff, eq_self, Int.reduceEq, true_and, and_true, false_and, and_false, and_self, ↓reduceIte] at *; omega)) ?_
                      refine am_in (k := 0) rfl (by omega) (fun d hd => ?_)
                      refine am_go 400 [] (am_wpc_cm _ _ _) wf_320 ?_
                      refine And.intro (show 0 < r58 by first | omega | (simp only [mS_iff, eq_self, Int.reduceEq, true_and, and_true, false_and, and_false, and_self, ↓reduceIte]; omega) | (simp only [mS_iff, eq_self, Int.reduceEq, true_and, and_true, false_and, and_false, and_self, ↓reduceIte] at *; omega)) ?_
                      refine And.intro (show 0 < r58 ∧ (mw57 r58 (-1)) = 11 by first | omega | (simp only [mS_iff, eq_self, Int.reduceEq, true_and, and_true, false_and, and_false, and_self, ↓reduceIte]; omega) | (simp only [mS_iff, eq_self, Int.reduceEq, true_and, and_true, false_and, and_false, and_self, ↓reduceIte] at *; omega)) ?_
                      refine And.intro (show 0 < r58 ∧ ((mS mw57 r58 5 10000) r58 (-1)) = 11 ∧ (w = 0 ∨ w = 1) by first | omega | (simp only [mS_iff, eq_self, Int.reduceEq, true_and, and_true, false_and, and_false, and_self, ↓reduceIte]; omega) | (simp only [mS_iff, eq_self, Int.reduceEq, true_and, and_true, false_and, and_false, and_self, ↓reduceIte] at *; omega)) ?_
                      refine And.intro (show 0 < r58 ∧ ((mS (mS mw57 r58 5 10000) r58 0 w) r58 (-1)) = 11 by first | omega | (simp only [mS_iff, eq_self, Int.reduceEq, true_and, and_true, false_and, and_false, and_self, ↓reduceIte]; omega) | (simp only [mS_iff, eq_self, Int.reduceEq, true_and, and_true, false_and, and_false, and_self, ↓reduceIte] at *; omega)) ?_
                      refine And.intro (show 0 < r58 ∧ ((mS (mS (mS mw57 r58 5 10000) r58 0 w) r58 1 0) r58 (-1)) = 11 by first | omega | (simp only [mS_iff, eq_self, Int.reduceEq, true_and, and_true, false_and, and_false, and_self, ↓reduceIte]; omega) | (simp only [mS_iff, eq_self, Int.reduceEq, true_and, and_true, false_and, and_false, and_self, ↓reduceIte] at *; omega)) ?_
                      refine And.intro (show 0 < r58 ∧ ((mS (mS (mS (mS mw57 r58 5 10000) r58 0 w) r58 1 0) r58 2 (m 20 mo)) r58 (-1)) = 11 by first | omega | (simp only [mS_iff, eq_self, Int.reduceEq, true_and, and_true, false_and, and_false, and_self, ↓reduceIte]; omega) | (simp only [mS_iff, eq_self, Int.reduceEq, true_and, and_true, false_and, and_false, and_self, ↓reduceIte] at *; omega)) ?_
                      refine And.intro (show 0 < r58 ∧ ((mS (mS (mS (mS (mS mw57 r58 5 10000) r58 0 w) r58 1 0) r58 2 (m 20 mo)) r58 4 b) r58 (-1)) = 11 by first | omega | (simp only [mS_iff, eq_self, Int.reduceEq, true_and, and_true, false_and, and_false, and_self, ↓reduceIte]; omega) | (simp only [mS_iff, eq_self, Int.reduceEq, true_and, and_true, false_and, and_false, and_self, ↓reduceIte] at *; omega)) ?_
                      obtain ⟨mp, emp⟩ : ∃ z, z = (mS (mS (mS (mS (mS (mS mw57 r58 5 10000) r58 0 w) r58 1 0) r58 2 (m 20 mo)) r58 4 b) r58 6 own) := ⟨_, rfl⟩
                      rw [← emp]
                      have fmp : ∀ x j, x ≠ r58 → mp x j = mw57 x j := fun x j u => by rw [emp, mS_a _ _ _ _ u, mS_a _ _ _ _ u, mS_a _ _ _ _ u, mS_a _ _ _ _ u, mS_a _ _ _ _ u, mS_a _ _ _ _ u]
                      have g0 : mp r58 0 = w := by rw [emp]; simp only [mS_iff, eq_self, Int.reduceEq, true_and, and_true, false_and, and_false, and_self, ↓reduceIte]
                      have g1 : mp r58 1 = 0 := by rw [emp]; simp only [mS_iff, eq_self, Int.reduceEq, true_and, and_true, false_and, and_false, and_self, ↓reduceIte]
                      have g2 : mp r58 2 = (m 20 mo) := by rw [emp]; simp only [mS_iff, eq_self, Int.reduceEq, true_and, and_true, false_and, and_false, and_self, ↓reduceIte]
                      have g4 : mp r58 4 = b := by rw [emp]; simp only [mS_iff, eq_self, Int.reduceEq, true_and, and_true, false_and, and_false, and_self, ↓reduceIte]
                      have g5 : mp r58 5 = 10000 := by rw [emp]; simp only [mS_iff, eq_self, Int.reduceEq, true_and, and_true, false_and, and_false, and_self, ↓reduceIte]
                      have g6 : mp r58 6 = own := by rw [emp]; simp only [mS_iff, eq_self, Int.reduceEq, true_and, and_true, false_and, and_false, and_self, ↓reduceIte]
                      have g7 : mp r58 (-1) = 11 := by rw [emp]; simp only [mS_iff, eq_self, Int.reduceEq, true_and, and_true, false_and, and_false, and_self, ↓reduceIte]; exact w3
                      have e22 : mp 1 22 = S 0 4 := by rw [fmp 1 22 (by omega)]; exact e22
                      refine And.intro (rfl) ?_
                      refine And.intro (show 0 < r58 ∧ (mp r58 (-1)) = 11 by first | omega | (simp only [mS_iff, eq_self, Int.reduceEq, true_and, and_true, false_and, and_false, and_self, ↓reduceIte]; omega) | (simp only [mS_iff, eq_self, Int.reduceEq, true_and, and_true, false_and, and_false, and_self, ↓reduceIte] at *; omega)) ?_
                      obtain ⟨mq, emq⟩ : ∃ z, z = (mS mp r58 3 (mp 1 22)) := ⟨_, rfl⟩
                      rw [← emq]
                      have fmq : ∀ x j, x ≠ r58 → mq x j = mp x j := fun x j u => by rw [emq, mS_a _ _ _ _ u]
                      have g0 : mq r58 0 = _ := (by rw [emq, mS_iff, if_neg (by omega)] : mq r58 0 = mp r58 0).trans g0
                      have g1 : mq r58 1 = _ := (by rw [emq, mS_iff, if_neg (by omega)] : mq r58 1 = mp r58 1).trans g1
                      have g2 : mq r58 2 = _ := (by rw [emq, mS_iff, if_neg (by omega)] : mq r58 2 = mp r58 2).trans g2
                      have g4 : mq r58 4 = _ := (by rw [emq, mS_iff, if_neg (by omega)] : mq r58 4 = mp r58 4).trans g4
                      have g5 : mq r58 5 = _ := (by rw [emq, mS_iff, if_neg (by omega)] : mq r58 5 = mp r58 5).trans g5
                      have g6 : mq r58 6 = _ := (by rw [emq, mS_iff, if_neg (by omega)] : mq r58 6 = mp r58 6).trans g6
                      have g7 : mq r58 (-1) = _ := (by rw [emq, mS_iff, if_neg (by omega)] : mq r58 (-1) = mp r58 (-1)).trans g7
                      have g3 : mq r58 3 = S 0 4 := by rw [emq, mS_iff, if_pos ⟨rfl, rfl⟩]; exact e22
                      have e22 : mq 1 22 = S 0 4 := by rw [fmq 1 22 (by omega)]; exact e22
                      refine And.intro (rfl) ?_
                      refine And.intro (rfl) ?_
                      refine And.intro (⟨rfl, by omega, by omega, Or.inr ⟨by omega, g7⟩⟩) ?_
                      refine And.intro (rfl) ?_
                      refine And.intro (show -2147483648 ≤ (mq 1 22) + 1 ∧ (mq 1 22) + 1 ≤ 2147483647 by first | omega | (simp only [mS_iff, eq_self, Int.reduceEq, true_and, and_true, false_and, and_false, and_self, ↓reduceIte]; omega) | (simp only [mS_iff, eq_self, Int.reduceEq, true_and, and_true, false_and, and_false, and_self, ↓reduceIte] at *; omega)) ?_
                      refine And.intro (rfl) ?_
                      refine And.intro (by rw [mS_iff, if_neg (by omega), mS_iff, if_neg (by omega)]; exact g7) ?_
                      have ev0 : c_per S w f mo b own = (S 0 4, sPn S w f mo b own) := by
                        unfold c_per
                        repeat' split
                        all_goals first | rfl | (exfalso; omega) | (refine Prod.ext ?_ ?_ <;> first | rfl | (show _ = _; omega))
                      rw [ev0] at hQ
                      dsimp only at hQ
                      have ok : okPn S w f mo b own := ⟨hw, p1, p2, dy, by omega, by omega, by omega⟩
                      have hf : 0 = hpr m f := by unfold hpr; rw [if_pos (by omega)]
                      have hm : (m 20 mo) = hpr m mo := by unfold hpr; rw [if_neg (by omega)]
                      have ff : ∀ x j, x ≠ r58 → mq x j = mw57 x j := fun x j u => (fmq x j u).trans (fmp x j u)
                      have z00 := ff 0 0 (by omega)
                      have z01 := ff 0 1 (by omega)
                      have NP : hNp m ((mS (mS mq 20 (mq 1 22) r58) 1 22 ((mq 1 22) + 1))) (S 0 4) w (hpr m f) (hpr m mo) b own := by
                        refine ⟨by rw [mS_iff, if_neg (by omega), mS_iff, if_neg (by omega)]; omega, by rw [mS_iff, if_neg (by omega), mS_iff, if_neg (by omega)]; omega, fun j u v => by rw [mS_iff, if_neg (by omega), mS_iff, if_neg (by omega)]; exact (ff 0 j (by omega)).trans (w6 j u v), fun x j u v y z => by rw [mS_iff, if_neg (by omega), mS_iff, if_neg (by omega)]; exact (ff x j (by omega)).trans (w5 x j u (by omega)), ?_, ?_, ?_, ?_, ?_, ?_, ?_, ?_, ?_, ?_⟩
                        all_goals try rw [← rr]
                        · rw [← e22]
                          simp only [mS_iff, eq_self, Int.reduceEq, true_and, and_true, false_and, and_false, and_self, ↓reduceIte]
                        · simp only [mS_iff, eq_self, Int.reduceEq, true_and, and_true, false_and, and_false, and_self, ↓reduceIte]
                          omega
                        · rw [mS_iff, if_neg (by omega), mS_iff, if_neg (by omega)]
                          exact g7
                        · rw [mS_iff, if_neg (by omega), mS_iff, if_neg (by omega)]
                          exact g0
                        · rw [mS_iff, if_neg (by omega), mS_iff, if_neg (by omega)]
                          exact g1.trans hf
                        · rw [mS_iff, if_neg (by omega), mS_iff, if_neg (by omega)]
                          exact g2.trans hm
                        · rw [mS_iff, if_neg (by omega), mS_iff, if_neg (by omega)]
                          exact g3
                        · rw [mS_iff, if_neg (by omega), mS_iff, if_neg (by omega)]
                          exact g4
                        · rw [mS_iff, if_neg (by omega), mS_iff, if_neg (by omega)]
                          exact g5
                        · rw [mS_iff, if_neg (by omega), mS_iff, if_neg (by omega)]
                          exact g6
                      show Q (.inl (some (aI ((mS (mS mq 20 (mq 1 22) r58) 1 22 ((mq 1 22) + 1)) r58 3)))) ((mS (mS mq 20 (mq 1 22) r58) 1 22 ((mq 1 22) + 1)))
                      rw [show ((mS (mS mq 20 (mq 1 22) r58) 1 22 ((mq 1 22) + 1)) r58 3) = S 0 4 from (by rw [mS_iff, if_neg (by omega), mS_iff, if_neg (by omega)]; exact g3)]
                      exact hQ _ ⟨h.pn ok NP, ⟨by rw [NP.1]; omega, by have := NP.2.1; omega, by have := NP.2.1; omega, by rw [NP.2.2.2.1 1 14 (by omega) (by omega) (by omega) (by omega)]; omega, by rw [NP.2.2.2.1 1 14 (by omega) (by omega) (by omega) (by omega)]; omega⟩⟩ (fun x j u v => NP.2.2.2.1 x j (by omega) (by omega) (by omega) (by omega))
                    · have ev0 : c_per S w f mo b own = ((-5), S) := by
                        unfold c_per
                        repeat' split
                        all_goals first | rfl | (exfalso; omega) | (refine Prod.ext ?_ ?_ <;> first | rfl | (show _ = _; omega))
                      rw [ev0] at hQ
                      dsimp only at hQ
                      exact hQ m (hz0.fr fr (by omega)) fr.M
                  · have ev0 : c_per S w f mo b own = ((-4), S) := by
                      unfold c_per
                      repeat' split
                      all_goals first | rfl | (exfalso; omega) | (refine Prod.ext ?_ ?_ <;> first | rfl | (show _ = _; omega))
                    rw [ev0] at hQ
                    dsimp only at hQ
                    exact hQ m (hz0.fr fr (by omega)) fr.M
            · skip
              refine And.intro (by decide) ?_
              refine And.intro (fun _ => ?_) (fun h => absurd h (by decide))
              refine And.intro (by decide) ?_
              refine And.intro (fun _ => ?_) (fun h => absurd h (by decide))
              refine And.intro (rfl) ?_
              refine And.intro (fun h61 => ?_) (fun h61 => ?_)
              · refine And.intro (by first | omega | (simp only [mS_iff, eq_self, Int.reduceEq, true_and, and_true, false_and, and_false, and_self, ↓reduceIte]; omega) | (simp only [mS_iff, eq_self, Int.reduceEq, true_and, and_true, false_and, and_false, and_self, ↓reduceIte] at *; omega)) ?_
                generalize h64 : mN m 11 7 = mw62
                generalize h65 : m 0 0 + 1 = r63
                obtain ⟨w1, w2, w3, w4, w5, w6⟩ := mN_f h64 h65 (by omega)
                have rr : r63 = m 0 0 + 1 := Eq.symm h65
                have e22 : mw62 1 22 = S 0 4 := by rw [w5 1 22 (by omega) (by omega)]; exact q22
                refine And.intro (show 0 < r63 by first | omega | (simp only [mS_iff, eq_self, Int.reduceEq, true_and, and_true, false_and, and_false, and_self, ↓reduceIte]; omega) | (simp only [mS_iff, eq_self, Int.reduceEq, true_and, and_true, false_and, and_false, and_self, ↓reduceIte] at *; omega)) ?_
                refine am_in (k := 0) rfl (by omega) (fun d hd => ?_)
                refine am_go 400 [] (am_wpc_cm _ _ _) wf_320 ?_
                refine And.intro (show 0 < r63 by first | omega | (simp only [mS_iff, eq_self, Int.reduceEq, true_and, and_true, false_and, and_false, and_self, ↓reduceIte]; omega) | (simp only [mS_iff, eq_self, Int.reduceEq, true_and, and_true, false_and, and_false, and_self, ↓reduceIte] at *; omega)) ?_
                refine And.intro (show 0 < r63 ∧ (mw62 r63 (-1)) = 11 by first | omega | (simp only [mS_iff, eq_self, Int.reduceEq, true_and, and_true, false_and, and_false, and_self, ↓reduceIte]; omega) | (simp only [mS_iff, eq_self, Int.reduceEq, true_and, and_true, false_and, and_false, and_self, ↓reduceIte] at *; omega)) ?_
                refine And.intro (show 0 < r63 ∧ ((mS mw62 r63 5 10000) r63 (-1)) = 11 ∧ (w = 0 ∨ w = 1) by first | omega | (simp only [mS_iff, eq_self, Int.reduceEq, true_and, and_true, false_and, and_false, and_self, ↓reduceIte]; omega) | (simp only [mS_iff, eq_self, Int.reduceEq, true_and, and_true, false_and, and_false, and_self, ↓reduceIte] at *; omega)) ?_
                refine And.intro (show 0 < r63 ∧ ((mS (mS mw62 r63 5 10000) r63 0 w) r63 (-1)) = 11 by first | omega | (simp only [mS_iff, eq_self, Int.reduceEq, true_and, and_true, false_and, and_false, and_self, ↓reduceIte]; omega) | (simp only [mS_iff, eq_self, Int.reduceEq, true_and, and_true, false_and, and_false, and_self, ↓reduceIte] at *; omega)) ?_
                refine And.intro (show 0 < r63 ∧ ((mS (mS (mS mw62 r63 5 10000) r63 0 w) r63 1 0) r63 (-1)) = 11 by first | omega | (simp only [mS_iff, eq_self, Int.reduceEq, true_and, and_true, false_and, and_false, and_self, ↓reduceIte]; omega) | (simp only [mS_iff, eq_self, Int.reduceEq, true_and, and_true, false_and, and_false, and_self, ↓reduceIte] at *; omega)) ?_
                refine And.intro (show 0 < r63 ∧ ((mS (mS (mS (mS mw62 r63 5 10000) r63 0 w) r63 1 0) r63 2 0) r63 (-1)) = 11 by first | omega | (simp only [mS_iff, eq_self, Int.reduceEq, true_and, and_true, false_and, and_false, and_self, ↓reduceIte]; omega) | (simp only [mS_iff, eq_self, Int.reduceEq, true_and, and_true, false_and, and_false, and_self, ↓reduceIte] at *; omega)) ?_
                refine And.intro (show 0 < r63 ∧ ((mS (mS (mS (mS (mS mw62 r63 5 10000) r63 0 w) r63 1 0) r63 2 0) r63 4 b) r63 (-1)) = 11 by first | omega | (simp only [mS_iff, eq_self, Int.reduceEq, true_and, and_true, false_and, and_false, and_self, ↓reduceIte]; omega) | (simp only [mS_iff, eq_self, Int.reduceEq, true_and, and_true, false_and, and_false, and_self, ↓reduceIte] at *; omega)) ?_
                obtain ⟨mp, emp⟩ : ∃ z, z = (mS (mS (mS (mS (mS (mS mw62 r63 5 10000) r63 0 w) r63 1 0) r63 2 0) r63 4 b) r63 6 own) := ⟨_, rfl⟩
                rw [← emp]
                have fmp : ∀ x j, x ≠ r63 → mp x j = mw62 x j := fun x j u => by rw [emp, mS_a _ _ _ _ u, mS_a _ _ _ _ u, mS_a _ _ _ _ u, mS_a _ _ _ _ u, mS_a _ _ _ _ u, mS_a _ _ _ _ u]
                have g0 : mp r63 0 = w := by rw [emp]; simp only [mS_iff, eq_self, Int.reduceEq, true_and, and_true, false_and, and_false, and_self, ↓reduceIte]
                have g1 : mp r63 1 = 0 := by rw [emp]; simp only [mS_iff, eq_self, Int.reduceEq, true_and, and_true, false_and, and_false, and_self, ↓reduceIte]
                have g2 : mp r63 2 = 0 := by rw [emp]; simp only [mS_iff, eq_self, Int.reduceEq, true_and, and_true, false_and, and_false, and_self, ↓reduceIte]
                have g4 : mp r63 4 = b := by rw [emp]; simp only [mS_iff, eq_self, Int.reduceEq, true_and, and_true, false_and, and_false, and_self, ↓reduceIte]
                have g5 : mp r63 5 = 10000 := by rw [emp]; simp only [mS_iff, eq_self, Int.reduceEq, true_and, and_true, false_and, and_false, and_self, ↓reduceIte]
                have g6 : mp r63 6 = own := by rw [emp]; simp only [mS_iff, eq_self, Int.reduceEq, true_and, and_true, false_and, and_false, and_self, ↓reduceIte]
                have g7 : mp r63 (-1) = 11 := by rw [emp]; simp only [mS_iff, eq_self, Int.reduceEq, true_and, and_true, false_and, and_false, and_self, ↓reduceIte]; exact w3
                have e22 : mp 1 22 = S 0 4 := by rw [fmp 1 22 (by omega)]; exact e22
                refine And.intro (rfl) ?_
                refine And.intro (show 0 < r63 ∧ (mp r63 (-1)) = 11 by first | omega | (simp only [mS_iff, eq_self, Int.reduceEq, true_and, and_true, false_and, and_false, and_self, ↓reduceIte]; omega) | (simp only [mS_iff, eq_self, Int.reduceEq, true_and, and_true, false_and, and_false, and_self, ↓reduceIte] at *; omega)) ?_
                obtain ⟨mq, emq⟩ : ∃ z, z = (mS mp r63 3 (mp 1 22)) := ⟨_, rfl⟩
                rw [← emq]
                have fmq : ∀ x j, x ≠ r63 → mq x j = mp x j := fun x j u => by rw [emq, mS_a _ _ _ _ u]
                have g0 : mq r63 0 = _ := (by rw [emq, mS_iff, if_neg (by omega)] : mq r63 0 = mp r63 0).trans g0
                have g1 : mq r63 1 = _ := (by rw [emq, mS_iff, if_neg (by omega)] : mq r63 1 = mp r63 1).trans g1
                have g2 : mq r63 2 = _ := (by rw [emq, mS_iff, if_neg (by omega)] : mq r63 2 = mp r63 2).trans g2
                have g4 : mq r63 4 = _ := (by rw [emq, mS_iff, if_neg (by omega)] : mq r63 4 = mp r63 4).trans g4
                have g5 : mq r63 5 = _ := (by rw [emq, mS_iff, if_neg (by omega)] : mq r63 5 = mp r63 5).trans g5
                have g6 : mq r63 6 = _ := (by rw [emq, mS_iff, if_neg (by omega)] : mq r63 6 = mp r63 6).trans g6
                have g7 : mq r63 (-1) = _ := (by rw [emq, mS_iff, if_neg (by omega)] : mq r63 (-1) = mp r63 (-1)).trans g7
                have g3 : mq r63 3 = S 0 4 := by rw [emq, mS_iff, if_pos ⟨rfl, rfl⟩]; exact e22
                have e22 : mq 1 22 = S 0 4 := by rw [fmq 1 22 (by omega)]; exact e22
                refine And.intro (rfl) ?_
                refine And.intro (rfl) ?_
                refine And.intro (⟨rfl, by omega, by omega, Or.inr ⟨by omega, g7⟩⟩) ?_
                refine And.intro (rfl) ?_
                refine And.intro (show -2147483648 ≤ (mq 1 22) + 1 ∧ (mq 1 22) + 1 ≤ 2147483647 by first | omega | (simp only [mS_iff, eq_self, Int.reduceEq, true_and, and_true, false_and, and_false, and_self, ↓reduceIte]; omega) | (simp only [mS_iff, eq_self, Int.reduceEq, true_and, and_true, false_and, and_false, and_self, ↓reduceIte] at *; omega)) ?_
                refine And.intro (rfl) ?_
                refine And.intro (by rw [mS_iff, if_neg (by omega), mS_iff, if_neg (by omega)]; exact g7) ?_
                have ev0 : c_per S w f mo b own = (S 0 4, sPn S w f mo b own) := by
                  unfold c_per
                  repeat' split
                  all_goals first | rfl | (exfalso; omega) | (refine Prod.ext ?_ ?_ <;> first | rfl | (show _ = _; omega))
                rw [ev0] at hQ
                dsimp only at hQ
                have ok : okPn S w f mo b own := ⟨hw, p1, p2, dy, by omega, by omega, by omega⟩
                have hf : 0 = hpr m f := by unfold hpr; rw [if_pos (by omega)]
                have hm : 0 = hpr m mo := by unfold hpr; rw [if_pos (by omega)]
                have ff : ∀ x j, x ≠ r63 → mq x j = mw62 x j := fun x j u => (fmq x j u).trans (fmp x j u)
                have z00 := ff 0 0 (by omega)
                have z01 := ff 0 1 (by omega)
                have NP : hNp m ((mS (mS mq 20 (mq 1 22) r63) 1 22 ((mq 1 22) + 1))) (S 0 4) w (hpr m f) (hpr m mo) b own := by
                  refine ⟨by rw [mS_iff, if_neg (by omega), mS_iff, if_neg (by omega)]; omega, by rw [mS_iff, if_neg (by omega), mS_iff, if_neg (by omega)]; omega, fun j u v => by rw [mS_iff, if_neg (by omega), mS_iff, if_neg (by omega)]; exact (ff 0 j (by omega)).trans (w6 j u v), fun x j u v y z => by rw [mS_iff, if_neg (by omega), mS_iff, if_neg (by omega)]; exact (ff x j (by omega)).trans (w5 x j u (by omega)), ?_, ?_, ?_, ?_, ?_, ?_, ?_, ?_, ?_, ?_⟩
                  all_goals try rw [← rr]
                  · rw [← e22]
                    simp only [mS_iff, eq_self, Int.reduceEq, true_and, and_true, false_and, and_false, and_self, ↓reduceIte]
                  · simp only [mS_iff, eq_self, Int.reduceEq, true_and, and_true, false_and, and_false, and_self, ↓reduceIte]
                    omega
                  · rw [mS_iff, if_neg (by omega), mS_iff, if_neg (by omega)]
                    exact g7
                  · rw [mS_iff, if_neg (by omega), mS_iff, if_neg (by omega)]
                    exact g0
                  · rw [mS_iff, if_neg (by omega), mS_iff, if_neg (by omega)]
                    exact g1.trans hf
                  · rw [mS_iff, if_neg (by omega), mS_iff, if_neg (by omega)]
                    exact g2.trans hm
                  · rw [mS_iff, if_neg (by omega), mS_iff, if_neg (by omega)]
                    exact g3
                  · rw [mS_iff, if_neg (by omega), mS_iff, if_neg (by omega)]
                    exact g4
                  · rw [mS_iff, if_neg (by omega), mS_iff, if_neg (by omega)]
                    exact g5
                  · rw [mS_iff, if_neg (by omega), mS_iff, if_neg (by omega)]
                    exact g6
                show Q (.inl (some (aI ((mS (mS mq 20 (mq 1 22) r63) 1 22 ((mq 1 22) + 1)) r63 3)))) ((mS (mS mq 20 (mq 1 22) r63) 1 22 ((mq 1 22) + 1)))
                rw [show ((mS (mS mq 20 (mq 1 22) r63) 1 22 ((mq 1 22) + 1)) r63 3) = S 0 4 from (by rw [mS_iff, if_neg (by omega), mS_iff, if_neg (by omega)]; exact g3)]
                exact hQ _ ⟨h.pn ok NP, ⟨by rw [NP.1]; omega, by have := NP.2.1; omega, by have := NP.2.1; omega, by rw [NP.2.2.2.1 1 14 (by omega) (by omega) (by omega) (by omega)]; omega, by rw [NP.2.2.2.1 1 14 (by omega) (by omega) (by omega) (by omega)]; omega⟩⟩ (fun x j u v => NP.2.2.2.1 x j (by omega) (by omega) (by omega) (by omega))
              · have ev0 : c_per S w f mo b own = ((-5), S) := by
                  unfold c_per
                  repeat' split
                  all_goals first | rfl | (exfalso; omega) | (refine Prod.ext ?_ ?_ <;> first | rfl | (show _ = _; omega))
                rw [ev0] at hQ
                dsimp only at hQ
                exact hQ m (hz0.fr fr (by omega)) fr.M
        · have dn := h2
          refine And.intro (fun h => absurd h (by decide)) (fun _ => ?_)
          have ev0 : c_per S w f mo b own = ((-3), S) := by
            unfold c_per
            repeat' split
            all_goals first | rfl | (exfalso; omega) | (refine Prod.ext ?_ ?_ <;> first | rfl | (show _ = _; omega))
          rw [ev0] at hQ
          dsimp only at hQ
          exact hQ m (hz0.fr fr (by omega)) fr.M
      · refine And.intro (rfl) ?_
        refine ct_59 (by omega) h (by omega) (fun t3 => ?_) (fun t3 mw66 fx => ?_)
        · have hA3 := hS.2.2.1 own t3.1 t3.2
          have hB3 := hA3.basic
          refine And.intro (fun _ => ?_) (fun h => absurd h (by decide))
          refine ct_95 (by omega) (fun h67 => ?_) (fun h67 => ?_)
          · have dy := h67
            refine And.intro (fun _ => ?_) (fun h => absurd h (by decide))
            refine And.intro (fun h68 => ?_) (fun h68 => ?_)
            · refine And.intro (rfl) ?_
              refine And.intro (⟨rfl, by omega⟩) ?_
              have xf := h.2.2.2.2.2.1.2.2.1 f (by omega) (by omega)
              have xf1 := xf.1
              have xf2 := xf.2.1
              have xf3 := xf.2.2.1
              have xf4 := xf.2.2.2.2.2.2.1
              have yf := (h.2.2.2.2.2.1.1.2 f (by omega) (by omega)).1
              refine And.intro (fun h69 => ?_) (fun h69 => ?_)
              · refine And.intro (rfl) ?_
                refine And.intro (⟨rfl, by omega⟩) ?_
                have xmo := h.2.2.2.2.2.1.2.2.1 mo (by omega) (by omega)
                have xmo1 := xmo.1
                have xmo2 := xmo.2.1
                have xmo3 := xmo.2.2.1
                have xmo4 := xmo.2.2.2.2.2.2.1
                have ymo := (h.2.2.2.2.2.1.1.2 mo (by omega) (by omega)).1
                refine And.intro (show (m 20 f) ≠ -9 by first | omega | (simp only [mS_iff, eq_self, Int.reduceEq, true_and, and_true, false_and, and_false, and_self, ↓reduceIte]; omega) | (simp only [mS_iff, eq_self, Int.reduceEq, true_and, and_true, false_and, and_false, and_self, ↓reduceIte] at *; omega)) ?_
                refine And.intro (fun h70 => ?_) (fun h70 => ?_)
                · refine And.intro (show (m 20 mo) ≠ -9 by first | omega | (simp only [mS_iff, eq_self, Int.reduceEq, true_and, and_true, false_and, and_false, and_self, ↓reduceIte]; omega) | (simp only [mS_iff, eq_self, Int.reduceEq, true_and, and_true, false_and, and_false, and_self, ↓reduceIte] at *; omega)) ?_
                  refine And.intro (fun h71 => ?_) (fun h71 => ?_)
                  · refine And.intro (rfl) ?_
                    refine And.intro (fun h72 => ?_) (fun h72 => ?_)
                    · refine And.intro (by first | omega | (simp only [mS_iff, eq_self, Int.reduceEq, true_and, and_true, false_and, and_false, and_self, ↓reduceIte]; omega) | (simp only [mS_iff, eq_self, Int.reduceEq, true_and, and_true, false_and, and_false, and_self, ↓reduceIte] at *; omega)) ?_
                      generalize h75 : mN m 11 7 = mw73
                      generalize h76 : m 0 0 + 1 = r74
                      obtain ⟨w1, w2, w3, w4, w5, w6⟩ := mN_f h75 h76 (by omega)
                      have rr : r74 = m 0 0 + 1 := Eq.symm h76
                      have e22 : mw73 1 22 = S 0 4 := by rw [w5 1 22 (by omega) (by omega)]; exact q22
                      refine And.intro (show 0 < r74 by first | omega | (simp only [mS_iff, eq_self, Int.reduceEq, true_and, and_true, false_and, and_false, and_self, ↓reduceIte]; omega) | (simp only [mS_iff, eq_self, Int.reduceEq, true_and, and_true, false_and, and_false, and_self, ↓reduceIte] at *; omega)) ?_
                      refine am_in (k := 0) rfl (by omega) (fun d hd => ?_)
                      refine am_go 400 [] (am_wpc_cm _ _ _) wf_320 ?_
                      refine And.intro (show 0 < r74 by first | omega | (simp only [mS_iff, eq_self, Int.reduceEq, true_and, and_true, false_and, and_false, and_self, ↓reduceIte]; omega) | (simp only [mS_iff, eq_self, Int.reduceEq, true_and, and_true, false_and, and_false, and_self, ↓reduceIte] at *; omega)) ?_
                      refine And.intro (show 0 < r74 ∧ (mw73 r74 (-1)) = 11 by first | omega | (simp only [mS_iff, eq_self, Int.reduceEq, true_and, and_true, false_and, and_false, and_self, ↓reduceIte]; omega) | (simp only [mS_iff, eq_self, Int.reduceEq, true_and, and_true, false_and, and_false, and_self, ↓reduceIte] at *; omega)) ?_
                      refine And.intro (show 0 < r74 ∧ ((mS mw73 r74 5 10000) r74 (-1)) = 11 ∧ (w = 0 ∨ w = 1) by first | omega | (simp only [mS_iff, eq_self, Int.reduceEq, true_and, and_true, false_and, and_false, and_self, ↓reduceIte]; omega) | (simp only [mS_iff, eq_self, Int.reduceEq, true_and, and_true, false_and, and_false, and_self, ↓reduceIte] at *; omega)) ?_
                      refine And.intro (show 0 < r74 ∧ ((mS (mS mw73 r74 5 10000) r74 0 w) r74 (-1)) = 11 by first | omega | (simp only [mS_iff, eq_self, Int.reduceEq, true_and, and_true, false_and, and_false, and_self, ↓reduceIte]; omega) | (simp only [mS_iff, eq_self, Int.reduceEq, true_and, and_true, false_and, and_false, and_self, ↓reduceIte] at *; omega)) ?_
                      refine And.intro (show 0 < r74 ∧ ((mS (mS (mS mw73 r74 5 10000) r74 0 w) r74 1 (m 20 f)) r74 (-1)) = 11 by first | omega | (simp only [mS_iff, eq_self, Int.reduceEq, true_and, and_true, false_and, and_false, and_self, ↓reduceIte]; omega) | (simp only [mS_iff, eq_self, Int.reduceEq, true_and, and_true, false_and, and_false, and_self, ↓reduceIte] at *; omega)) ?_
                      refine And.intro (show 0 < r74 ∧ ((mS (mS (mS (mS mw73 r74 5 10000) r74 0 w) r74 1 (m 20 f)) r74 2 (m 20 mo)) r74 (-1)) = 11 by first | omega | (simp only [mS_iff, eq_self, Int.reduceEq, true_and, and_true, false_and, and_false, and_self, ↓reduceIte]; omega) | (simp only [mS_iff, eq_self, Int.reduceEq, true_and, and_true, false_and, and_false, and_self, ↓reduceIte] at *; omega)) ?_
                      refine And.intro (show 0 < r74 ∧ ((mS (mS (mS (mS (mS mw73 r74 5 10000) r74 0 w) r74 1 (m 20 f)) r74 2 (m 20 mo)) r74 4 b) r74 (-1)) = 11 by first | omega | (simp only [mS_iff, eq_self, Int.reduceEq, true_and, and_true, false_and, and_false, and_self, ↓reduceIte]; omega) | (simp only [mS_iff, eq_self, Int.reduceEq, true_and, and_true, false_and, and_false, and_self, ↓reduceIte] at *; omega)) ?_
                      obtain ⟨mp, emp⟩ : ∃ z, z = (mS (mS (mS (mS (mS (mS mw73 r74 5 10000) r74 0 w) r74 1 (m 20 f)) r74 2 (m 20 mo)) r74 4 b) r74 6 own) := ⟨_, rfl⟩
                      rw [← emp]
                      have fmp : ∀ x j, x ≠ r74 → mp x j = mw73 x j := fun x j u => by rw [emp, mS_a _ _ _ _ u, mS_a _ _ _ _ u, mS_a _ _ _ _ u, mS_a _ _ _ _ u, mS_a _ _ _ _ u, mS_a _ _ _ _ u]
                      have g0 : mp r74 0 = w := by rw [emp]; simp only [mS_iff, eq_self, Int.reduceEq, true_and, and_true, false_and, and_false, and_self, ↓reduceIte]
                      have g1 : mp r74 1 = (m 20 f) := by rw [emp]; simp only [mS_iff, eq_self, Int.reduceEq, true_and, and_true, false_and, and_false, and_self, ↓reduceIte]
                      have g2 : mp r74 2 = (m 20 mo) := by rw [emp]; simp only [mS_iff, eq_self, Int.reduceEq, true_and, and_true, false_and, and_false, and_self, ↓reduceIte]
                      have g4 : mp r74 4 = b := by rw [emp]; simp only [mS_iff, eq_self, Int.reduceEq, true_and, and_true, false_and, and_false, and_self, ↓reduceIte]
                      have g5 : mp r74 5 = 10000 := by rw [emp]; simp only [mS_iff, eq_self, Int.reduceEq, true_and, and_true, false_and, and_false, and_self, ↓reduceIte]
                      have g6 : mp r74 6 = own := by rw [emp]; simp only [mS_iff, eq_self, Int.reduceEq, true_and, and_true, false_and, and_false, and_self, ↓reduceIte]
                      have g7 : mp r74 (-1) = 11 := by rw [emp]; simp only [mS_iff, eq_self, Int.reduceEq, true_and, and_true, false_and, and_false, and_self, ↓reduceIte]; exact w3
                      have e22 : mp 1 22 = S 0 4 := by rw [fmp 1 22 (by omega)]; exact e22
                      refine And.intro (rfl) ?_
                      refine And.intro (show 0 < r74 ∧ (mp r74 (-1)) = 11 by first | omega | (simp only [mS_iff, eq_self, Int.reduceEq, true_and, and_true, false_and, and_false, and_self, ↓reduceIte]; omega) | (simp only [mS_iff, eq_self, Int.reduceEq, true_and, and_true, false_and, and_false, and_self, ↓reduceIte] at *; omega)) ?_
                      obtain ⟨mq, emq⟩ : ∃ z, z = (mS mp r74 3 (mp 1 22)) := ⟨_, rfl⟩
                      rw [← emq]
                      have fmq : ∀ x j, x ≠ r74 → mq x j = mp x j := fun x j u => by rw [emq, mS_a _ _ _ _ u]
                      have g0 : mq r74 0 = _ := (by rw [emq, mS_iff, if_neg (by omega)] : mq r74 0 = mp r74 0).trans g0
                      have g1 : mq r74 1 = _ := (by rw [emq, mS_iff, if_neg (by omega)] : mq r74 1 = mp r74 1).trans g1
                      have g2 : mq r74 2 = _ := (by rw [emq, mS_iff, if_neg (by omega)] : mq r74 2 = mp r74 2).trans g2
                      have g4 : mq r74 4 = _ := (by rw [emq, mS_iff, if_neg (by omega)] : mq r74 4 = mp r74 4).trans g4
                      have g5 : mq r74 5 = _ := (by rw [emq, mS_iff, if_neg (by omega)] : mq r74 5 = mp r74 5).trans g5
                      have g6 : mq r74 6 = _ := (by rw [emq, mS_iff, if_neg (by omega)] : mq r74 6 = mp r74 6).trans g6
                      have g7 : mq r74 (-1) = _ := (by rw [emq, mS_iff, if_neg (by omega)] : mq r74 (-1) = mp r74 (-1)).trans g7
                      have g3 : mq r74 3 = S 0 4 := by rw [emq, mS_iff, if_pos ⟨rfl, rfl⟩]; exact e22
                      have e22 : mq 1 22 = S 0 4 := by rw [fmq 1 22 (by omega)]; exact e22
                      refine And.intro (rfl) ?_
                      refine And.intro (rfl) ?_
                      refine And.intro (⟨rfl, by omega, by omega, Or.inr ⟨by omega, g7⟩⟩) ?_
                      refine And.intro (rfl) ?_
                      refine And.intro (show -2147483648 ≤ (mq 1 22) + 1 ∧ (mq 1 22) + 1 ≤ 2147483647 by first | omega | (simp only [mS_iff, eq_self, Int.reduceEq, true_and, and_true, false_and, and_false, and_self, ↓reduceIte]; omega) | (simp only [mS_iff, eq_self, Int.reduceEq, true_and, and_true, false_and, and_false, and_self, ↓reduceIte] at *; omega)) ?_
                      refine And.intro (rfl) ?_
                      refine And.intro (by rw [mS_iff, if_neg (by omega), mS_iff, if_neg (by omega)]; exact g7) ?_
                      have ev0 : c_per S w f mo b own = (S 0 4, sPn S w f mo b own) := by
                        unfold c_per
                        repeat' split
                        all_goals first | rfl | (exfalso; omega) | (refine Prod.ext ?_ ?_ <;> first | rfl | (show _ = _; omega))
                      rw [ev0] at hQ
                      dsimp only at hQ
                      have ok : okPn S w f mo b own := ⟨hw, p1, p2, dy, by omega, by omega, by omega⟩
                      have hf : (m 20 f) = hpr m f := by unfold hpr; rw [if_neg (by omega)]
                      have hm : (m 20 mo) = hpr m mo := by unfold hpr; rw [if_neg (by omega)]
                      have ff : ∀ x j, x ≠ r74 → mq x j = mw73 x j := fun x j u => (fmq x j u).trans (fmp x j u)
                      have z00 := ff 0 0 (by omega)
                      have z01 := ff 0 1 (by omega)
                      have NP : hNp m ((mS (mS mq 20 (mq 1 22) r74) 1 22 ((mq 1 22) + 1))) (S 0 4) w (hpr m f) (hpr m mo) b own := by
                        refine ⟨by rw [mS_iff, if_neg (by omega), mS_iff, if_neg (by omega)]; omega, by rw [mS_iff, if_neg (by omega), mS_iff, if_neg (by omega)]; omega, fun j u v => by rw [mS_iff, if_neg (by omega), mS_iff, if_neg (by omega)]; exact (ff 0 j (by omega)).trans (w6 j u v), fun x j u v y z => by rw [mS_iff, if_neg (by omega), mS_iff, if_neg (by omega)]; exact (ff x j (by omega)).trans (w5 x j u (by omega)), ?_, ?_, ?_, ?_, ?_, ?_, ?_, ?_, ?_, ?_⟩
                        all_goals try rw [← rr]
                        · rw [← e22]
                          simp only [mS_iff, eq_self, Int.reduceEq, true_and, and_true, false_and, and_false, and_self, ↓reduceIte]
                        · simp only [mS_iff, eq_self, Int.reduceEq, true_and, and_true, false_and, and_false, and_self, ↓reduceIte]
                          omega
                        · rw [mS_iff, if_neg (by omega), mS_iff, if_neg (by omega)]
                          exact g7
                        · rw [mS_iff, if_neg (by omega), mS_iff, if_neg (by omega)]
                          exact g0
                        · rw [mS_iff, if_neg (by omega), mS_iff, if_neg (by omega)]
                          exact g1.trans hf
                        · rw [mS_iff, if_neg (by omega), mS_iff, if_neg (by omega)]
                          exact g2.trans hm
                        · rw [mS_iff, if_neg (by omega), mS_iff, if_neg (by omega)]
                          exact g3
                        · rw [mS_iff, if_neg (by omega), mS_iff, if_neg (by omega)]
                          exact g4
                        · rw [mS_iff, if_neg (by omega), mS_iff, if_neg (by omega)]
                          exact g5
                        · rw [mS_iff, if_neg (by omega), mS_iff, if_neg (by omega)]
                          exact g6
                      show Q (.inl (some (aI ((mS (mS mq 20 (mq 1 22) r74) 1 22 ((mq 1 22) + 1)) r74 3)))) ((mS (mS mq 20 (mq 1 22) r74) 1 22 ((mq 1 22) + 1)))
                      rw [show ((mS (mS mq 20 (mq 1 22) r74) 1 22 ((mq 1 22) + 1)) r74 3) = S 0 4 from (by rw [mS_iff, if_neg (by omega), mS_iff, if_neg (by omega)]; exact g3)]
                      exact hQ _ ⟨h.pn ok NP, ⟨by rw [NP.1]; omega, by have := NP.2.1; omega, by have := NP.2.1; omega, by rw [NP.2.2.2.1 1 14 (by omega) (by omega) (by omega) (by omega)]; omega, by rw [NP.2.2.2.1 1 14 (by omega) (by omega) (by omega) (by omega)]; omega⟩⟩ (fun x j u v => NP.2.2.2.1 x j (by omega) (by omega) (by omega) (by omega))
                    · have ev0 : c_per S w f mo b own = ((-5), S) := by
                        unfold c_per
                        repeat' split
                        all_goals first | rfl | (exfalso; omega) | (refine Prod.ext ?_ ?_ <;> first | rfl | (show _ = _; omega))
                      rw [ev0] at hQ
                      dsimp only at hQ
                      exact hQ m (hz0.fr fr (by omega)) fr.M
                  · refine And.intro (show (m (m 20 mo) (-1)) = 11 by first | assumption | omega | (simp only [mS_iff, eq_self, Int.reduceEq, true_and, and_true, false_and, and_false, and_self, ↓reduceIte]; omega) | (simp only [mS_iff, eq_self, Int.reduceEq, true_and, and_true, false_and, and_false, and_self, ↓reduceIte] at *; omega)) ?_
                    refine And.intro (fun h77 => ?_) (fun h77 => ?_)
                    · have ev0 : c_per S w f mo b own = ((-4), S) := by
                        unfold c_per
                        repeat' split
                        all_goals first | rfl | (exfalso; omega) | (refine Prod.ext ?_ ?_ <;> first | rfl | (show _ = _; omega))
                      rw [ev0] at hQ
                      dsimp only at hQ
                      exact hQ m (hz0.fr fr (by omega)) fr.M
                    · refine And.intro (show (m (m 20 mo) (-1)) = 11 by first | assumption | omega | (simp only [mS_iff, eq_self, Int.reduceEq, true_and, and_true, false_and, and_false, and_self, ↓reduceIte]; omega) | (simp only [mS_iff, eq_self, Int.reduceEq, true_and, and_true, false_and, and_false, and_self, ↓reduceIte] at *; omega)) ?_
                      refine And.intro (fun h78 => ?_) (fun h78 => ?_)
                      · refine And.intro (rfl) ?_
                        refine And.intro (fun h79 => ?_) (fun h79 => ?_)
                        · refine And.intro (by first | omega | (simp only [mS_iff, eq_self, Int.reduceEq, true_and, and_true, false_and, and_false, and_self, ↓reduceIte]; omega) | (simp only [mS_iff, eq_self, Int.reduceEq, true_and, and_true, false_and, and_false, and_self, ↓reduceIte] at *; omega)) ?_
                          generalize h82 : mN m 11 7 = mw80
                          generalize h83 : m 0 0 + 1 = r81
                          obtain ⟨w1, w2, w3, w4, w5, w6⟩ := mN_f h82 h83 (by omega)
                          have rr : r81 = m 0 0 + 1 := Eq.symm h83
                          have e22 : mw80 1 22 = S 0 4 := by rw [w5 1 22 (by omega) (by omega)]; exact q22
                          refine And.intro (show 0 < r81 by first | omega | (simp only [mS_iff, eq_self, Int.reduceEq, true_and, and_true, false_and, and_false, and_self, ↓reduceIte]; omega) | (simp only [mS_iff, eq_self, Int.reduceEq, true_and, and_true, false_and, and_false, and_self, ↓reduceIte] at *; omega)) ?_
                          refine am_in (k := 0) rfl (by omega) (fun d hd => ?_)
                          refine am_go 400 [] (am_wpc_cm _ _ _) wf_320 ?_
                          refine And.intro (show 0 < r81 by first | omega | (simp only [mS_iff, eq_self, Int.reduceEq, true_and, and_true, false_and, and_false, and_self, ↓reduceIte]; omega) | (simp only [mS_iff, eq_self, Int.reduceEq, true_and, and_true, false_and, and_false, and_self, ↓reduceIte] at *; omega)) ?_
                          refine And.intro (show 0 < r81 ∧ (mw80 r81 (-1)) = 11 by first | omega | (simp only [mS_iff, eq_self, Int.reduceEq, true_and, and_true, false_and, and_false, and_self, ↓reduceIte]; omega) | (simp only [mS_iff, eq_self, Int.reduceEq, true_and, and_true, false_and, and_false, and_self, ↓reduceIte] at *; omega)) ?_
                          refine And.intro (show 0 < r81 ∧ ((mS mw80 r81 5 10000) r81 (-1)) = 11 ∧ (w = 0 ∨ w = 1) by first | omega | (simp only [mS_iff, eq_self, Int.reduceEq, true_and, and_true, false_and, and_false, and_self, ↓reduceIte]; omega) | (simp only [mS_iff, eq_self, Int.reduceEq, true_and, and_true, false_and, and_false, and_self, ↓reduceIte] at *; omega)) ?_
                          refine And.intro (show 0 < r81 ∧ ((mS (mS mw80 r81 5 10000) r81 0 w) r81 (-1)) = 11 by first | omega | (simp only [mS_iff, eq_self, Int.reduceEq, true_and, and_true, false_and, and_false, and_self, ↓reduceIte]; omega) | (simp only [mS_iff, eq_self, Int.reduceEq, true_and, and_true, false_and, and_false, and_self, ↓reduceIte] at *; omega)) ?_
                          refine And.intro (show 0 < r81 ∧ ((mS (mS (mS mw80 r81 5 10000) r81 0 w) r81 1 (m 20 f)) r81 (-1)) = 11 by first | omega | (simp only [mS_iff, eq_self, Int.reduceEq, true_and, and_true, false_and, and_false, and_self, ↓reduceIte]; omega) | (simp only [mS_iff, eq_self, Int.reduceEq, true_and, and_true, false_and, and_false, and_self, ↓reduceIte] at *; omega)) ?_
                          refine And.intro (show 0 < r81 ∧ ((mS (mS (mS (mS mw80 r81 5 10000) r81 0 w) r81 1 (m 20 f)) r81 2 (m 20 mo)) r81 (-1)) = 11 by first | omega | (simp only [mS_iff, eq_self, Int.reduceEq, true_and, and_true, false_and, and_false, and_self, ↓reduceIte]; omega) | (simp only [mS_iff, eq_self, Int.reduceEq, true_and, and_true, false_and, and_false, and_self, ↓reduceIte] at *; omega)) ?_
                          refine And.intro (show 0 < r81 ∧ ((mS (mS (mS (mS (mS mw80 r81 5 10000) r81 0 w) r81 1 (m 20 f)) r81 2 (m 20 mo)) r81 4 b) r81 (-1)) = 11 by first | omega | (simp only [mS_iff, eq_self, Int.reduceEq, true_and, and_true, false_and, and_false, and_self, ↓reduceIte]; omega) | (simp only [mS_iff, eq_self, Int.reduceEq, true_and, and_true, false_and, and_false, and_self, ↓reduceIte] at *; omega)) ?_
                          obtain ⟨mp, emp⟩ : ∃ z, z = (mS (mS (mS (mS (mS (mS mw80 r81 5 10000) r81 0 w) r81 1 (m 20 f)) r81 2 (m 20 mo)) r81 4 b) r81 6 own) := ⟨_, rfl⟩
                          rw [← emp]
                          have fmp : ∀ x j, x ≠ r81 → mp x j = mw80 x j := fun x j u => by rw [emp, mS_a _ _ _ _ u, mS_a _ _ _ _ u, mS_a _ _ _ _ u, mS_a _ _ _ _ u, mS_a _ _ _ _ u, mS_a _ _ _ _ u]
                          have g0 : mp r81 0 = w := by rw [emp]; simp only [mS_iff, eq_self, Int.reduceEq, true_and, and_true, false_and, and_false, and_self, ↓reduceIte]
                          have g1 : mp r81 1 = (m 20 f) := by rw [emp]; simp only [mS_iff, eq_self, Int.reduceEq, true_and, and_true, false_and, and_false, and_self, ↓reduceIte]
                          have g2 : mp r81 2 = (m 20 mo) := by rw [emp]; simp only [mS_iff, eq_self, Int.reduceEq, true_and, and_true, false_and, and_false, and_self, ↓reduceIte]
                          have g4 : mp r81 4 = b := by rw [emp]; simp only [mS_iff, eq_self, Int.reduceEq, true_and, and_true, false_and, and_false, and_self, ↓reduceIte]
                          have g5 : mp r81 5 = 10000 := by rw [emp]; simp only [mS_iff, eq_self, Int.reduceEq, true_and, and_true, false_and, and_false, and_self, ↓reduceIte]
                          have g6 : mp r81 6 = own := by rw [emp]; simp only [mS_iff, eq_self, Int.reduceEq, true_and, and_true, false_and, and_false, and_self, ↓reduceIte]
                          have g7 : mp r81 (-1) = 11 := by rw [emp]; simp only [mS_iff, eq_self, Int.reduceEq, true_and, and_true, false_and, and_false, and_self, ↓reduceIte]; exact w3
                          have e22 : mp 1 22 = S 0 4 := by rw [fmp 1 22 (by omega)]; exact e22
                          refine And.intro (rfl) ?_
                          refine And.intro (show 0 < r81 ∧ (mp r81 (-1)) = 11 by first | omega | (simp only [mS_iff, eq_self, Int.reduceEq, true_and, and_true, false_and, and_false, and_self, ↓reduceIte]; omega) | (simp only [mS_iff, eq_self, Int.reduceEq, true_and, and_true, false_and, and_false, and_self, ↓reduceIte] at *; omega)) ?_
                          obtain ⟨mq, emq⟩ : ∃ z, z = (mS mp r81 3 (mp 1 22)) := ⟨_, rfl⟩
                          rw [← emq]
                          have fmq : ∀ x j, x ≠ r81 → mq x j = mp x j := fun x j u => by rw [emq, mS_a _ _ _ _ u]
                          have g0 : mq r81 0 = _ := (by rw [emq, mS_iff, if_neg (by omega)] : mq r81 0 = mp r81 0).trans g0
                          have g1 : mq r81 1 = _ := (by rw [emq, mS_iff, if_neg (by omega)] : mq r81 1 = mp r81 1).trans g1
                          have g2 : mq r81 2 = _ := (by rw [emq, mS_iff, if_neg (by omega)] : mq r81 2 = mp r81 2).trans g2
                          have g4 : mq r81 4 = _ := (by rw [emq, mS_iff, if_neg (by omega)] : mq r81 4 = mp r81 4).trans g4
                          have g5 : mq r81 5 = _ := (by rw [emq, mS_iff, if_neg (by omega)] : mq r81 5 = mp r81 5).trans g5
                          have g6 : mq r81 6 = _ := (by rw [emq, mS_iff, if_neg (by omega)] : mq r81 6 = mp r81 6).trans g6
                          have g7 : mq r81 (-1) = _ := (by rw [emq, mS_iff, if_neg (by omega)] : mq r81 (-1) = mp r81 (-1)).trans g7
                          have g3 : mq r81 3 = S 0 4 := by rw [emq, mS_iff, if_pos ⟨rfl, rfl⟩]; exact e22
                          have e22 : mq 1 22 = S 0 4 := by rw [fmq 1 22 (by omega)]; exact e22
                          refine And.intro (rfl) ?_
                          refine And.intro (rfl) ?_
                          refine And.intro (⟨rfl, by omega, by omega, Or.inr ⟨by omega, g7⟩⟩) ?_
                          refine And.intro (rfl) ?_
                          refine And.intro (show -2147483648 ≤ (mq 1 22) + 1 ∧ (mq 1 22) + 1 ≤ 2147483647 by first | omega | (simp only [mS_iff, eq_self, Int.reduceEq, true_and, and_true, false_and, and_false, and_self, ↓reduceIte]; omega) | (simp only [mS_iff, eq_self, Int.reduceEq, true_and, and_true, false_and, and_false, and_self, ↓reduceIte] at *; omega)) ?_
                          refine And.intro (rfl) ?_
                          refine And.intro (by rw [mS_iff, if_neg (by omega), mS_iff, if_neg (by omega)]; exact g7) ?_
                          have ev0 : c_per S w f mo b own = (S 0 4, sPn S w f mo b own) := by
                            unfold c_per
                            repeat' split
                            all_goals first | rfl | (exfalso; omega) | (refine Prod.ext ?_ ?_ <;> first | rfl | (show _ = _; omega))
                          rw [ev0] at hQ
                          dsimp only at hQ
                          have ok : okPn S w f mo b own := ⟨hw, p1, p2, dy, by omega, by omega, by omega⟩
                          have hf : (m 20 f) = hpr m f := by unfold hpr; rw [if_neg (by omega)]
                          have hm : (m 20 mo) = hpr m mo := by unfold hpr; rw [if_neg (by omega)]
                          have ff : ∀ x j, x ≠ r81 → mq x j = mw80 x j := fun x j u => (fmq x j u).trans (fmp x j u)
                          have z00 := ff 0 0 (by omega)
                          have z01 := ff 0 1 (by omega)
                          have NP : hNp m ((mS (mS mq 20 (mq 1 22) r81) 1 22 ((mq 1 22) + 1))) (S 0 4) w (hpr m f) (hpr m mo) b own := by
                            refine ⟨by rw [mS_iff, if_neg (by omega), mS_iff, if_neg (by omega)]; omega, by rw [mS_iff, if_neg (by omega), mS_iff, if_neg (by omega)]; omega, fun j u v => by rw [mS_iff, if_neg (by omega), mS_iff, if_neg (by omega)]; exact (ff 0 j (by omega)).trans (w6 j u v), fun x j u v y z => by rw [mS_iff, if_neg (by omega), mS_iff, if_neg (by omega)]; exact (ff x j (by omega)).trans (w5 x j u (by omega)), ?_, ?_, ?_, ?_, ?_, ?_, ?_, ?_, ?_, ?_⟩
                            all_goals try rw [← rr]
                            · rw [← e22]
                              simp only [mS_iff, eq_self, Int.reduceEq, true_and, and_true, false_and, and_false, and_self, ↓reduceIte]
                            · simp only [mS_iff, eq_self, Int.reduceEq, true_and, and_true, false_and, and_false, and_self, ↓reduceIte]
                              omega
                            · rw [mS_iff, if_neg (by omega), mS_iff, if_neg (by omega)]
                              exact g7
                            · rw [mS_iff, if_neg (by omega), mS_iff, if_neg (by omega)]
                              exact g0
                            · rw [mS_iff, if_neg (by omega), mS_iff, if_neg (by omega)]
                              exact g1.trans hf
                            · rw [mS_iff, if_neg (by omega), mS_iff, if_neg (by omega)]
                              exact g2.trans hm
                            · rw [mS_iff, if_neg (by omega), mS_iff, if_neg (by omega)]
                              exact g3
                            · rw [mS_iff, if_neg (by omega), mS_iff, if_neg (by omega)]
                              exact g4
                            · rw [mS_iff, if_neg (by omega), mS_iff, if_neg (by omega)]
                              exact g5
                            · rw [mS_iff, if_neg (by omega), mS_iff, if_neg (by omega)]
                              exact g6
                          show Q (.inl (some (aI ((mS (mS mq 20 (mq 1 22) r81) 1 22 ((mq 1 22) + 1)) r81 3)))) ((mS (mS mq 20 (mq 1 22) r81) 1 22 ((mq 1 22) + 1)))
                          rw [show ((mS (mS mq 20 (mq 1 22) r81) 1 22 ((mq 1 22) + 1)) r81 3) = S 0 4 from (by rw [mS_iff, if_neg (by omega), mS_iff, if_neg (by omega)]; exact g3)]
                          exact hQ _ ⟨h.pn ok NP, ⟨by rw [NP.1]; omega, by have := NP.2.1; omega, by have := NP.2.1; omega, by rw [NP.2.2.2.1 1 14 (by omega) (by omega) (by omega) (by omega)]; omega, by rw [NP.2.2.2.1 1 14 (by omega) (by omega) (by omega) (by omega)]; omega⟩⟩ (fun x j u v => NP.2.2.2.1 x j (by omega) (by omega) (by omega) (by omega))
                        · have ev0 : c_per S w f mo b own = ((-5), S) := by
                            unfold c_per
                            repeat' split
                            all_goals first | rfl | (exfalso; omega) | (refine Prod.ext ?_ ?_ <;> first | rfl | (show _ = _; omega))
                          rw [ev0] at hQ
                          dsimp only at hQ
                          exact hQ m (hz0.fr fr (by omega)) fr.M
                      · have ev0 : c_per S w f mo b own = ((-4), S) := by
                          unfold c_per
                          repeat' split
                          all_goals first | rfl | (exfalso; omega) | (refine Prod.ext ?_ ?_ <;> first | rfl | (show _ = _; omega))
                        rw [ev0] at hQ
                        dsimp only at hQ
                        exact hQ m (hz0.fr fr (by omega)) fr.M
                · refine And.intro (show (m (m 20 f) (-1)) = 11 by first | assumption | omega | (simp only [mS_iff, eq_self, Int.reduceEq, true_and, and_true, false_and, and_false, and_self, ↓reduceIte]; omega) | (simp only [mS_iff, eq_self, Int.reduceEq, true_and, and_true, false_and, and_false, and_self, ↓reduceIte] at *; omega)) ?_
                  refine And.intro (fun h84 => ?_) (fun h84 => ?_)
                  · have ev0 : c_per S w f mo b own = ((-4), S) := by
                      unfold c_per
                      repeat' split
                      all_goals first | rfl | (exfalso; omega) | (refine Prod.ext ?_ ?_ <;> first | rfl | (show _ = _; omega))
                    rw [ev0] at hQ
                    dsimp only at hQ
                    exact hQ m (hz0.fr fr (by omega)) fr.M
                  · refine And.intro (show (m (m 20 f) (-1)) = 11 by first | assumption | omega | (simp only [mS_iff, eq_self, Int.reduceEq, true_and, and_true, false_and, and_false, and_self, ↓reduceIte]; omega) | (simp only [mS_iff, eq_self, Int.reduceEq, true_and, and_true, false_and, and_false, and_self, ↓reduceIte] at *; omega)) ?_
                    refine And.intro (fun h85 => ?_) (fun h85 => ?_)
                    · have ev0 : c_per S w f mo b own = ((-4), S) := by
                        unfold c_per
                        repeat' split
                        all_goals first | rfl | (exfalso; omega) | (refine Prod.ext ?_ ?_ <;> first | rfl | (show _ = _; omega))
                      rw [ev0] at hQ
                      dsimp only at hQ
                      exact hQ m (hz0.fr fr (by omega)) fr.M
                    · refine And.intro (show (m 20 mo) ≠ -9 by first | omega | (simp only [mS_iff, eq_self, Int.reduceEq, true_and, and_true, false_and, and_false, and_self, ↓reduceIte]; omega) | (simp only [mS_iff, eq_self, Int.reduceEq, true_and, and_true, false_and, and_false, and_self, ↓reduceIte] at *; omega)) ?_
                      refine And.intro (fun h86 => ?_) (fun h86 => ?_)
                      · refine And.intro (rfl) ?_
                        refine And.intro (fun h87 => ?_) (fun h87 => ?_)
                        · refine And.intro (by first | omega | (simp only [mS_iff, eq_self, Int.reduceEq, true_and, and_true, false_and, and_false, and_self, ↓reduceIte]; omega) | (simp only [mS_iff, eq_self, Int.reduceEq, true_and, and_true, false_and, and_false, and_self, ↓reduceIte] at *; omega)) ?_
                          generalize h90 : mN m 11 7 = mw88
                          generalize h91 : m 0 0 + 1 = r89
                          obtain ⟨w1, w2, w3, w4, w5, w6⟩ := mN_f h90 h91 (by omega)
                          have rr : r89 = m 0 0 + 1 := Eq.symm h91
                          have e22 : mw88 1 22 = S 0 4 := by rw [w5 1 22 (by omega) (by omega)]; exact q22
                          refine And.intro (show 0 < r89 by first | omega | (simp only [mS_iff, eq_self, Int.reduceEq, true_and, and_true, false_and, and_false, and_self, ↓reduceIte]; omega) | (simp only [mS_iff, eq_self, Int.reduceEq, true_and, and_true, false_and, and_false, and_self, ↓reduceIte] at *; omega)) ?_
                          refine am_in (k := 0) rfl (by omega) (fun d hd => ?_)
                          refine am_go 400 [] (am_wpc_cm _ _ _) wf_320 ?_
                          refine And.intro (show 0 < r89 by first | omega | (simp only [mS_iff, eq_self, Int.reduceEq, true_and, and_true, false_and, and_false, and_self, ↓reduceIte]; omega) | (simp only [mS_iff, eq_self, Int.reduceEq, true_and, and_true, false_and, and_false, and_self, ↓reduceIte] at *; omega)) ?_
                          refine And.intro (show 0 < r89 ∧ (mw88 r89 (-1)) = 11 by first | omega | (simp only [mS_iff, eq_self, Int.reduceEq, true_and, and_true, false_and, and_false, and_self, ↓reduceIte]; omega) | (simp only [mS_iff, eq_self, Int.reduceEq, true_and, and_true, false_and, and_false, and_self, ↓reduceIte] at *; omega)) ?_
                          refine And.intro (show 0 < r89 ∧ ((mS mw88 r89 5 10000) r89 (-1)) = 11 ∧ (w = 0 ∨ w = 1) by first | omega | (simp only [mS_iff, eq_self, Int.reduceEq, true_and, and_true, false_and, and_false, and_self, ↓reduceIte]; omega) | (simp only [mS_iff, eq_self, Int.reduceEq, true_and, and_true, false_and, and_false, and_self, ↓reduceIte] at *; omega)) ?_
                          refine And.intro (show 0 < r89 ∧ ((mS (mS mw88 r89 5 10000) r89 0 w) r89 (-1)) = 11 by first | omega | (simp only [mS_iff, eq_self, Int.reduceEq, true_and, and_true, false_and, and_false, and_self, ↓reduceIte]; omega) | (simp only [mS_iff, eq_self, Int.reduceEq, true_and, and_true, false_and, and_false, and_self, ↓reduceIte] at *; omega)) ?_
                          refine And.intro (show 0 < r89 ∧ ((mS (mS (mS mw88 r89 5 10000) r89 0 w) r89 1 (m 20 f)) r89 (-1)) = 11 by first | omega | (simp only [mS_iff, eq_self, Int.reduceEq, true_and, and_true, false_and, and_false, and_self, ↓reduceIte]; omega) | (simp only [mS_iff, eq_self, Int.reduceEq, true_and, and_true, false_and, and_false, and_self, ↓reduceIte] at *; omega)) ?_
                          refine And.intro (show 0 < r89 ∧ ((mS (mS (mS (mS mw88 r89 5 10000) r89 0 w) r89 1 (m 20 f)) r89 2 (m 20 mo)) r89 (-1)) = 11 by first | omega | (simp only [mS_iff, eq_self, Int.reduceEq, true_and, and_true, false_and, and_false, and_self, ↓reduceIte]; omega) | (simp only [mS_iff, eq_self, Int.reduceEq, true_and, and_true, false_and, and_false, and_self, ↓reduceIte] at *; omega)) ?_
                          refine And.intro (show 0 < r89 ∧ ((mS (mS (mS (mS (mS mw88 r89 5 10000) r89 0 w) r89 1 (m 20 f)) r89 2 (m 20 mo)) r89 4 b) r89 (-1)) = 11 by first | omega | (simp only [mS_iff, eq_self, Int.reduceEq, true_and, and_true, false_and, and_false, and_self, ↓reduceIte]; omega) | (simp only [mS_iff, eq_self, Int.reduceEq, true_and, and_true, false_and, and_false, and_self, ↓reduceIte] at *; omega)) ?_
                          obtain ⟨mp, emp⟩ : ∃ z, z = (mS (mS (mS (mS (mS (mS mw88 r89 5 10000) r89 0 w) r89 1 (m 20 f)) r89 2 (m 20 mo)) r89 4 b) r89 6 own) := ⟨_, rfl⟩
                          rw [← emp]
                          have fmp : ∀ x j, x ≠ r89 → mp x j = mw88 x j := fun x j u => by rw [emp, mS_a _ _ _ _ u, mS_a _ _ _ _ u, mS_a _ _ _ _ u, mS_a _ _ _ _ u, mS_a _ _ _ _ u, mS_a _ _ _ _ u]
                          have g0 : mp r89 0 = w := by rw [emp]; simp only [mS_iff, eq_self, Int.reduceEq, true_and, and_true, false_and, and_false, and_self, ↓reduceIte]
                          have g1 : mp r89 1 = (m 20 f) := by rw [emp]; simp only [mS_iff, eq_self, Int.reduceEq, true_and, and_true, false_and, and_false, and_self, ↓reduceIte]
                          have g2 : mp r89 2 = (m 20 mo) := by rw [emp]; simp only [mS_iff, eq_self, Int.reduceEq, true_and, and_true, false_and, and_false, and_self, ↓reduceIte]
                          have g4 : mp r89 4 = b := by rw [emp]; simp only [mS_iff, eq_self, Int.reduceEq, true_and, and_true, false_and, and_false, and_self, ↓reduceIte]
                          have g5 : mp r89 5 = 10000 := by rw [emp]; simp only [mS_iff, eq_self, Int.reduceEq, true_and, and_true, false_and, and_false, and_self, ↓reduceIte]
                          have g6 : mp r89 6 = own := by rw [emp]; simp only [mS_iff, eq_self, Int.reduceEq, true_and, and_true, false_and, and_false, and_self, ↓reduceIte]
                          have g7 : mp r89 (-1) = 11 := by rw [emp]; simp only [mS_iff, eq_self, Int.reduceEq, true_and, and_true, false_and, and_false, and_self, ↓reduceIte]; exact w3
                          have e22 : mp 1 22 = S 0 4 := by rw [fmp 1 22 (by omega)]; exact e22
                          refine And.intro (rfl) ?_
                          refine And.intro (show 0 < r89 ∧ (mp r89 (-1)) = 11 by first | omega | (simp only [mS_iff, eq_self, Int.reduceEq, true_and, and_true, false_and, and_false, and_self, ↓reduceIte]; omega) | (simp only [mS_iff, eq_self, Int.reduceEq, true_and, and_true, false_and, and_false, and_self, ↓reduceIte] at *; omega)) ?_
                          obtain ⟨mq, emq⟩ : ∃ z, z = (mS mp r89 3 (mp 1 22)) := ⟨_, rfl⟩
                          rw [← emq]
                          have fmq : ∀ x j, x ≠ r89 → mq x j = mp x j := fun x j u => by rw [emq, mS_a _ _ _ _ u]
                          have g0 : mq r89 0 = _ := (by rw [emq, mS_iff, if_neg (by omega)] : mq r89 0 = mp r89 0).trans g0
                          have g1 : mq r89 1 = _ := (by rw [emq, mS_iff, if_neg (by omega)] : mq r89 1 = mp r89 1).trans g1
                          have g2 : mq r89 2 = _ := (by rw [emq, mS_iff, if_neg (by omega)] : mq r89 2 = mp r89 2).trans g2
                          have g4 : mq r89 4 = _ := (by rw [emq, mS_iff, if_neg (by omega)] : mq r89 4 = mp r89 4).trans g4
                          have g5 : mq r89 5 = _ := (by rw [emq, mS_iff, if_neg (by omega)] : mq r89 5 = mp r89 5).trans g5
                          have g6 : mq r89 6 = _ := (by rw [emq, mS_iff, if_neg (by omega)] : mq r89 6 = mp r89 6).trans g6
                          have g7 : mq r89 (-1) = _ := (by rw [emq, mS_iff, if_neg (by omega)] : mq r89 (-1) = mp r89 (-1)).trans g7
                          have g3 : mq r89 3 = S 0 4 := by rw [emq, mS_iff, if_pos ⟨rfl, rfl⟩]; exact e22
                          have e22 : mq 1 22 = S 0 4 := by rw [fmq 1 22 (by omega)]; exact e22
                          refine And.intro (rfl) ?_
                          refine And.intro (rfl) ?_
                          refine And.intro (⟨rfl, by omega, by omega, Or.inr ⟨by omega, g7⟩⟩) ?_
                          refine And.intro (rfl) ?_
                          refine And.intro (show -2147483648 ≤ (mq 1 22) + 1 ∧ (mq 1 22) + 1 ≤ 2147483647 by first | omega | (simp only [mS_iff, eq_self, Int.reduceEq, true_and, and_true, false_and, and_false, and_self, ↓reduceIte]; omega) | (simp only [mS_iff, eq_self, Int.reduceEq, true_and, and_true, false_and, and_false, and_self, ↓reduceIte] at *; omega)) ?_
                          refine And.intro (rfl) ?_
                          refine And.intro (by rw [mS_iff, if_neg (by omega), mS_iff, if_neg (by omega)]; exact g7) ?_
                          have ev0 : c_per S w f mo b own = (S 0 4, sPn S w f mo b own) := by
                            unfold c_per
                            repeat' split
                            all_goals first | rfl | (exfalso; omega) | (refine Prod.ext ?_ ?_ <;> first | rfl | (show _ = _; omega))
                          rw [ev0] at hQ
                          dsimp only at hQ
                          have ok : okPn S w f mo b own := ⟨hw, p1, p2, dy, by omega, by omega, by omega⟩
                          have hf : (m 20 f) = hpr m f := by unfold hpr; rw [if_neg (by omega)]
                          have hm : (m 20 mo) = hpr m mo := by unfold hpr; rw [if_neg (by omega)]
                          have ff : ∀ x j, x ≠ r89 → mq x j = mw88 x j := fun x j u => (fmq x j u).trans (fmp x j u)
                          have z00 := ff 0 0 (by omega)
                          have z01 := ff 0 1 (by omega)
                          have NP : hNp m ((mS (mS mq 20 (mq 1 22) r89) 1 22 ((mq 1 22) + 1))) (S 0 4) w (hpr m f) (hpr m mo) b own := by
                            refine ⟨by rw [mS_iff, if_neg (by omega), mS_iff, if_neg (by omega)]; omega, by rw [mS_iff, if_neg (by omega), mS_iff, if_neg (by omega)]; omega, fun j u v => by rw [mS_iff, if_neg (by omega), mS_iff, if_neg (by omega)]; exact (ff 0 j (by omega)).trans (w6 j u v), fun x j u v y z => by rw [mS_iff, if_neg (by omega), mS_iff, if_neg (by omega)]; exact (ff x j (by omega)).trans (w5 x j u (by omega)), ?_, ?_, ?_, ?_, ?_, ?_, ?_, ?_, ?_, ?_⟩
                            all_goals try rw [← rr]
                            · rw [← e22]
                              simp only [mS_iff, eq_self, Int.reduceEq, true_and, and_true, false_and, and_false, and_self, ↓reduceIte]
                            · simp only [mS_iff, eq_self, Int.reduceEq, true_and, and_true, false_and, and_false, and_self, ↓reduceIte]
                              omega
                            · rw [mS_iff, if_neg (by omega), mS_iff, if_neg (by omega)]
                              exact g7
                            · rw [mS_iff, if_neg (by omega), mS_iff, if_neg (by omega)]
                              exact g0
                            · rw [mS_iff, if_neg (by omega), mS_iff, if_neg (by omega)]
                              exact g1.trans hf
                            · rw [mS_iff, if_neg (by omega), mS_iff, if_neg (by omega)]
                              exact g2.trans hm
                            · rw [mS_iff, if_neg (by omega), mS_iff, if_neg (by omega)]
                              exact g3
                            · rw [mS_iff, if_neg (by omega), mS_iff, if_neg (by omega)]
                              exact g4
                            · rw [mS_iff, if_neg (by omega), mS_iff, if_neg (by omega)]
                              exact g5
                            · rw [mS_iff, if_neg (by omega), mS_iff, if_neg (by omega)]
                              exact g6
                          show Q (.inl (some (aI ((mS (mS mq 20 (mq 1 22) r89) 1 22 ((mq 1 22) + 1)) r89 3)))) ((mS (mS mq 20 (mq 1 22) r89) 1 22 ((mq 1 22) + 1)))
                          rw [show ((mS (mS mq 20 (mq 1 22) r89) 1 22 ((mq 1 22) + 1)) r89 3) = S 0 4 from (by rw [mS_iff, if_neg (by omega), mS_iff, if_neg (by omega)]; exact g3)]
                          exact hQ _ ⟨h.pn ok NP, ⟨by rw [NP.1]; omega, by have := NP.2.1; omega, by have := NP.2.1; omega, by rw [NP.2.2.2.1 1 14 (by omega) (by omega) (by omega) (by omega)]; omega, by rw [NP.2.2.2.1 1 14 (by omega) (by omega) (by omega) (by omega)]; omega⟩⟩ (fun x j u v => NP.2.2.2.1 x j (by omega) (by omega) (by omega) (by omega))
                        · have ev0 : c_per S w f mo b own = ((-5), S) := by
                            unfold c_per
                            repeat' split
                            all_goals first | rfl | (exfalso; omega) | (refine Prod.ext ?_ ?_ <;> first | rfl | (show _ = _; omega))
                          rw [ev0] at hQ
                          dsimp only at hQ
                          exact hQ m (hz0.fr fr (by omega)) fr.M
                      · refine And.intro (show (m (m 20 mo) (-1)) = 11 by first | assumption | omega | (simp only [mS_iff, eq_self, Int.reduceEq, true_and, and_true, false_and, and_false, and_self, ↓reduceIte]; omega) | (simp only [mS_iff, eq_self, Int.reduceEq, true_and, and_true, false_and, and_false, and_self, ↓reduceIte] at *; omega)) ?_
                        refine And.intro (fun h92 => ?_) (fun h92 => ?_)
                        · have ev0 : c_per S w f mo b own = ((-4), S) := by
                            unfold c_per
                            repeat' split
                            all_goals first | rfl | (exfalso; omega) | (refine Prod.ext ?_ ?_ <;> first | rfl | (show _ = _; omega))
                          rw [ev0] at hQ
                          dsimp only at hQ
                          exact hQ m (hz0.fr fr (by omega)) fr.M
                        · refine And.intro (show (m (m 20 mo) (-1)) = 11 by first | assumption | omega | (simp only [mS_iff, eq_self, Int.reduceEq, true_and, and_true, false_and, and_false, and_self, ↓reduceIte]; omega) | (simp only [mS_iff, eq_self, Int.reduceEq, true_and, and_true, false_and, and_false, and_self, ↓reduceIte] at *; omega)) ?_
                          refine And.intro (fun h93 => ?_) (fun h93 => ?_)
                          · refine And.intro (rfl) ?_
                            refine And.intro (fun h94 => ?_) (fun h94 => ?_)
                            · refine And.intro (by first | omega | (simp only [mS_iff, eq_self, Int.reduceEq, true_and, and_true, false_and, and_false, and_self, ↓reduceIte]; omega) | (simp only [mS_iff, eq_self, Int.reduceEq, true_and, and_true, false_and, and_false, and_self, ↓reduceIte] at *; omega)) ?_
                              generalize h97 : mN m 11 7 = mw95
                              generalize h98 : m 0 0 + 1 = r96
                              obtain ⟨w1, w2, w3, w4, w5, w6⟩ := mN_f h97 h98 (by omega)
                              have rr : r96 = m 0 0 + 1 := Eq.symm h98
                              have e22 : mw95 1 22 = S 0 4 := by rw [w5 1 22 (by omega) (by omega)]; exact q22
                              refine And.intro (show 0 < r96 by first | omega | (simp only [mS_iff, eq_self, Int.reduceEq, true_and, and_true, false_and, and_false, and_self, ↓reduceIte]; omega) | (simp only [mS_iff, eq_self, Int.reduceEq, true_and, and_true, false_and, and_false, and_self, ↓reduceIte] at *; omega)) ?_
                              refine am_in (k := 0) rfl (by omega) (fun d hd => ?_)
                              refine am_go 400 [] (am_wpc_cm _ _ _) wf_320 ?_
                              refine And.intro (show 0 < r96 by first | omega | (simp only [mS_iff, eq_self, Int.reduceEq, true_and, and_true, false_and, and_false, and_self, ↓reduceIte]; omega) | (simp only [mS_iff, eq_self, Int.reduceEq, true_and, and_true, false_and, and_false, and_self, ↓reduceIte] at *; omega)) ?_
                              refine And.intro (show 0 < r96 ∧ (mw95 r96 (-1)) = 11 by first | omega | (simp only [mS_iff, eq_self, Int.reduceEq, true_and, and_true, false_and, and_false, and_self, ↓reduceIte]; omega) | (simp only [mS_iff, eq_self, Int.reduceEq, true_and, and_true, false_and, and_false, and_self, ↓reduceIte] at *; omega)) ?_
                              refine And.intro (show 0 < r96 ∧ ((mS mw95 r96 5 10000) r96 (-1)) = 11 ∧ (w = 0 ∨ w = 1) by first | omega | (simp only [mS_iff, eq_self, Int.reduceEq, true_and, and_true, false_and, and_false, and_self, ↓reduceIte]; omega) | (simp only [mS_iff, eq_self, Int.reduceEq, true_and, and_true, false_and, and_false, and_self, ↓reduceIte] at *; omega)) ?_
                              refine And.intro (show 0 < r96 ∧ ((mS (mS mw95 r96 5 10000) r96 0 w) r96 (-1)) = 11 by first | omega | (simp only [mS_iff, eq_self, Int.reduceEq, true_and, and_true, false_and, and_false, and_self, ↓reduceIte]; omega) | (simp only [mS_iff, eq_self, Int.reduceEq, true_and, and_true, false_and, and_false, and_self, ↓reduceIte] at *; omega)) ?_
                              refine And.intro (show 0 < r96 ∧ ((mS (mS (mS mw95 r96 5 10000) r96 0 w) r96 1 (m 20 f)) r96 (-1)) = 11 by first | omega | (simp only [mS_iff, eq_self, Int.reduceEq, true_and, and_true, false_and, and_false, and_self, ↓reduceIte]; omega) | (simp only [mS_iff, eq_self, Int.reduceEq, true_and, and_true, false_and, and_false, and_self, ↓reduceIte] at *; omega)) ?_
                              refine And.intro (show 0 < r96 ∧ ((mS (mS (mS (mS mw95 r96 5 10000) r96 0 w) r96 1 (m 20 f)) r96 2 (m 20 mo)) r96 (-1)) = 11 by first | omega | (simp only [mS_iff, eq_self, Int.reduceEq, true_and, and_true, false_and, and_false, and_self, ↓reduceIte]; omega) | (simp only [mS_iff, eq_self, Int.reduceEq, true_and, and_true, false_and, and_false, and_self, ↓reduceIte] at *; omega)) ?_
                              refine And.intro (show 0 < r96 ∧ ((mS (mS (mS (mS (mS mw95 r96 5 10000) r96 0 w) r96 1 (m 20 f)) r96 2 (m 20 mo)) r96 4 b) r96 (-1)) = 11 by first | omega | (simp only [mS_iff, eq_self, Int.reduceEq, true_and, and_true, false_and, and_false, and_self, ↓reduceIte]; omega) | (simp only [mS_iff, eq_self, Int.reduceEq, true_and, and_true, false_and, and_false, and_self, ↓reduceIte] at *; omega)) ?_
                              obtain ⟨mp, emp⟩ : ∃ z, z = (mS (mS (mS (mS (mS (mS mw95 r96 5 10000) r96 0 w) r96 1 (m 20 f)) r96 2 (m 20 mo)) r96 4 b) r96 6 own) := ⟨_, rfl⟩
                              rw [← emp]
                              have fmp : ∀ x j, x ≠ r96 → mp x j = mw95 x j := fun x j u => by rw [emp, mS_a _ _ _ _ u, mS_a _ _ _ _ u, mS_a _ _ _ _ u, mS_a _ _ _ _ u, mS_a _ _ _ _ u, mS_a _ _ _ _ u]
                              have g0 : mp r96 0 = w := by rw [emp]; simp only [mS_iff, eq_self, Int.reduceEq, true_and, and_true, false_and, and_false, and_self, ↓reduceIte]
                              have g1 : mp r96 1 = (m 20 f) := by rw [emp]; simp only [mS_iff, eq_self, Int.reduceEq, true_and, and_true, false_and, and_false, and_self, ↓reduceIte]
                              have g2 : mp r96 2 = (m 20 mo) := by rw [emp]; simp only [mS_iff, eq_self, Int.reduceEq, true_and, and_true, false_and, and_false, and_self, ↓reduceIte]
                              have g4 : mp r96 4 = b := by rw [emp]; simp only [mS_iff, eq_self, Int.reduceEq, true_and, and_true, false_and, and_false, and_self, ↓reduceIte]
                              have g5 : mp r96 5 = 10000 := by rw [emp]; simp only [mS_iff, eq_self, Int.reduceEq, true_and, and_true, false_and, and_false, and_self, ↓reduceIte]
                              have g6 : mp r96 6 = own := by rw [emp]; simp only [mS_iff, eq_self, Int.reduceEq, true_and, and_true, false_and, and_false, and_self, ↓reduceIte]
                              have g7 : mp r96 (-1) = 11 := by rw [emp]; simp only [mS_iff, eq_self, Int.reduceEq, true_and, and_true, false_and, and_false, and_self, ↓reduceIte]; exact w3
                              have e22 : mp 1 22 = S 0 4 := by rw [fmp 1 22 (by omega)]; exact e22
                              refine And.intro (rfl) ?_
                              refine And.intro (show 0 < r96 ∧ (mp r96 (-1)) = 11 by first | omega | (simp only [mS_iff, eq_self, Int.reduceEq, true_and, and_true, false_and, and_false, and_self, ↓reduceIte]; omega) | (simp only [mS_iff, eq_self, Int.reduceEq, true_and, and_true, false_and, and_false, and_self, ↓reduceIte] at *; omega)) ?_
                              obtain ⟨mq, emq⟩ : ∃ z, z = (mS mp r96 3 (mp 1 22)) := ⟨_, rfl⟩
                              rw [← emq]
                              have fmq : ∀ x j, x ≠ r96 → mq x j = mp x j := fun x j u => by rw [emq, mS_a _ _ _ _ u]
                              have g0 : mq r96 0 = _ := (by rw [emq, mS_iff, if_neg (by omega)] : mq r96 0 = mp r96 0).trans g0
                              have g1 : mq r96 1 = _ := (by rw [emq, mS_iff, if_neg (by omega)] : mq r96 1 = mp r96 1).trans g1
                              have g2 : mq r96 2 = _ := (by rw [emq, mS_iff, if_neg (by omega)] : mq r96 2 = mp r96 2).trans g2
                              have g4 : mq r96 4 = _ := (by rw [emq, mS_iff, if_neg (by omega)] : mq r96 4 = mp r96 4).trans g4
                              have g5 : mq r96 5 = _ := (by rw [emq, mS_iff, if_neg (by omega)] : mq r96 5 = mp r96 5).trans g5
                              have g6 : mq r96 6 = _ := (by rw [emq, mS_iff, if_neg (by omega)] : mq r96 6 = mp r96 6).trans g6
                              have g7 : mq r96 (-1) = _ := (by rw [emq, mS_iff, if_neg (by omega)] : mq r96 (-1) = mp r96 (-1)).trans g7
                              have g3 : mq r96 3 = S 0 4 := by rw [emq, mS_iff, if_pos ⟨rfl, rfl⟩]; exact e22
                              have e22 : mq 1 22 = S 0 4 := by rw [fmq 1 22 (by omega)]; exact e22
                              refine And.intro (rfl) ?_
                              refine And.intro (rfl) ?_
                              refine And.intro (⟨rfl, by omega, by omega, Or.inr ⟨by omega, g7⟩⟩) ?_
                              refine And.intro (rfl) ?_
                              refine And.intro (show -2147483648 ≤ (mq 1 22) + 1 ∧ (mq 1 22) + 1 ≤ 2147483647 by first | omega | (simp only [mS_iff, eq_self, Int.reduceEq, true_and, and_true, false_and, and_false, and_self, ↓reduceIte]; omega) | (simp only [mS_iff, eq_self, Int.reduceEq, true_and, and_true, false_and, and_false, and_self, ↓reduceIte] at *; omega)) ?_
                              refine And.intro (rfl) ?_
                              refine And.intro (by rw [mS_iff, if_neg (by omega), mS_iff, if_neg (by omega)]; exact g7) ?_
                              have ev0 : c_per S w f mo b own = (S 0 4, sPn S w f mo b own) := by
                                unfold c_per
                                repeat' split
                                all_goals first | rfl | (exfalso; omega) | (refine Prod.ext ?_ ?_ <;> first | rfl | (show _ = _; omega))
                              rw [ev0] at hQ
                              dsimp only at hQ
                              have ok : okPn S w f mo b own := ⟨hw, p1, p2, dy, by omega, by omega, by omega⟩
                              have hf : (m 20 f) = hpr m f := by unfold hpr; rw [if_neg (by omega)]
                              have hm : (m 20 mo) = hpr m mo := by unfold hpr; rw [if_neg (by omega)]
                              have ff : ∀ x j, x ≠ r96 → mq x j = mw95 x j := fun x j u => (fmq x j u).trans (fmp x j u)
                              have z00 := ff 0 0 (by omega)
                              have z01 := ff 0 1 (by omega)
                              have NP : hNp m ((mS (mS mq 20 (mq 1 22) r96) 1 22 ((mq 1 22) + 1))) (S 0 4) w (hpr m f) (hpr m mo) b own := by
                                refine ⟨by rw [mS_iff, if_neg (by omega), mS_iff, if_neg (by omega)]; omega, by rw [mS_iff, if_neg (by omega), mS_iff, if_neg (by omega)]; omega, fun j u v => by rw [mS_iff, if_neg (by omega), mS_iff, if_neg (by omega)]; exact (ff 0 j (by omega)).trans (w6 j u v), fun x j u v y z => by rw [mS_iff, if_neg (by omega), mS_iff, if_neg (by omega)]; exact (ff x j (by omega)).trans (w5 x j u (by omega)), ?_, ?_, ?_, ?_, ?_, ?_, ?_, ?_, ?_, ?_⟩
                                all_goals try rw [← rr]
                                · rw [← e22]
                                  simp only [mS_iff, eq_self, Int.reduceEq, true_and, and_true, false_and, and_false, and_self, ↓reduceIte]
                                · simp only [mS_iff, eq_self, Int.reduceEq, true_and, and_true, false_and, and_false, and_self, ↓reduceIte]
                                  omega
                                · rw [mS_iff, if_neg (by omega), mS_iff, if_neg (by omega)]
                                  exact g7
                                · rw [mS_iff, if_neg (by omega), mS_iff, if_neg (by omega)]
                                  exact g0
                                · rw [mS_iff, if_neg (by omega), mS_iff, if_neg (by omega)]
                                  exact g1.trans hf
                                · rw [mS_iff, if_neg (by omega), mS_iff, if_neg (by omega)]
                                  exact g2.trans hm
                                · rw [mS_iff, if_neg (by omega), mS_iff, if_neg (by omega)]
                                  exact g3
                                · rw [mS_iff, if_neg (by omega), mS_iff, if_neg (by omega)]
                                  exact g4
                                · rw [mS_iff, if_neg (by omega), mS_iff, if_neg (by omega)]
                                  exact g5
                                · rw [mS_iff, if_neg (by omega), mS_iff, if_neg (by omega)]
                                  exact g6
                              show Q (.inl (some (aI ((mS (mS mq 20 (mq 1 22) r96) 1 22 ((mq 1 22) + 1)) r96 3)))) ((mS (mS mq 20 (mq 1 22) r96) 1 22 ((mq 1 22) + 1)))
                              rw [show ((mS (mS mq 20 (mq 1 22) r96) 1 22 ((mq 1 22) + 1)) r96 3) = S 0 4 from (by rw [mS_iff, if_neg (by omega), mS_iff, if_neg (by omega)]; exact g3)]
                              exact hQ _ ⟨h.pn ok NP, ⟨by rw [NP.1]; omega, by have := NP.2.1; omega, by have := NP.2.1; omega, by rw [NP.2.2.2.1 1 14 (by omega) (by omega) (by omega) (by omega)]; omega, by rw [NP.2.2.2.1 1 14 (by omega) (by omega) (by omega) (by omega)]; omega⟩⟩ (fun x j u v => NP.2.2.2.1 x j (by omega) (by omega) (by omega) (by omega))
                            · have ev0 : c_per S w f mo b own = ((-5), S) := by
                                unfold c_per
                                repeat' split
                                all_goals first | rfl | (exfalso; omega) | (refine Prod.ext ?_ ?_ <;> first | rfl | (show _ = _; omega))
                              rw [ev0] at hQ
                              dsimp only at hQ
                              exact hQ m (hz0.fr fr (by omega)) fr.M
                          · have ev0 : c_per S w f mo b own = ((-4), S) := by
                              unfold c_per
                              repeat' split
                              all_goals first | rfl | (exfalso; omega) | (refine Prod.ext ?_ ?_ <;> first | rfl | (show _ = _; omega))
                            rw [ev0] at hQ
                            dsimp only at hQ
                            exact hQ m (hz0.fr fr (by omega)) fr.M
              · skip
                refine And.intro (show (m 20 f) ≠ -9 by first | omega | (simp only [mS_iff, eq_self, Int.reduceEq, true_and, and_true, false_and, and_false, and_self, ↓reduceIte]; omega) | (simp only [mS_iff, eq_self, Int.reduceEq, true_and, and_true, false_and, and_false, and_self, ↓reduceIte] at *; omega)) ?_
                refine And.intro (fun h99 => ?_) (fun h99 => ?_)
                · refine And.intro (by decide) ?_
                  refine And.intro (fun _ => ?_) (fun h => absurd h (by decide))
                  refine And.intro (rfl) ?_
                  refine And.intro (fun h100 => ?_) (fun h100 => ?_)
                  · refine And.intro (by first | omega | (simp only [mS_iff, eq_self, Int.reduceEq, true_and, and_true, false_and, and_false, and_self, ↓reduceIte]; omega) | (simp only [mS_iff, eq_self, Int.reduceEq, true_and, and_true, false_and, and_false, and_self, ↓reduceIte] at *; omega)) ?_
                    generalize h103 : mN m 11 7 = mw101
                    generalize h104 : m 0 0 + 1 = r102
                    obtain ⟨w1, w2, w3, w4, w5, w6⟩ := mN_f h103 h104 (by omega)
                    have rr : r102 = m 0 0 + 1 := Eq.symm h104
                    have e22 : mw101 1 22 = S 0 4 := by rw [w5 1 22 (by omega) (by omega)]; exact q22
                    refine And.intro (show 0 < r102 by first | omega | (simp only [mS_iff, eq_self, Int.reduceEq, true_and, and_true, false_and, and_false, and_self, ↓reduceIte]; omega) | (simp only [mS_iff, eq_self, Int.reduceEq, true_and, and_true, false_and, and_false, and_self, ↓reduceIte] at *; omega)) ?_
                    refine am_in (k := 0) rfl (by omega) (fun d hd => ?_)
                    refine am_go 400 [] (am_wpc_cm _ _ _) wf_320 ?_
                    refine And.intro (show 0 < r102 by first | omega | (simp only [mS_iff, eq_self, Int.reduceEq, true_and, and_true, false_and, and_false, and_self, ↓reduceIte]; omega) | (simp only [mS_iff, eq_self, Int.reduceEq, true_and, and_true, false_and, and_false, and_self, ↓reduceIte] at *; omega)) ?_
                    refine And.intro (show 0 < r102 ∧ (mw101 r102 (-1)) = 11 by first | omega | (simp only [mS_iff, eq_self, Int.reduceEq, true_and, and_true, false_and, and_false, and_self, ↓reduceIte]; omega) | (simp only [mS_iff, eq_self, Int.reduceEq, true_and, and_true, false_and, and_false, and_self, ↓reduceIte] at *; omega)) ?_
                    refine And.intro (show 0 < r102 ∧ ((mS mw101 r102 5 10000) r102 (-1)) = 11 ∧ (w = 0 ∨ w = 1) by first | omega | (simp only [mS_iff, eq_self, Int.reduceEq, true_and, and_true, false_and, and_false, and_self, ↓reduceIte]; omega) | (simp only [mS_iff, eq_self, Int.reduceEq, true_and, and_true, false_and, and_false, and_self, ↓reduceIte] at *; omega)) ?_
                    refine And.intro (show 0 < r102 ∧ ((mS (mS mw101 r102 5 10000) r102 0 w) r102 (-1)) = 11 by first | omega | (simp only [mS_iff, eq_self, Int.reduceEq, true_and, and_true, false_and, and_false, and_self, ↓reduceIte]; omega) | (simp only [mS_iff, eq_self, Int.reduceEq, true_and, and_true, false_and, and_false, and_self, ↓reduceIte] at *; omega)) ?_
                    refine And.intro (show 0 < r102 ∧ ((mS (mS (mS mw101 r102 5 10000) r102 0 w) r102 1 (m 20 f)) r102 (-1)) = 11 by first | omega | (simp only [mS_iff, eq_self, Int.reduceEq, true_and, and_true, false_and, and_false, and_self, ↓reduceIte]; omega) | (simp only [mS_iff, eq_self, Int.reduceEq, true_and, and_true, false_and, and_false, and_self, ↓reduceIte] at *; omega)) ?_
                    refine And.intro (show 0 < r102 ∧ ((mS (mS (mS (mS mw101 r102 5 10000) r102 0 w) r102 1 (m 20 f)) r102 2 0) r102 (-1)) = 11 by first | omega | (simp only [mS_iff, eq_self, Int.reduceEq, true_and, and_true, false_and, and_false, and_self, ↓reduceIte]; omega) | (simp only [mS_iff, eq_self, Int.reduceEq, true_and, and_true, false_and, and_false, and_self, ↓reduceIte] at *; omega)) ?_
                    refine And.intro (show 0 < r102 ∧ ((mS (mS (mS (mS (mS mw101 r102 5 10000) r102 0 w) r102 1 (m 20 f)) r102 2 0) r102 4 b) r102 (-1)) = 11 by first | omega | (simp only [mS_iff, eq_self, Int.reduceEq, true_and, and_true, false_and, and_false, and_self, ↓reduceIte]; omega) | (simp only [mS_iff, eq_self, Int.reduceEq, true_and, and_true, false_and, and_false, and_self, ↓reduceIte] at *; omega)) ?_
                    obtain ⟨mp, emp⟩ : ∃ z, z = (mS (mS (mS (mS (mS (mS mw101 r102 5 10000) r102 0 w) r102 1 (m 20 f)) r102 2 0) r102 4 b) r102 6 own) := ⟨_, rfl⟩
                    rw [← emp]
                    have fmp : ∀ x j, x ≠ r102 → mp x j = mw101 x j := fun x j u => by rw [emp, mS_a _ _ _ _ u, mS_a _ _ _ _ u, mS_a _ _ _ _ u, mS_a _ _ _ _ u, mS_a _ _ _ _ u, mS_a _ _ _ _ u]
                    have g0 : mp r102 0 = w := by rw [emp]; simp only [mS_iff, eq_self, Int.reduceEq, true_and, and_true, false_and, and_false, and_self, ↓reduceIte]
                    have g1 : mp r102 1 = (m 20 f) := by rw [emp]; simp only [mS_iff, eq_self, Int.reduceEq, true_and, and_true, false_and, and_false, and_self, ↓reduceIte]
                    have g2 : mp r102 2 = 0 := by rw [emp]; simp only [mS_iff, eq_self, Int.reduceEq, true_and, and_true, false_and, and_false, and_self, ↓reduceIte]
                    have g4 : mp r102 4 = b := by rw [emp]; simp only [mS_iff, eq_self, Int.reduceEq, true_and, and_true, false_and, and_false, and_self, ↓reduceIte]
                    have g5 : mp r102 5 = 10000 := by rw [emp]; simp only [mS_iff, eq_self, Int.reduceEq, true_and, and_true, false_and, and_false, and_self, ↓reduceIte]
                    have g6 : mp r102 6 = own := by rw [emp]; simp only [mS_iff, eq_self, Int.reduceEq, true_and, and_true, false_and, and_false, and_self, ↓reduceIte]
                    have g7 : mp r102 (-1) = 11 := by rw [emp]; simp only [mS_iff, eq_self, Int.reduceEq, true_and, and_true, false_and, and_false, and_self, ↓reduceIte]; exact w3
                    have e22 : mp 1 22 = S 0 4 := by rw [fmp 1 22 (by omega)]; exact e22
                    refine And.intro (rfl) ?_
                    refine And.intro (show 0 < r102 ∧ (mp r102 (-1)) = 11 by first | omega | (simp only [mS_iff, eq_self, Int.reduceEq, true_and, and_true, false_and, and_false, and_self, ↓reduceIte]; omega) | (simp only [mS_iff, eq_self, Int.reduceEq, true_and, and_true, false_and, and_false, and_self, ↓reduceIte] at *; omega)) ?_
                    obtain ⟨mq, emq⟩ : ∃ z, z = (mS mp r102 3 (mp 1 22)) := ⟨_, rfl⟩
                    rw [← emq]
                    have fmq : ∀ x j, x ≠ r102 → mq x j = mp x j := fun x j u => by rw [emq, mS_a _ _ _ _ u]
                    have g0 : mq r102 0 = _ := (by rw [emq, mS_iff, if_neg (by omega)] : mq r102 0 = mp r102 0).trans g0
                    have g1 : mq r102 1 = _ := (by rw [emq, mS_iff, if_neg (by omega)] : mq r102 1 = mp r102 1).trans g1
                    have g2 : mq r102 2 = _ := (by rw [emq, mS_iff, if_neg (by omega)] : mq r102 2 = mp r102 2).trans g2
                    have g4 : mq r102 4 = _ := (by rw [emq, mS_iff, if_neg (by omega)] : mq r102 4 = mp r102 4).trans g4
                    have g5 : mq r102 5 = _ := (by rw [emq, mS_iff, if_neg (by omega)] : mq r102 5 = mp r102 5).trans g5
                    have g6 : mq r102 6 = _ := (by rw [emq, mS_iff, if_neg (by omega)] : mq r102 6 = mp r102 6).trans g6
                    have g7 : mq r102 (-1) = _ := (by rw [emq, mS_iff, if_neg (by omega)] : mq r102 (-1) = mp r102 (-1)).trans g7
                    have g3 : mq r102 3 = S 0 4 := by rw [emq, mS_iff, if_pos ⟨rfl, rfl⟩]; exact e22
                    have e22 : mq 1 22 = S 0 4 := by rw [fmq 1 22 (by omega)]; exact e22
                    refine And.intro (rfl) ?_
                    refine And.intro (rfl) ?_
                    refine And.intro (⟨rfl, by omega, by omega, Or.inr ⟨by omega, g7⟩⟩) ?_
                    refine And.intro (rfl) ?_
                    refine And.intro (show -2147483648 ≤ (mq 1 22) + 1 ∧ (mq 1 22) + 1 ≤ 2147483647 by first | omega | (simp only [mS_iff, eq_self, Int.reduceEq, true_and, and_true, false_and, and_false, and_self, ↓reduceIte]; omega) | (simp only [mS_iff, eq_self, Int.reduceEq, true_and, and_true, false_and, and_false, and_self, ↓reduceIte] at *; omega)) ?_
                    refine And.intro (rfl) ?_
                    refine And.intro (by rw [mS_iff, if_neg (by omega), mS_iff, if_neg (by omega)]; exact g7) ?_
                    have ev0 : c_per S w f mo b own = (S 0 4, sPn S w f mo b own) := by
                      unfold c_per
                      repeat' split
                      all_goals first | rfl | (exfalso; omega) | (refine Prod.ext ?_ ?_ <;> first | rfl | (show _ = _; omega))
                    rw [ev0] at hQ
                    dsimp only at hQ
                    have ok : okPn S w f mo b own := ⟨hw, p1, p2, dy, by omega, by omega, by omega⟩
                    have hf : (m 20 f) = hpr m f := by unfold hpr; rw [if_neg (by omega)]
                    have hm : 0 = hpr m mo := by unfold hpr; rw [if_pos (by omega)]
                    have ff : ∀ x j, x ≠ r102 → mq x j = mw101 x j := fun x j u => (fmq x j u).trans (fmp x j u)
                    have z00 := ff 0 0 (by omega)
                    have z01 := ff 0 1 (by omega)
                    have NP : hNp m ((mS (mS mq 20 (mq 1 22) r102) 1 22 ((mq 1 22) + 1))) (S 0 4) w (hpr m f) (hpr m mo) b own := by
                      refine ⟨by rw [mS_iff, if_neg (by omega), mS_iff, if_neg (by omega)]; omega, by rw [mS_iff, if_neg (by omega), mS_iff, if_neg (by omega)]; omega, fun j u v => by rw [mS_iff, if_neg (by omega), mS_iff, if_neg (by omega)]; exact (ff 0 j (by omega)).trans (w6 j u v), fun x j u v y z => by rw [mS_iff, if_neg (by omega), mS_iff, if_neg (by omega)]; exact (ff x j (by omega)).trans (w5 x j u (by omega)), ?_, ?_, ?_, ?_, ?_, ?_, ?_, ?_, ?_, ?_⟩
                      all_goals try rw [← rr]
                      · rw [← e22]
                        simp only [mS_iff, eq_self, Int.reduceEq, true_and, and_true, false_and, and_false, and_self, ↓reduceIte]
                      · simp only [mS_iff, eq_self, Int.reduceEq, true_and, and_true, false_and, and_false, and_self, ↓reduceIte]
                        omega
                      · rw [mS_iff, if_neg (by omega), mS_iff, if_neg (by omega)]
                        exact g7
                      · rw [mS_iff, if_neg (by omega), mS_iff, if_neg (by omega)]
                        exact g0
                      · rw [mS_iff, if_neg (by omega), mS_iff, if_neg (by omega)]
                        exact g1.trans hf
                      · rw [mS_iff, if_neg (by omega), mS_iff, if_neg (by omega)]
                        exact g2.trans hm
                      · rw [mS_iff, if_neg (by omega), mS_iff, if_neg (by omega)]
                        exact g3
                      · rw [mS_iff, if_neg (by omega), mS_iff, if_neg (by omega)]
                        exact g4
                      · rw [mS_iff, if_neg (by omega), mS_iff, if_neg (by omega)]
                        exact g5
                      · rw [mS_iff, if_neg (by omega), mS_iff, if_neg (by omega)]
                        exact g6
                    show Q (.inl (some (aI ((mS (mS mq 20 (mq 1 22) r102) 1 22 ((mq 1 22) + 1)) r102 3)))) ((mS (mS mq 20 (mq 1 22) r102) 1 22 ((mq 1 22) + 1)))
                    rw [show ((mS (mS mq 20 (mq 1 22) r102) 1 22 ((mq 1 22) + 1)) r102 3) = S 0 4 from (by rw [mS_iff, if_neg (by omega), mS_iff, if_neg (by omega)]; exact g3)]
                    exact hQ _ ⟨h.pn ok NP, ⟨by rw [NP.1]; omega, by have := NP.2.1; omega, by have := NP.2.1; omega, by rw [NP.2.2.2.1 1 14 (by omega) (by omega) (by omega) (by omega)]; omega, by rw [NP.2.2.2.1 1 14 (by omega) (by omega) (by omega) (by omega)]; omega⟩⟩ (fun x j u v => NP.2.2.2.1 x j (by omega) (by omega) (by omega) (by omega))
                  · have ev0 : c_per S w f mo b own = ((-5), S) := by
                      unfold c_per
                      repeat' split
                      all_goals first | rfl | (exfalso; omega) | (refine Prod.ext ?_ ?_ <;> first | rfl | (show _ = _; omega))
                    rw [ev0] at hQ
                    dsimp only at hQ
                    exact hQ m (hz0.fr fr (by omega)) fr.M
                · refine And.intro (show (m (m 20 f) (-1)) = 11 by first | assumption | omega | (simp only [mS_iff, eq_self, Int.reduceEq, true_and, and_true, false_and, and_false, and_self, ↓reduceIte]; omega) | (simp only [mS_iff, eq_self, Int.reduceEq, true_and, and_true, false_and, and_false, and_self, ↓reduceIte] at *; omega)) ?_
                  refine And.intro (fun h105 => ?_) (fun h105 => ?_)
                  · have ev0 : c_per S w f mo b own = ((-4), S) := by
                      unfold c_per
                      repeat' split
                      all_goals first | rfl | (exfalso; omega) | (refine Prod.ext ?_ ?_ <;> first | rfl | (show _ = _; omega))
                    rw [ev0] at hQ
                    dsimp only at hQ
                    exact hQ m (hz0.fr fr (by omega)) fr.M
                  · refine And.intro (show (m (m 20 f) (-1)) = 11 by first | assumption | omega | (simp only [mS_iff, eq_self, Int.reduceEq, true_and, and_true, false_and, and_false, and_self, ↓reduceIte]; omega) | (simp only [mS_iff, eq_self, Int.reduceEq, true_and, and_true, false_and, and_false, and_self, ↓reduceIte] at *; omega)) ?_
                    refine And.intro (fun h106 => ?_) (fun h106 => ?_)
                    · have ev0 : c_per S w f mo b own = ((-4), S) := by
                        unfold c_per
                        repeat' split
                        all_goals first | rfl | (exfalso; omega) | (refine Prod.ext ?_ ?_ <;> first | rfl | (show _ = _; omega))
                      rw [ev0] at hQ
                      dsimp only at hQ
                      exact hQ m (hz0.fr fr (by omega)) fr.M
                    · refine And.intro (by decide) ?_
                      refine And.intro (fun _ => ?_) (fun h => absurd h (by decide))
                      refine And.intro (rfl) ?_
                      refine And.intro (fun h107 => ?_) (fun h107 => ?_)
                      · refine And.intro (by first | omega | (simp only [mS_iff, eq_self, Int.reduceEq, true_and, and_true, false_and, and_false, and_self, ↓reduceIte]; omega) | (simp only [mS_iff, eq_self, Int.reduceEq, true_and, and_true, false_and, and_false, and_self, ↓reduceIte] at *; omega)) ?_
                        generalize h110 : mN m 11 7 = mw108
                        generalize h111 : m 0 0 + 1 = r109
                        obtain ⟨w1, w2, w3, w4, w5, w6⟩ := mN_f h110 h111 (by omega)
                        have rr : r109 = m 0 0 + 1 := Eq.symm h111
                        have e22 : mw108 1 22 = S 0 4 := by rw [w5 1 22 (by omega) (by omega)]; exact q22
                        refine And.intro (show 0 < r109 by first | omega | (simp only [mS_iff, eq_self, Int.reduceEq, true_and, and_true, false_and, and_false, and_self, ↓reduceIte]; omega) | (simp only [mS_iff, eq_self, Int.reduceEq, true_and, and_true, false_and, and_false, and_self, ↓reduceIte] at *; omega)) ?_
                        refine am_in (k := 0) rfl (by omega) (fun d hd => ?_)
                        refine am_go 400 [] (am_wpc_cm _ _ _) wf_320 ?_
                        refine And.intro (show 0 < r109 by first | omega | (simp only [mS_iff, eq_self, Int.reduceEq, true_and, and_true, false_and, and_false, and_self, ↓reduceIte]; omega) | (simp only [mS_iff, eq_self, Int.reduceEq, true_and, and_true, false_and, and_false, and_self, ↓reduceIte] at *; omega)) ?_
                        refine And.intro (show 0 < r109 ∧ (mw108 r109 (-1)) = 11 by first | omega | (simp only [mS_iff, eq_self, Int.reduceEq, true_and, and_true, false_and, and_false, and_self, ↓reduceIte]; omega) | (simp only [mS_iff, eq_self, Int.reduceEq, true_and, and_true, false_and, and_false, and_self, ↓reduceIte] at *; omega)) ?_
                        refine And.intro (show 0 < r109 ∧ ((mS mw108 r109 5 10000) r109 (-1)) = 11 ∧ (w = 0 ∨ w = 1) by first | omega | (simp only [mS_iff, eq_self, Int.reduceEq, true_and, and_true, false_and, and_false, and_self, ↓reduceIte]; omega) | (simp only [mS_iff, eq_self, Int.reduceEq, true_and, and_true, false_and, and_false, and_self, ↓reduceIte] at *; omega)) ?_
                        refine And.intro (show 0 < r109 ∧ ((mS (mS mw108 r109 5 10000) r109 0 w) r109 (-1)) = 11 by first | omega | (simp only [mS_iff, eq_self, Int.reduceEq, true_and, and_true, false_and, and_false, and_self, ↓reduceIte]; omega) | (simp only [mS_iff, eq_self, Int.reduceEq, true_and, and_true, false_and, and_false, and_self, ↓reduceIte] at *; omega)) ?_
                        refine And.intro (show 0 < r109 ∧ ((mS (mS (mS mw108 r109 5 10000) r109 0 w) r109 1 (m 20 f)) r109 (-1)) = 11 by first | omega | (simp only [mS_iff, eq_self, Int.reduceEq, true_and, and_true, false_and, and_false, and_self, ↓reduceIte]; omega) | (simp only [mS_iff, eq_self, Int.reduceEq, true_and, and_true, false_and, and_false, and_self, ↓reduceIte] at *; omega)) ?_
                        refine And.intro (show 0 < r109 ∧ ((mS (mS (mS (mS mw108 r109 5 10000) r109 0 w) r109 1 (m 20 f)) r109 2 0) r109 (-1)) = 11 by first | omega | (simp only [mS_iff, eq_self, Int.reduceEq, true_and, and_true, false_and, and_false, and_self, ↓reduceIte]; omega) | (simp only [mS_iff, eq_self, Int.reduceEq, true_and, and_true, false_and, and_false, and_self, ↓reduceIte] at *; omega)) ?_
                        refine And.intro (show 0 < r109 ∧ ((mS (mS (mS (mS (mS mw108 r109 5 10000) r109 0 w) r109 1 (m 20 f)) r109 2 0) r109 4 b) r109 (-1)) = 11 by first | omega | (simp only [mS_iff, eq_self, Int.reduceEq, true_and, and_true, false_and, and_false, and_self, ↓reduceIte]; omega) | (simp only [mS_iff, eq_self, Int.reduceEq, true_and, and_true, false_and, and_false, and_self, ↓reduceIte] at *; omega)) ?_
                        obtain ⟨mp, emp⟩ : ∃ z, z = (mS (mS (mS (mS (mS (mS mw108 r109 5 10000) r109 0 w) r109 1 (m 20 f)) r109 2 0) r109 4 b) r109 6 own) := ⟨_, rfl⟩
                        rw [← emp]
                        have fmp : ∀ x j, x ≠ r109 → mp x j = mw108 x j := fun x j u => by rw [emp, mS_a _ _ _ _ u, mS_a _ _ _ _ u, mS_a _ _ _ _ u, mS_a _ _ _ _ u, mS_a _ _ _ _ u, mS_a _ _ _ _ u]
                        have g0 : mp r109 0 = w := by rw [emp]; simp only [mS_iff, eq_self, Int.reduceEq, true_and, and_true, false_and, and_false, and_self, ↓reduceIte]
                        have g1 : mp r109 1 = (m 20 f) := by rw [emp]; simp only [mS_iff, eq_self, Int.reduceEq, true_and, and_true, false_and, and_false, and_self, ↓reduceIte]
                        have g2 : mp r109 2 = 0 := by rw [emp]; simp only [mS_iff, eq_self, Int.reduceEq, true_and, and_true, false_and, and_false, and_self, ↓reduceIte]
                        have g4 : mp r109 4 = b := by rw [emp]; simp only [mS_iff, eq_self, Int.reduceEq, true_and, and_true, false_and, and_false, and_self, ↓reduceIte]
                        have g5 : mp r109 5 = 10000 := by rw [emp]; simp only [mS_iff, eq_self, Int.reduceEq, true_and, and_true, false_and, and_false, and_self, ↓reduceIte]
                        have g6 : mp r109 6 = own := by rw [emp]; simp only [mS_iff, eq_self, Int.reduceEq, true_and, and_true, false_and, and_false, and_self, ↓reduceIte]
                        have g7 : mp r109 (-1) = 11 := by rw [emp]; simp only [mS_iff, eq_self, Int.reduceEq, true_and, and_true, false_and, and_false, and_self, ↓reduceIte]; exact w3
                        have e22 : mp 1 22 = S 0 4 := by rw [fmp 1 22 (by omega)]; exact e22
                        refine And.intro (rfl) ?_
                        refine And.intro (show 0 < r109 ∧ (mp r109 (-1)) = 11 by first | omega | (simp only [mS_iff, eq_self, Int.reduceEq, true_and, and_true, false_and, and_false, and_self, ↓reduceIte]; omega) | (simp only [mS_iff, eq_self, Int.reduceEq, true_and, and_true, false_and, and_false, and_self, ↓reduceIte] at *; omega)) ?_
                        obtain ⟨mq, emq⟩ : ∃ z, z = (mS mp r109 3 (mp 1 22)) := ⟨_, rfl⟩
                        rw [← emq]
                        have fmq : ∀ x j, x ≠ r109 → mq x j = mp x j := fun x j u => by rw [emq, mS_a _ _ _ _ u]
                        have g0 : mq r109 0 = _ := (by rw [emq, mS_iff, if_neg (by omega)] : mq r109 0 = mp r109 0).trans g0
                        have g1 : mq r109 1 = _ := (by rw [emq, mS_iff, if_neg (by omega)] : mq r109 1 = mp r109 1).trans g1
                        have g2 : mq r109 2 = _ := (by rw [emq, mS_iff, if_neg (by omega)] : mq r109 2 = mp r109 2).trans g2
                        have g4 : mq r109 4 = _ := (by rw [emq, mS_iff, if_neg (by omega)] : mq r109 4 = mp r109 4).trans g4
                        have g5 : mq r109 5 = _ := (by rw [emq, mS_iff, if_neg (by omega)] : mq r109 5 = mp r109 5).trans g5
                        have g6 : mq r109 6 = _ := (by rw [emq, mS_iff, if_neg (by omega)] : mq r109 6 = mp r109 6).trans g6
                        have g7 : mq r109 (-1) = _ := (by rw [emq, mS_iff, if_neg (by omega)] : mq r109 (-1) = mp r109 (-1)).trans g7
                        have g3 : mq r109 3 = S 0 4 := by rw [emq, mS_iff, if_pos ⟨rfl, rfl⟩]; exact e22
                        have e22 : mq 1 22 = S 0 4 := by rw [fmq 1 22 (by omega)]; exact e22
                        refine And.intro (rfl) ?_
                        refine And.intro (rfl) ?_
                        refine And.intro (⟨rfl, by omega, by omega, Or.inr ⟨by omega, g7⟩⟩) ?_
                        refine And.intro (rfl) ?_
                        refine And.intro (show -2147483648 ≤ (mq 1 22) + 1 ∧ (mq 1 22) + 1 ≤ 2147483647 by first | omega | (simp only [mS_iff, eq_self, Int.reduceEq, true_and, and_true, false_and, and_false, and_self, ↓reduceIte]; omega) | (simp only [mS_iff, eq_self, Int.reduceEq, true_and, and_true, false_and, and_false, and_self, ↓reduceIte] at *; omega)) ?_
                        refine And.intro (rfl) ?_
                        refine And.intro (by rw [mS_iff, if_neg (by omega), mS_iff, if_neg (by omega)]; exact g7) ?_
                        have ev0 : c_per S w f mo b own = (S 0 4, sPn S w f mo b own) := by
                          unfold c_per
                          repeat' split
                          all_goals first | rfl | (exfalso; omega) | (refine Prod.ext ?_ ?_ <;> first | rfl | (show _ = _; omega))
                        rw [ev0] at hQ
                        dsimp only at hQ
                        have ok : okPn S w f mo b own := ⟨hw, p1, p2, dy, by omega, by omega, by omega⟩
                        have hf : (m 20 f) = hpr m f := by unfold hpr; rw [if_neg (by omega)]
                        have hm : 0 = hpr m mo := by unfold hpr; rw [if_pos (by omega)]
                        have ff : ∀ x j, x ≠ r109 → mq x j = mw108 x j := fun x j u => (fmq x j u).trans (fmp x j u)
                        have z00 := ff 0 0 (by omega)
                        have z01 := ff 0 1 (by omega)
                        have NP : hNp m ((mS (mS mq 20 (mq 1 22) r109) 1 22 ((mq 1 22) + 1))) (S 0 4) w (hpr m f) (hpr m mo) b own := by
                          refine ⟨by rw [mS_iff, if_neg (by omega), mS_iff, if_neg (by omega)]; omega, by rw [mS_iff, if_neg (by omega), mS_iff, if_neg (by omega)]; omega, fun j u v => by rw [mS_iff, if_neg (by omega), mS_iff, if_neg (by omega)]; exact (ff 0 j (by omega)).trans (w6 j u v), fun x j u v y z => by rw [mS_iff, if_neg (by omega), mS_iff, if_neg (by omega)]; exact (ff x j (by omega)).trans (w5 x j u (by omega)), ?_, ?_, ?_, ?_, ?_, ?_, ?_, ?_, ?_, ?_⟩
                          all_goals try rw [← rr]
                          · rw [← e22]
                            simp only [mS_iff, eq_self, Int.reduceEq, true_and, and_true, false_and, and_false, and_self, ↓reduceIte]
                          · simp only [mS_iff, eq_self, Int.reduceEq, true_and, and_true, false_and, and_false, and_self, ↓reduceIte]
                            omega
                          · rw [mS_iff, if_neg (by omega), mS_iff, if_neg (by omega)]
                            exact g7
                          · rw [mS_iff, if_neg (by omega), mS_iff, if_neg (by omega)]
                            exact g0
                          · rw [mS_iff, if_neg (by omega), mS_iff, if_neg (by omega)]
                            exact g1.trans hf
                          · rw [mS_iff, if_neg (by omega), mS_iff, if_neg (by omega)]
                            exact g2.trans hm
                          · rw [mS_iff, if_neg (by omega), mS_iff, if_neg (by omega)]
                            exact g3
                          · rw [mS_iff, if_neg (by omega), mS_iff, if_neg (by omega)]
                            exact g4
                          · rw [mS_iff, if_neg (by omega), mS_iff, if_neg (by omega)]
                            exact g5
                          · rw [mS_iff, if_neg (by omega), mS_iff, if_neg (by omega)]
                            exact g6
                        show Q (.inl (some (aI ((mS (mS mq 20 (mq 1 22) r109) 1 22 ((mq 1 22) + 1)) r109 3)))) ((mS (mS mq 20 (mq 1 22) r109) 1 22 ((mq 1 22) + 1)))
                        rw [show ((mS (mS mq 20 (mq 1 22) r109) 1 22 ((mq 1 22) + 1)) r109 3) = S 0 4 from (by rw [mS_iff, if_neg (by omega), mS_iff, if_neg (by omega)]; exact g3)]
                        exact hQ _ ⟨h.pn ok NP, ⟨by rw [NP.1]; omega, by have := NP.2.1; omega, by have := NP.2.1; omega, by rw [NP.2.2.2.1 1 14 (by omega) (by omega) (by omega) (by omega)]; omega, by rw [NP.2.2.2.1 1 14 (by omega) (by omega) (by omega) (by omega)]; omega⟩⟩ (fun x j u v => NP.2.2.2.1 x j (by omega) (by omega) (by omega) (by omega))
                      · have ev0 : c_per S w f mo b own = ((-5), S) := by
                          unfold c_per
                          repeat' split
                          all_goals first | rfl | (exfalso; omega) | (refine Prod.ext ?_ ?_ <;> first | rfl | (show _ = _; omega))
                        rw [ev0] at hQ
                        dsimp only at hQ
                        exact hQ m (hz0.fr fr (by omega)) fr.M
            · skip
              refine And.intro (fun h112 => ?_) (fun h112 => ?_)
              · refine And.intro (rfl) ?_
                refine And.intro (⟨rfl, by omega⟩) ?_
                have xmo := h.2.2.2.2.2.1.2.2.1 mo (by omega) (by omega)
                have xmo1 := xmo.1
                have xmo2 := xmo.2.1
                have xmo3 := xmo.2.2.1
                have xmo4 := xmo.2.2.2.2.2.2.1
                have ymo := (h.2.2.2.2.2.1.1.2 mo (by omega) (by omega)).1
                refine And.intro (by decide) ?_
                refine And.intro (fun _ => ?_) (fun h => absurd h (by decide))
                refine And.intro (show (m 20 mo) ≠ -9 by first | omega | (simp only [mS_iff, eq_self, Int.reduceEq, true_and, and_true, false_and, and_false, and_self, ↓reduceIte]; omega) | (simp only [mS_iff, eq_self, Int.reduceEq, true_and, and_true, false_and, and_false, and_self, ↓reduceIte] at *; omega)) ?_
                refine And.intro (fun h113 => ?_) (fun h113 => ?_)
                · refine And.intro (rfl) ?_
                  refine And.intro (fun h114 => ?_) (fun h114 => ?_)
                  · refine And.intro (by first | omega | (simp only [mS_iff, eq_self, Int.reduceEq, true_and, and_true, false_and, and_false, and_self, ↓reduceIte]; omega) | (simp only [mS_iff, eq_self, Int.reduceEq, true_and, and_true, false_and, and_false, and_self, ↓reduceIte] at *; omega)) ?_
                    generalize h117 : mN m 11 7 = mw115
                    generalize h118 : m 0 0 + 1 = r116
                    obtain ⟨w1, w2, w3, w4, w5, w6⟩ := mN_f h117 h118 (by omega)
                    have rr : r116 = m 0 0 + 1 := Eq.symm h118
                    have e22 : mw115 1 22 = S 0 4 := by rw [w5 1 22 (by omega) (by omega)]; exact q22
                    refine And.intro (show 0 < r116 by first | omega | (simp only [mS_iff, eq_self, Int.reduceEq, true_and, and_true, false_and, and_false, and_self, ↓reduceIte]; omega) | (simp only [mS_iff, eq_self, Int.reduceEq, true_and, and_true, false_and, and_false, and_self, ↓reduceIte] at *; omega)) ?_
                    refine am_in (k := 0) rfl (by omega) (fun d hd => ?_)
                    refine am_go 400 [] (am_wpc_cm _ _ _) wf_320 ?_
                    refine And.intro (show 0 < r116 by first | omega | (simp only [mS_iff, eq_self, Int.reduceEq, true_and, and_true, false_and, and_false, and_self, ↓reduceIte]; omega) | (simp only [mS_iff, eq_self, Int.reduceEq, true_and, and_true, false_and, and_false, and_self, ↓reduceIte] at *; omega)) ?_
                    refine And.intro (show 0 < r116 ∧ (mw115 r116 (-1)) = 11 by first | omega | (simp only [mS_iff, eq_self, Int.reduceEq, true_and, and_true, false_and, and_false, and_self, ↓reduceIte]; omega) | (simp only [mS_iff, eq_self, Int.reduceEq, true_and, and_true, false_and, and_false, and_self, ↓reduceIte] at *; omega)) ?_
                    refine And.intro (show 0 < r116 ∧ ((mS mw115 r116 5 10000) r116 (-1)) = 11 ∧ (w = 0 ∨ w = 1) by first | omega | (simp only [mS_iff, eq_self, Int.reduceEq, true_and, and_true, false_and, and_false, and_self, ↓reduceIte]; omega) | (simp only [mS_iff, eq_self, Int.reduceEq, true_and, and_true, false_and, and_false, and_self, ↓reduceIte] at *; omega)) ?_
                    refine And.intro (show 0 < r116 ∧ ((mS (mS mw115 r116 5 10000) r116 0 w) r116 (-1)) = 11 by first | omega | (simp only [mS_iff, eq_self, Int.reduceEq, true_and, and_true, false_and, and_false, and_self, ↓reduceIte]; omega) | (simp only [mS_iff, eq_self, Int.reduceEq, true_and, and_true, false_and, and_false, and_self, ↓reduceIte] at *; omega)) ?_
                    refine And.intro (show 0 < r116 ∧ ((mS (mS (mS mw115 r116 5 10000) r116 0 w) r116 1 0) r116 (-1)) = 11 by first | omega | (simp only [mS_iff, eq_self, Int.reduceEq, true_and, and_true, false_and, and_false, and_self, ↓reduceIte]; omega) | (simp only [mS_iff, eq_self, Int.reduceEq, true_and, and_true, false_and, and_false, and_self, ↓reduceIte] at *; omega)) ?_
                    refine And.intro (show 0 < r116 ∧ ((mS (mS (mS (mS mw115 r116 5 10000) r116 0 w) r116 1 0) r116 2 (m 20 mo)) r116 (-1)) = 11 by first | omega | (simp only [mS_iff, eq_self, Int.reduceEq, true_and, and_true, false_and, and_false, and_self, ↓reduceIte]; omega) | (simp only [mS_iff, eq_self, Int.reduceEq, true_and, and_true, false_and, and_false, and_self, ↓reduceIte] at *; omega)) ?_
                    refine And.intro (show 0 < r116 ∧ ((mS (mS (mS (mS (mS mw115 r116 5 10000) r116 0 w) r116 1 0) r116 2 (m 20 mo)) r116 4 b) r116 (-1)) = 11 by first | omega | (simp only [mS_iff, eq_self, Int.reduceEq, true_and, and_true, false_and, and_false, and_self, ↓reduceIte]; omega) | (simp only [mS_iff, eq_self, Int.reduceEq, true_and, and_true, false_and, and_false, and_self, ↓reduceIte] at *; omega)) ?_
                    obtain ⟨mp, emp⟩ : ∃ z, z = (mS (mS (mS (mS (mS (mS mw115 r116 5 10000) r116 0 w) r116 1 0) r116 2 (m 20 mo)) r116 4 b) r116 6 own) := ⟨_, rfl⟩
                    rw [← emp]
                    have fmp : ∀ x j, x ≠ r116 → mp x j = mw115 x j := fun x j u => by rw [emp, mS_a _ _ _ _ u, mS_a _ _ _ _ u, mS_a _ _ _ _ u, mS_a _ _ _ _ u, mS_a _ _ _ _ u, mS_a _ _ _ _ u]
                    have g0 : mp r116 0 = w := by rw [emp]; simp only [mS_iff, eq_self, Int.reduceEq, true_and, and_true, false_and, and_false, and_self, ↓reduceIte]
                    have g1 : mp r116 1 = 0 := by rw [emp]; simp only [mS_iff, eq_self, Int.reduceEq, true_and, and_true, false_and, and_false, and_self, ↓reduceIte]
                    have g2 : mp r116 2 = (m 20 mo) := by rw [emp]; simp only [mS_iff, eq_self, Int.reduceEq, true_and, and_true, false_and, and_false, and_self, ↓reduceIte]
                    have g4 : mp r116 4 = b := by rw [emp]; simp only [mS_iff, eq_self, Int.reduceEq, true_and, and_true, false_and, and_false, and_self, ↓reduceIte]
                    have g5 : mp r116 5 = 10000 := by rw [emp]; simp only [mS_iff, eq_self, Int.reduceEq, true_and, and_true, false_and, and_false, and_self, ↓reduceIte]
                    have g6 : mp r116 6 = own := by rw [emp]; simp only [mS_iff, eq_self, Int.reduceEq, true_and, and_true, false_and, and_false, and_self, ↓reduceIte]
                    have g7 : mp r116 (-1) = 11 := by rw [emp]; simp only [mS_iff, eq_self, Int.reduceEq, true_and, and_true, false_and, and_false, and_self, ↓reduceIte]; exact w3
                    have e22 : mp 1 22 = S 0 4 := by rw [fmp 1 22 (by omega)]; exact e22
                    refine And.intro (rfl) ?_
                    refine And.intro (show 0 < r116 ∧ (mp r116 (-1)) = 11 by first | omega | (simp only [mS_iff, eq_self, Int.reduceEq, true_and, and_true, false_and, and_false, and_self, ↓reduceIte]; omega) | (simp only [mS_iff, eq_self, Int.reduceEq, true_and, and_true, false_and, and_false, and_self, ↓reduceIte] at *; omega)) ?_
                    obtain ⟨mq, emq⟩ : ∃ z, z = (mS mp r116 3 (mp 1 22)) := ⟨_, rfl⟩
                    rw [← emq]
                    have fmq : ∀ x j, x ≠ r116 → mq x j = mp x j := fun x j u => by rw [emq, mS_a _ _ _ _ u]
                    have g0 : mq r116 0 = _ := (by rw [emq, mS_iff, if_neg (by omega)] : mq r116 0 = mp r116 0).trans g0
                    have g1 : mq r116 1 = _ := (by rw [emq, mS_iff, if_neg (by omega)] : mq r116 1 = mp r116 1).trans g1
                    have g2 : mq r116 2 = _ := (by rw [emq, mS_iff, if_neg (by omega)] : mq r116 2 = mp r116 2).trans g2
                    have g4 : mq r116 4 = _ := (by rw [emq, mS_iff, if_neg (by omega)] : mq r116 4 = mp r116 4).trans g4
                    have g5 : mq r116 5 = _ := (by rw [emq, mS_iff, if_neg (by omega)] : mq r116 5 = mp r116 5).trans g5
                    have g6 : mq r116 6 = _ := (by rw [emq, mS_iff, if_neg (by omega)] : mq r116 6 = mp r116 6).trans g6
                    have g7 : mq r116 (-1) = _ := (by rw [emq, mS_iff, if_neg (by omega)] : mq r116 (-1) = mp r116 (-1)).trans g7
                    have g3 : mq r116 3 = S 0 4 := by rw [emq, mS_iff, if_pos ⟨rfl, rfl⟩]; exact e22
                    have e22 : mq 1 22 = S 0 4 := by rw [fmq 1 22 (by omega)]; exact e22
                    refine And.intro (rfl) ?_
                    refine And.intro (rfl) ?_
                    refine And.intro (⟨rfl, by omega, by omega, Or.inr ⟨by omega, g7⟩⟩) ?_
                    refine And.intro (rfl) ?_
                    refine And.intro (show -2147483648 ≤ (mq 1 22) + 1 ∧ (mq 1 22) + 1 ≤ 2147483647 by first | omega | (simp only [mS_iff, eq_self, Int.reduceEq, true_and, and_true, false_and, and_false, and_self, ↓reduceIte]; omega) | (simp only [mS_iff, eq_self, Int.reduceEq, true_and, and_true, false_and, and_false, and_self, ↓reduceIte] at *; omega)) ?_
                    refine And.intro (rfl) ?_
                    refine And.intro (by rw [mS_iff, if_neg (by omega), mS_iff, if_neg (by omega)]; exact g7) ?_
                    have ev0 : c_per S w f mo b own = (S 0 4, sPn S w f mo b own) := by
                      unfold c_per
                      repeat' split
                      all_goals first | rfl | (exfalso; omega) | (refine Prod.ext ?_ ?_ <;> first | rfl | (show _ = _; omega))
                    rw [ev0] at hQ
                    dsimp only at hQ
                    have ok : okPn S w f mo b own := ⟨hw, p1, p2, dy, by omega, by omega, by omega⟩
                    have hf : 0 = hpr m f := by unfold hpr; rw [if_pos (by omega)]
                    have hm : (m 20 mo) = hpr m mo := by unfold hpr; rw [if_neg (by omega)]
                    have ff : ∀ x j, x ≠ r116 → mq x j = mw115 x j := fun x j u => (fmq x j u).trans (fmp x j u)
                    have z00 := ff 0 0 (by omega)
                    have z01 := ff 0 1 (by omega)
                    have NP : hNp m ((mS (mS mq 20 (mq 1 22) r116) 1 22 ((mq 1 22) + 1))) (S 0 4) w (hpr m f) (hpr m mo) b own := by
                      refine ⟨by rw [mS_iff, if_neg (by omega), mS_iff, if_neg (by omega)]; omega, by rw [mS_iff, if_neg (by omega), mS_iff, if_neg (by omega)]; omega, fun j u v => by rw [mS_iff, if_neg (by omega), mS_iff, if_neg (by omega)]; exact (ff 0 j (by omega)).trans (w6 j u v), fun x j u v y z => by rw [mS_iff, if_neg (by omega), mS_iff, if_neg (by omega)]; exact (ff x j (by omega)).trans (w5 x j u (by omega)), ?_, ?_, ?_, ?_, ?_, ?_, ?_, ?_, ?_, ?_⟩
                      all_goals try rw [← rr]
                      · rw [← e22]
                        simp only [mS_iff, eq_self, Int.reduceEq, true_and, and_true, false_and, and_false, and_self, ↓reduceIte]
                      · simp only [mS_iff, eq_self, Int.reduceEq, true_and, and_true, false_and, and_false, and_self, ↓reduceIte]
                        omega
                      · rw [mS_iff, if_neg (by omega), mS_iff, if_neg (by omega)]
                        exact g7
                      · rw [mS_iff, if_neg (by omega), mS_iff, if_neg (by omega)]
                        exact g0
                      · rw [mS_iff, if_neg (by omega), mS_iff, if_neg (by omega)]
                        exact g1.trans hf
                      · rw [mS_iff, if_neg (by omega), mS_iff, if_neg (by omega)]
                        exact g2.trans hm
                      · rw [mS_iff, if_neg (by omega), mS_iff, if_neg (by omega)]
                        exact g3
                      · rw [mS_iff, if_neg (by omega), mS_iff, if_neg (by omega)]
                        exact g4
                      · rw [mS_iff, if_neg (by omega), mS_iff, if_neg (by omega)]
                        exact g5
                      · rw [mS_iff, if_neg (by omega), mS_iff, if_neg (by omega)]
                        exact g6
                    show Q (.inl (some (aI ((mS (mS mq 20 (mq 1 22) r116) 1 22 ((mq 1 22) + 1)) r116 3)))) ((mS (mS mq 20 (mq 1 22) r116) 1 22 ((mq 1 22) + 1)))
                    rw [show ((mS (mS mq 20 (mq 1 22) r116) 1 22 ((mq 1 22) + 1)) r116 3) = S 0 4 from (by rw [mS_iff, if_neg (by omega), mS_iff, if_neg (by omega)]; exact g3)]
                    exact hQ _ ⟨h.pn ok NP, ⟨by rw [NP.1]; omega, by have := NP.2.1; omega, by have := NP.2.1; omega, by rw [NP.2.2.2.1 1 14 (by omega) (by omega) (by omega) (by omega)]; omega, by rw [NP.2.2.2.1 1 14 (by omega) (by omega) (by omega) (by omega)]; omega⟩⟩ (fun x j u v => NP.2.2.2.1 x j (by omega) (by omega) (by omega) (by omega))
                  · have ev0 : c_per S w f mo b own = ((-5), S) := by
                      unfold c_per
                      repeat' split
                      all_goals first | rfl | (exfalso; omega) | (refine Prod.ext ?_ ?_ <;> first | rfl | (show _ = _; omega))
                    rw [ev0] at hQ
                    dsimp only at hQ
                    exact hQ m (hz0.fr fr (by omega)) fr.M
                · refine And.intro (show (m (m 20 mo) (-1)) = 11 by first | assumption | omega | (simp only [mS_iff, eq_self, Int.reduceEq, true_and, and_true, false_and, and_false, and_self, ↓reduceIte]; omega) | (simp only [mS_iff, eq_self, Int.reduceEq, true_and, and_true, false_and, and_false, and_self, ↓reduceIte] at *; omega)) ?_
                  refine And.intro (fun h119 => ?_) (fun h119 => ?_)
                  · have ev0 : c_per S w f mo b own = ((-4), S) := by
                      unfold c_per
                      repeat' split
                      all_goals first | rfl | (exfalso; omega) | (refine Prod.ext ?_ ?_ <;> first | rfl | (show _ = _; omega))
                    rw [ev0] at hQ
                    dsimp only at hQ
                    exact hQ m (hz0.fr fr (by omega)) fr.M
                  · refine And.intro (show (m (m 20 mo) (-1)) = 11 by first | assumption | omega | (simp only [mS_iff, eq_self, Int.reduceEq, true_and, and_true, false_and, and_false, and_self, ↓reduceIte]; omega) | (simp only [mS_iff, eq_self, Int.reduceEq, true_and, and_true, false_and, and_false, and_self, ↓reduceIte] at *; omega)) ?_
                    refine And.intro (fun h120 => ?_) (fun h120 => ?_)
                    · refine And.intro (rfl) ?_
                      refine And.intro (fun h121 => ?_) (fun h121 => ?_)
                      · refine And.intro (by first | omega | (simp only [mS_iff, eq_self, Int.reduceEq, true_and, and_true, false_and, and_false, and_self, ↓reduceIte]; omega) | (simp only [mS_iff, eq_self, Int.reduceEq, true_and, and_true, false_and, and_false, and_self, ↓reduceIte] at *; omega)) ?_
                        generalize h124 : mN m 11 7 = mw122
                        generalize h125 : m 0 0 + 1 = r123
                        obtain ⟨w1, w2, w3, w4, w5, w6⟩ := mN_f h124 h125 (by omega)
                        have rr : r123 = m 0 0 + 1 := Eq.symm h125
                        have e22 : mw122 1 22 = S 0 4 := by rw [w5 1 22 (by omega) (by omega)]; exact q22
                        refine And.intro (show 0 < r123 by first | omega | (simp only [mS_iff, eq_self, Int.reduceEq, true_and, and_true, false_and, and_false, and_self, ↓reduceIte]; omega) | (simp only [mS_iff, eq_self, Int.reduceEq, true_and, and_true, false_and, and_false, and_self, ↓reduceIte] at *; omega)) ?_
                        refine am_in (k := 0) rfl (by omega) (fun d hd => ?_)
                        refine am_go 400 [] (am_wpc_cm _ _ _) wf_320 ?_
                        refine And.intro (show 0 < r123 by first | omega | (simp only [mS_iff, eq_self, Int.reduceEq, true_and, and_true, false_and, and_false, and_self, ↓reduceIte]; omega) | (simp only [mS_iff, eq_self, Int.reduceEq, true_and, and_true, false_and, and_false, and_self, ↓reduceIte] at *; omega)) ?_
                        refine And.intro (show 0 < r123 ∧ (mw122 r123 (-1)) = 11 by first | omega | (simp only [mS_iff, eq_self, Int.reduceEq, true_and, and_true, false_and, and_false, and_self, ↓reduceIte]; omega) | (simp only [mS_iff, eq_self, Int.reduceEq, true_and, and_true, false_and, and_false, and_self, ↓reduceIte] at *; omega)) ?_
                        refine And.intro (show 0 < r123 ∧ ((mS mw122 r123 5 10000) r123 (-1)) = 11 ∧ (w = 0 ∨ w = 1) by first | omega | (simp only [mS_iff, eq_self, Int.reduceEq, true_and, and_true, false_and, and_false, and_self, ↓reduceIte]; omega) | (simp only [mS_iff, eq_self, Int.reduceEq, true_and, and_true, false_and, and_false, and_self, ↓reduceIte] at *; omega)) ?_
                        refine And.intro (show 0 < r123 ∧ ((mS (mS mw122 r123 5 10000) r123 0 w) r123 (-1)) = 11 by first | omega | (simp only [mS_iff, eq_self, Int.reduceEq, true_and, and_true, false_and, and_false, and_self, ↓reduceIte]; omega) | (simp only [mS_iff, eq_self, Int.reduceEq, true_and, and_true, false_and, and_false, and_self, ↓reduceIte] at *; omega)) ?_
                        refine And.intro (show 0 < r123 ∧ ((mS (mS (mS mw122 r123 5 10000) r123 0 w) r123 1 0) r123 (-1)) = 11 by first | omega | (simp only [mS_iff, eq_self, Int.reduceEq, true_and, and_true, false_and, and_false, and_self, ↓reduceIte]; omega) | (simp only [mS_iff, eq_self, Int.reduceEq, true_and, and_true, false_and, and_false, and_self, ↓reduceIte] at *; omega)) ?_
                        refine And.intro (show 0 < r123 ∧ ((mS (mS (mS (mS mw122 r123 5 10000) r123 0 w) r123 1 0) r123 2 (m 20 mo)) r123 (-1)) = 11 by first | omega | (simp only [mS_iff, eq_self, Int.reduceEq, true_and, and_true, false_and, and_false, and_self, ↓reduceIte]; omega) | (simp only [mS_iff, eq_self, Int.reduceEq, true_and, and_true, false_and, and_false, and_self, ↓reduceIte] at *; omega)) ?_
                        refine And.intro (show 0 < r123 ∧ ((mS (mS (mS (mS (mS mw122 r123 5 10000) r123 0 w) r123 1 0) r123 2 (m 20 mo)) r123 4 b) r123 (-1)) = 11 by first | omega | (simp only [mS_iff, eq_self, Int.reduceEq, true_and, and_true, false_and, and_false, and_self, ↓reduceIte]; omega) | (simp only [mS_iff, eq_self, Int.reduceEq, true_and, and_true, false_and, and_false, and_self, ↓reduceIte] at *; omega)) ?_
                        obtain ⟨mp, emp⟩ : ∃ z, z = (mS (mS (mS (mS (mS (mS mw122 r123 5 10000) r123 0 w) r123 1 0) r123 2 (m 20 mo)) r123 4 b) r123 6 own) := ⟨_, rfl⟩
                        rw [← emp]
                        have fmp : ∀ x j, x ≠ r123 → mp x j = mw122 x j := fun x j u => by rw [emp, mS_a _ _ _ _ u, mS_a _ _ _ _ u, mS_a _ _ _ _ u, mS_a _ _ _ _ u, mS_a _ _ _ _ u, mS_a _ _ _ _ u]
                        have g0 : mp r123 0 = w := by rw [emp]; simp only [mS_iff, eq_self, Int.reduceEq, true_and, and_true, false_and, and_false, and_self, ↓reduceIte]
                        have g1 : mp r123 1 = 0 := by rw [emp]; simp only [mS_iff, eq_self, Int.reduceEq, true_and, and_true, false_and, and_false, and_self, ↓reduceIte]
                        have g2 : mp r123 2 = (m 20 mo) := by rw [emp]; simp only [mS_iff, eq_self, Int.reduceEq, true_and, and_true, false_and, and_false, and_self, ↓reduceIte]
                        have g4 : mp r123 4 = b := by rw [emp]; simp only [mS_iff, eq_self, Int.reduceEq, true_and, and_true, false_and, and_false, and_self, ↓reduceIte]
                        have g5 : mp r123 5 = 10000 := by rw [emp]; simp only [mS_iff, eq_self, Int.reduceEq, true_and, and_true, false_and, and_false, and_self, ↓reduceIte]
                        have g6 : mp r123 6 = own := by rw [emp]; simp only [mS_iff, eq_self, Int.reduceEq, true_and, and_true, false_and, and_false, and_self, ↓reduceIte]
                        have g7 : mp r123 (-1) = 11 := by rw [emp]; simp only [mS_iff, eq_self, Int.reduceEq, true_and, and_true, false_and, and_false, and_self, ↓reduceIte]; exact w3
                        have e22 : mp 1 22 = S 0 4 := by rw [fmp 1 22 (by omega)]; exact e22
                        refine And.intro (rfl) ?_
                        refine And.intro (show 0 < r123 ∧ (mp r123 (-1)) = 11 by first | omega | (simp only [mS_iff, eq_self, Int.reduceEq, true_and, and_true, false_and, and_false, and_self, ↓reduceIte]; omega) | (simp only [mS_iff, eq_self, Int.reduceEq, true_and, and_true, false_and, and_false, and_self, ↓reduceIte] at *; omega)) ?_
                        obtain ⟨mq, emq⟩ : ∃ z, z = (mS mp r123 3 (mp 1 22)) := ⟨_, rfl⟩
                        rw [← emq]
                        have fmq : ∀ x j, x ≠ r123 → mq x j = mp x j := fun x j u => by rw [emq, mS_a _ _ _ _ u]
                        have g0 : mq r123 0 = _ := (by rw [emq, mS_iff, if_neg (by omega)] : mq r123 0 = mp r123 0).trans g0
                        have g1 : mq r123 1 = _ := (by rw [emq, mS_iff, if_neg (by omega)] : mq r123 1 = mp r123 1).trans g1
                        have g2 : mq r123 2 = _ := (by rw [emq, mS_iff, if_neg (by omega)] : mq r123 2 = mp r123 2).trans g2
                        have g4 : mq r123 4 = _ := (by rw [emq, mS_iff, if_neg (by omega)] : mq r123 4 = mp r123 4).trans g4
                        have g5 : mq r123 5 = _ := (by rw [emq, mS_iff, if_neg (by omega)] : mq r123 5 = mp r123 5).trans g5
                        have g6 : mq r123 6 = _ := (by rw [emq, mS_iff, if_neg (by omega)] : mq r123 6 = mp r123 6).trans g6
                        have g7 : mq r123 (-1) = _ := (by rw [emq, mS_iff, if_neg (by omega)] : mq r123 (-1) = mp r123 (-1)).trans g7
                        have g3 : mq r123 3 = S 0 4 := by rw [emq, mS_iff, if_pos ⟨rfl, rfl⟩]; exact e22
                        have e22 : mq 1 22 = S 0 4 := by rw [fmq 1 22 (by omega)]; exact e22
                        refine And.intro (rfl) ?_
                        refine And.intro (rfl) ?_
                        refine And.intro (⟨rfl, by omega, by omega, Or.inr ⟨by omega, g7⟩⟩) ?_
                        refine And.intro (rfl) ?_
                        refine And.intro (show -2147483648 ≤ (mq 1 22) + 1 ∧ (mq 1 22) + 1 ≤ 2147483647 by first | omega | (simp only [mS_iff, eq_self, Int.reduceEq, true_and, and_true, false_and, and_false, and_self, ↓reduceIte]; omega) | (simp only [mS_iff, eq_self, Int.reduceEq, true_and, and_true, false_and, and_false, and_self, ↓reduceIte] at *; omega)) ?_
                        refine And.intro (rfl) ?_
                        refine And.intro (by rw [mS_iff, if_neg (by omega), mS_iff, if_neg (by omega)]; exact g7) ?_
                        have ev0 : c_per S w f mo b own = (S 0 4, sPn S w f mo b own) := by
                          unfold c_per
                          repeat' split
                          all_goals first | rfl | (exfalso; omega) | (refine Prod.ext ?_ ?_ <;> first | rfl | (show _ = _; omega))
                        rw [ev0] at hQ
                        dsimp only at hQ
                        have ok : okPn S w f mo b own := ⟨hw, p1, p2, dy, by omega, by omega, by omega⟩
                        have hf : 0 = hpr m f := by unfold hpr; rw [if_pos (by omega)]
                        have hm : (m 20 mo) = hpr m mo := by unfold hpr; rw [if_neg (by omega)]
                        have ff : ∀ x j, x ≠ r123 → mq x j = mw122 x j := fun x j u => (fmq x j u).trans (fmp x j u)
                        have z00 := ff 0 0 (by omega)
                        have z01 := ff 0 1 (by omega)
                        have NP : hNp m ((mS (mS mq 20 (mq 1 22) r123) 1 22 ((mq 1 22) + 1))) (S 0 4) w (hpr m f) (hpr m mo) b own := by
                          refine ⟨by rw [mS_iff, if_neg (by omega), mS_iff, if_neg (by omega)]; omega, by rw [mS_iff, if_neg (by omega), mS_iff, if_neg (by omega)]; omega, fun j u v => by rw [mS_iff, if_neg (by omega), mS_iff, if_neg (by omega)]; exact (ff 0 j (by omega)).trans (w6 j u v), fun x j u v y z => by rw [mS_iff, if_neg (by omega), mS_iff, if_neg (by omega)]; exact (ff x j (by omega)).trans (w5 x j u (by omega)), ?_, ?_, ?_, ?_, ?_, ?_, ?_, ?_, ?_, ?_⟩
                          all_goals try rw [← rr]
                          · rw [← e22]
                            simp only [mS_iff, eq_self, Int.reduceEq, true_and, and_true, false_and, and_false, and_self, ↓reduceIte]
                          · simp only [mS_iff, eq_self, Int.reduceEq, true_and, and_true, false_and, and_false, and_self, ↓reduceIte]
                            omega
                          · rw [mS_iff, if_neg (by omega), mS_iff, if_neg (by omega)]
                            exact g7
                          · rw [mS_iff, if_neg (by omega), mS_iff, if_neg (by omega)]
                            exact g0
                          · rw [mS_iff, if_neg (by omega), mS_iff, if_neg (by omega)]
                            exact g1.trans hf
                          · rw [mS_iff, if_neg (by omega), mS_iff, if_neg (by omega)]
                            exact g2.trans hm
                          · rw [mS_iff, if_neg (by omega), mS_iff, if_neg (by omega)]
                            exact g3
                          · rw [mS_iff, if_neg (by omega), mS_iff, if_neg (by omega)]
                            exact g4
                          · rw [mS_iff, if_neg (by omega), mS_iff, if_neg (by omega)]
                            exact g5
                          · rw [mS_iff, if_neg (by omega), mS_iff, if_neg (by omega)]
                            exact g6
                        show Q (.inl (some (aI ((mS (mS mq 20 (mq 1 22) r123) 1 22 ((mq 1 22) + 1)) r123 3)))) ((mS (mS mq 20 (mq 1 22) r123) 1 22 ((mq 1 22) + 1)))
                        rw [show ((mS (mS mq 20 (mq 1 22) r123) 1 22 ((mq 1 22) + 1)) r123 3) = S 0 4 from (by rw [mS_iff, if_neg (by omega), mS_iff, if_neg (by omega)]; exact g3)]
                        exact hQ _ ⟨h.pn ok NP, ⟨by rw [NP.1]; omega, by have := NP.2.1; omega, by have := NP.2.1; omega, by rw [NP.2.2.2.1 1 14 (by omega) (by omega) (by omega) (by omega)]; omega, by rw [NP.2.2.2.1 1 14 (by omega) (by omega) (by omega) (by omega)]; omega⟩⟩ (fun x j u v => NP.2.2.2.1 x j (by omega) (by omega) (by omega) (by omega))
                      · have ev0 : c_per S w f mo b own = ((-5), S) := by
                          unfold c_per
                          repeat' split
                          all_goals first | rfl | (exfalso; omega) | (refine Prod.ext ?_ ?_ <;> first | rfl | (show _ = _; omega))
                        rw [ev0] at hQ
                        dsimp only at hQ
                        exact hQ m (hz0.fr fr (by omega)) fr.M
                    · have ev0 : c_per S w f mo b own = ((-4), S) := by
                        unfold c_per
                        repeat' split
                        all_goals first | rfl | (exfalso; omega) | (refine Prod.ext ?_ ?_ <;> first | rfl | (show _ = _; omega))
                      rw [ev0] at hQ
                      dsimp only at hQ
                      exact hQ m (hz0.fr fr (by omega)) fr.M
              · skip
                refine And.intro (by decide) ?_
                refine And.intro (fun _ => ?_) (fun h => absurd h (by decide))
                refine And.intro (by decide) ?_
                refine And.intro (fun _ => ?_) (fun h => absurd h (by decide))
                refine And.intro (rfl) ?_
                refine And.intro (fun h126 => ?_) (fun h126 => ?_)
                · refine And.intro (by first | omega | (simp only [mS_iff, eq_self, Int.reduceEq, true_and, and_true, false_and, and_false, and_self, ↓reduceIte]; omega) | (simp only [mS_iff, eq_self, Int.reduceEq, true_and, and_true, false_and, and_false, and_self, ↓reduceIte] at *; omega)) ?_
                  generalize h129 : mN m 11 7 = mw127
                  generalize h130 : m 0 0 + 1 = r128
                  obtain ⟨w1, w2, w3, w4, w5, w6⟩ := mN_f h129 h130 (by omega)
                  have rr : r128 = m 0 0 + 1 := Eq.symm h130
                  have e22 : mw127 1 22 = S 0 4 := by rw [w5 1 22 (by omega) (by omega)]; exact q22
                  refine And.intro (show 0 < r128 by first | omega | (simp only [mS_iff, eq_self, Int.reduceEq, true_and, and_true, false_and, and_false, and_self, ↓reduceIte]; omega) | (simp only [mS_iff, eq_self, Int.reduceEq, true_and, and_true, false_and, and_false, and_self, ↓reduceIte] at *; omega)) ?_
                  refine am_in (k := 0) rfl (by omega) (fun d hd => ?_)
                  refine am_go 400 [] (am_wpc_cm _ _ _) wf_320 ?_
                  refine And.intro (show 0 < r128 by first | omega | (simp only [mS_iff, eq_self, Int.reduceEq, true_and, and_true, false_and, and_false, and_self, ↓reduceIte]; omega) | (simp only [mS_iff, eq_self, Int.reduceEq, true_and, and_true, false_and, and_false, and_self, ↓reduceIte] at *; omega)) ?_
                  refine And.intro (show 0 < r128 ∧ (mw127 r128 (-1)) = 11 by first | omega | (simp only [mS_iff, eq_self, Int.reduceEq, true_and, and_true, false_and, and_false, and_self, ↓reduceIte]; omega) | (simp only [mS_iff, eq_self, Int.reduceEq, true_and, and_true, false_and, and_false, and_self, ↓reduceIte] at *; omega)) ?_
                  refine And.intro (show 0 < r128 ∧ ((mS mw127 r128 5 10000) r128 (-1)) = 11 ∧ (w = 0 ∨ w = 1) by first | omega | (simp only [mS_iff, eq_self, Int.reduceEq, true_and, and_true, false_and, and_false, and_self, ↓reduceIte]; omega) | (simp only [mS_iff, eq_self, Int.reduceEq, true_and, and_true, false_and, and_false, and_self, ↓reduceIte] at *; omega)) ?_
                  refine And.intro (show 0 < r128 ∧ ((mS (mS mw127 r128 5 10000) r128 0 w) r128 (-1)) = 11 by first | omega | (simp only [mS_iff, eq_self, Int.reduceEq, true_and, and_true, false_and, and_false, and_self, ↓reduceIte]; omega) | (simp only [mS_iff, eq_self, Int.reduceEq, true_and, and_true, false_and, and_false, and_self, ↓reduceIte] at *; omega)) ?_
                  refine And.intro (show 0 < r128 ∧ ((mS (mS (mS mw127 r128 5 10000) r128 0 w) r128 1 0) r128 (-1)) = 11 by first | omega | (simp only [mS_iff, eq_self, Int.reduceEq, true_and, and_true, false_and, and_false, and_self, ↓reduceIte]; omega) | (simp only [mS_iff, eq_self, Int.reduceEq, true_and, and_true, false_and, and_false, and_self, ↓reduceIte] at *; omega)) ?_
                  refine And.intro (show 0 < r128 ∧ ((mS (mS (mS (mS mw127 r128 5 10000) r128 0 w) r128 1 0) r128 2 0) r128 (-1)) = 11 by first | omega | (simp only [mS_iff, eq_self, Int.reduceEq, true_and, and_true, false_and, and_false, and_self, ↓reduceIte]; omega) | (simp only [mS_iff, eq_self, Int.reduceEq, true_and, and_true, false_and, and_false, and_self, ↓reduceIte] at *; omega)) ?_
                  refine And.intro (show 0 < r128 ∧ ((mS (mS (mS (mS (mS mw127 r128 5 10000) r128 0 w) r128 1 0) r128 2 0) r128 4 b) r128 (-1)) = 11 by first | omega | (simp only [mS_iff, eq_self, Int.reduceEq, true_and, and_true, false_and, and_false, and_self, ↓reduceIte]; omega) | (simp only [mS_iff, eq_self, Int.reduceEq, true_and, and_true, false_and, and_false, and_self, ↓reduceIte] at *; omega)) ?_
                  obtain ⟨mp, emp⟩ : ∃ z, z = (mS (mS (mS (mS (mS (mS mw127 r128 5 10000) r128 0 w) r128 1 0) r128 2 0) r128 4 b) r128 6 own) := ⟨_, rfl⟩
                  rw [← emp]
                  have fmp : ∀ x j, x ≠ r128 → mp x j = mw127 x j := fun x j u => by rw [emp, mS_a _ _ _ _ u, mS_a _ _ _ _ u, mS_a _ _ _ _ u, mS_a _ _ _ _ u, mS_a _ _ _ _ u, mS_a _ _ _ _ u]
                  have g0 : mp r128 0 = w := by rw [emp]; simp only [mS_iff, eq_self, Int.reduceEq, true_and, and_true, false_and, and_false, and_self, ↓reduceIte]
                  have g1 : mp r128 1 = 0 := by rw [emp]; simp only [mS_iff, eq_self, Int.reduceEq, true_and, and_true, false_and, and_false, and_self, ↓reduceIte]
                  have g2 : mp r128 2 = 0 := by rw [emp]; simp only [mS_iff, eq_self, Int.reduceEq, true_and, and_true, false_and, and_false, and_self, ↓reduceIte]
                  have g4 : mp r128 4 = b := by rw [emp]; simp only [mS_iff, eq_self, Int.reduceEq, true_and, and_true, false_and, and_false, and_self, ↓reduceIte]
                  have g5 : mp r128 5 = 10000 := by rw [emp]; simp only [mS_iff, eq_self, Int.reduceEq, true_and, and_true, false_and, and_false, and_self, ↓reduceIte]
                  have g6 : mp r128 6 = own := by rw [emp]; simp only [mS_iff, eq_self, Int.reduceEq, true_and, and_true, false_and, and_false, and_self, ↓reduceIte]
                  have g7 : mp r128 (-1) = 11 := by rw [emp]; simp only [mS_iff, eq_self, Int.reduceEq, true_and, and_true, false_and, and_false, and_self, ↓reduceIte]; exact w3
                  have e22 : mp 1 22 = S 0 4 := by rw [fmp 1 22 (by omega)]; exact e22
                  refine And.intro (rfl) ?_
                  refine And.intro (show 0 < r128 ∧ (mp r128 (-1)) = 11 by first | omega | (simp only [mS_iff, eq_self, Int.reduceEq, true_and, and_true, false_and, and_false, and_self, ↓reduceIte]; omega) | (simp only [mS_iff, eq_self, Int.reduceEq, true_and, and_true, false_and, and_false, and_self, ↓reduceIte] at *; omega)) ?_
                  obtain ⟨mq, emq⟩ : ∃ z, z = (mS mp r128 3 (mp 1 22)) := ⟨_, rfl⟩
                  rw [← emq]
                  have fmq : ∀ x j, x ≠ r128 → mq x j = mp x j := fun x j u => by rw [emq, mS_a _ _ _ _ u]
                  have g0 : mq r128 0 = _ := (by rw [emq, mS_iff, if_neg (by omega)] : mq r128 0 = mp r128 0).trans g0
                  have g1 : mq r128 1 = _ := (by rw [emq, mS_iff, if_neg (by omega)] : mq r128 1 = mp r128 1).trans g1
                  have g2 : mq r128 2 = _ := (by rw [emq, mS_iff, if_neg (by omega)] : mq r128 2 = mp r128 2).trans g2
                  have g4 : mq r128 4 = _ := (by rw [emq, mS_iff, if_neg (by omega)] : mq r128 4 = mp r128 4).trans g4
                  have g5 : mq r128 5 = _ := (by rw [emq, mS_iff, if_neg (by omega)] : mq r128 5 = mp r128 5).trans g5
                  have g6 : mq r128 6 = _ := (by rw [emq, mS_iff, if_neg (by omega)] : mq r128 6 = mp r128 6).trans g6
                  have g7 : mq r128 (-1) = _ := (by rw [emq, mS_iff, if_neg (by omega)] : mq r128 (-1) = mp r128 (-1)).trans g7
                  have g3 : mq r128 3 = S 0 4 := by rw [emq, mS_iff, if_pos ⟨rfl, rfl⟩]; exact e22
                  have e22 : mq 1 22 = S 0 4 := by rw [fmq 1 22 (by omega)]; exact e22
                  refine And.intro (rfl) ?_
                  refine And.intro (rfl) ?_
                  refine And.intro (⟨rfl, by omega, by omega, Or.inr ⟨by omega, g7⟩⟩) ?_
                  refine And.intro (rfl) ?_
                  refine And.intro (show -2147483648 ≤ (mq 1 22) + 1 ∧ (mq 1 22) + 1 ≤ 2147483647 by first | omega | (simp only [mS_iff, eq_self, Int.reduceEq, true_and, and_true, false_and, and_false, and_self, ↓reduceIte]; omega) | (simp only [mS_iff, eq_self, Int.reduceEq, true_and, and_true, false_and, and_false, and_self, ↓reduceIte] at *; omega)) ?_
                  refine And.intro (rfl) ?_
                  refine And.intro (by rw [mS_iff, if_neg (by omega), mS_iff, if_neg (by omega)]; exact g7) ?_
                  have ev0 : c_per S w f mo b own = (S 0 4, sPn S w f mo b own) := by
                    unfold c_per
                    repeat' split
                    all_goals first | rfl | (exfalso; omega) | (refine Prod.ext ?_ ?_ <;> first | rfl | (show _ = _; omega))
                  rw [ev0] at hQ
                  dsimp only at hQ
                  have ok : okPn S w f mo b own := ⟨hw, p1, p2, dy, by omega, by omega, by omega⟩
                  have hf : 0 = hpr m f := by unfold hpr; rw [if_pos (by omega)]
                  have hm : 0 = hpr m mo := by unfold hpr; rw [if_pos (by omega)]
                  have ff : ∀ x j, x ≠ r128 → mq x j = mw127 x j := fun x j u => (fmq x j u).trans (fmp x j u)
                  have z00 := ff 0 0 (by omega)
                  have z01 := ff 0 1 (by omega)
                  have NP : hNp m ((mS (mS mq 20 (mq 1 22) r128) 1 22 ((mq 1 22) + 1))) (S 0 4) w (hpr m f) (hpr m mo) b own := by
                    refine ⟨by rw [mS_iff, if_neg (by omega), mS_iff, if_neg (by omega)]; omega, by rw [mS_iff, if_neg (by omega), mS_iff, if_neg (by omega)]; omega, fun j u v => by rw [mS_iff, if_neg (by omega), mS_iff, if_neg (by omega)]; exact (ff 0 j (by omega)).trans (w6 j u v), fun x j u v y z => by rw [mS_iff, if_neg (by omega), mS_iff, if_neg (by omega)]; exact (ff x j (by omega)).trans (w5 x j u (by omega)), ?_, ?_, ?_, ?_, ?_, ?_, ?_, ?_, ?_, ?_⟩
                    all_goals try rw [← rr]
                    · rw [← e22]
                      simp only [mS_iff, eq_self, Int.reduceEq, true_and, and_true, false_and, and_false, and_self, ↓reduceIte]
                    · simp only [mS_iff, eq_self, Int.reduceEq, true_and, and_true, false_and, and_false, and_self, ↓reduceIte]
                      omega
                    · rw [mS_iff, if_neg (by omega), mS_iff, if_neg (by omega)]
                      exact g7
                    · rw [mS_iff, if_neg (by omega), mS_iff, if_neg (by omega)]
                      exact g0
                    · rw [mS_iff, if_neg (by omega), mS_iff, if_neg (by omega)]
                      exact g1.trans hf
                    · rw [mS_iff, if_neg (by omega), mS_iff, if_neg (by omega)]
                      exact g2.trans hm
                    · rw [mS_iff, if_neg (by omega), mS_iff, if_neg (by omega)]
                      exact g3
                    · rw [mS_iff, if_neg (by omega), mS_iff, if_neg (by omega)]
                      exact g4
                    · rw [mS_iff, if_neg (by omega), mS_iff, if_neg (by omega)]
                      exact g5
                    · rw [mS_iff, if_neg (by omega), mS_iff, if_neg (by omega)]
                      exact g6
                  show Q (.inl (some (aI ((mS (mS mq 20 (mq 1 22) r128) 1 22 ((mq 1 22) + 1)) r128 3)))) ((mS (mS mq 20 (mq 1 22) r128) 1 22 ((mq 1 22) + 1)))
                  rw [show ((mS (mS mq 20 (mq 1 22) r128) 1 22 ((mq 1 22) + 1)) r128 3) = S 0 4 from (by rw [mS_iff, if_neg (by omega), mS_iff, if_neg (by omega)]; exact g3)]
                  exact hQ _ ⟨h.pn ok NP, ⟨by rw [NP.1]; omega, by have := NP.2.1; omega, by have := NP.2.1; omega, by rw [NP.2.2.2.1 1 14 (by omega) (by omega) (by omega) (by omega)]; omega, by rw [NP.2.2.2.1 1 14 (by omega) (by omega) (by omega) (by omega)]; omega⟩⟩ (fun x j u v => NP.2.2.2.1 x j (by omega) (by omega) (by omega) (by omega))
                · have ev0 : c_per S w f mo b own = ((-5), S) := by
                    unfold c_per
                    repeat' split
                    all_goals first | rfl | (exfalso; omega) | (refine Prod.ext ?_ ?_ <;> first | rfl | (show _ = _; omega))
                  rw [ev0] at hQ
                  dsimp only at hQ
                  exact hQ m (hz0.fr fr (by omega)) fr.M
          · have dn := h67
            refine And.intro (fun h => absurd h (by decide)) (fun _ => ?_)
            have ev0 : c_per S w f mo b own = ((-3), S) := by
              unfold c_per
              repeat' split
              all_goals first | rfl | (exfalso; omega) | (refine Prod.ext ?_ ?_ <;> first | rfl | (show _ = _; omega))
            rw [ev0] at hQ
            dsimp only at hQ
            exact hQ m (hz0.fr fr (by omega)) fr.M
        · have fr := fr.trans fx
          have cn := fr.1
          have cs := fr.2.1
          refine And.intro (fun h => absurd h (by decide)) (fun _ => ?_)
          have ev0 : c_per S w f mo b own = ((-2), S) := by
            unfold c_per
            repeat' split
            all_goals first | rfl | (exfalso; omega) | (refine Prod.ext ?_ ?_ <;> first | rfl | (show _ = _; omega))
          rw [ev0] at hQ
          dsimp only at hQ
          exact hQ mw66 (hz0.fr fr (by omega)) fr.M
    · refine And.intro (fun _ => ?_) (fun h => absurd h (by decide))
      have ev0 : c_per S w f mo b own = ((-2), S) := by
        unfold c_per
        repeat' split
        all_goals first | rfl | (exfalso; omega) | (refine Prod.ext ?_ ?_ <;> first | rfl | (show _ = _; omega))
      rw [ev0] at hQ
      dsimp only at hQ
      exact hQ m (hz0.fr fr (by omega)) fr.M
  · refine And.intro (fun _ => ?_) (fun h => absurd h (by decide))
    have ev0 : c_per S w f mo b own = ((-2), S) := by
      unfold c_per
      repeat' split
      all_goals first | rfl | (exfalso; omega) | (refine Prod.ext ?_ ?_ <;> first | rfl | (show _ = _; omega))
    rw [ev0] at hQ
    dsimp only at hQ
    exact hQ m (hz0.fr fr (by omega)) fr.M
theorem mI.pn {S : aM} {F : Int → aD} {m m' : aM} {w f mo b own : Int} (h : mI S F m) (o : okPn S w f mo b own) (g : ∀ x j, (x < 56 ∨ 61 < x ∨ j ≠ S 0 4) → (x ≠ 41 ∨ j ≠ 28) → m' x j = m x j) (g8 : m' 41 28 = S 0 4 + 1) (g1 : m' 56 (S 0 4) = w ∧ m' 57 (S 0 4) = f ∧ m' 58 (S 0 4) = mo ∧ m' 59 (S 0 4) = b ∧ m' 60 (S 0 4) = 10000 ∧ m' 61 (S 0 4) = own) : mI (sPn S w f mo b own) F m' := by
  obtain ⟨i1, i2, i3, i4, i5, i6, i7, i8⟩ := h
  have S0 : ∀ j, j ≠ 4 → sPn S w f mo b own 0 j = S 0 j := fun j u => sPn_0 u
  have SR : ∀ x, x ≠ 0 → (x < 10 ∨ 15 < x) → sPn S w f mo b own x = S x := fun x a b => sPn_r a b
  have E : ∀ x, (x < 56 ∨ 61 < x) → x ≠ 41 → m' x = m x := fun x a b => funext fun j => g x j (by omega) (by omega)
  have e1 : ∀ j, j ≠ 28 → m' 41 j = m 41 j := fun j u => g 41 j (by omega) (by omega)
  refine ⟨?_, ?_, ?_, ?_, ?_, ?_, ?_, ?_⟩
  · unfold mNm
    rw [e1 3 (by omega), e1 5 (by omega), e1 17 (by omega), e1 62 (by omega), e1 63 (by omega), e1 67 (by omega), E 43 (by omega) (by omega), E 44 (by omega) (by omega), S0 0 (by omega), S0 1 (by omega), S0 2 (by omega), S0 7 (by omega), S0 8 (by omega), S0 9 (by omega), SR 1 (by omega) (by omega), SR 2 (by omega) (by omega)]
    exact i1
  · unfold mAs mRow
    rw [S0 3 (by omega), e1 1 (by omega), E 42 (by omega) (by omega)]
    exact ⟨i2.1, i2.2.1, fun i a b => by rw [SR (100 + i) (by omega) (by omega)]; exact i2.2.2 i a b⟩
  · refine mEs.cg ?_ (S0 5 (by omega)) (S0 3 (by omega)) (fun x a b => SR x (by omega) (by omega))
    unfold mEs
    rw [e1 40 (by omega), E 65 (by omega) (by omega), E 66 (by omega) (by omega), E 67 (by omega) (by omega)]
    exact i3
  · refine ⟨i4.1.pn o, by rw [g8, sPn_4], fun q a c => ?_⟩
    rw [sPn_4] at c
    by_cases k : q = S 0 4
    · subst k
      rw [sPn_n (by omega), sPn_n (by omega), sPn_n (by omega), sPn_n (by omega), sPn_n (by omega), sPn_n (by omega)]
      simp only [Int.reduceEq, ↓reduceIte]
      exact g1
    · rw [sPn_o (by omega) k, sPn_o (by omega) k, sPn_o (by omega) k, sPn_o (by omega) k, sPn_o (by omega) k, sPn_o (by omega) k, g 56 q (by omega) (by omega), g 57 q (by omega) (by omega), g 58 q (by omega) (by omega), g 59 q (by omega) (by omega), g 60 q (by omega) (by omega), g 61 q (by omega) (by omega)]
      exact i4.2.2 q a (by omega)
  · unfold mCs
    rw [S0 6 (by omega), SR 20 (by omega) (by omega), e1 46 (by omega), E 70 (by omega) (by omega), E 69 (by omega) (by omega)]
    refine ⟨i5.1, i5.2.1, fun i a b => ?_⟩
    obtain ⟨⟨q, hi, c1, c2, c3⟩, c4⟩ := i5.2.2 i a b
    exact ⟨⟨q, hi, c1, c2, c3.keep (fun x j u v _ _ => by rw [E x (by omega) (by omega)])⟩, c4⟩
  · unfold mDn mDr
    rw [S0 3 (by omega), e1 23 (by omega), E 51 (by omega) (by omega), E 52 (by omega) (by omega)]
    exact ⟨i6.1, fun i a b c => by rw [SR (100 + i) (by omega) (by omega)]; exact i6.2 i a b c⟩
  · unfold mTk
    rw [e1 27 (by omega), E 55 (by omega) (by omega)]
    exact i7
  · unfold mOn mW5 mWr mWd
    rw [E 45 (by omega) (by omega), E 46 (by omega) (by omega), E 47 (by omega) (by omega), E 48 (by omega) (by omega), E 49 (by omega) (by omega), E 50 (by omega) (by omega)]
    exact i8
theorem ms_252 {d : Nat} {m : aM} {Q : aO → aM → Prop} {S : aM} {F : Int → aD} {w f mo b own : Int} {k : Int} (hd : 60 ≤ d) (hk : 0 ≤ k) (hz0 : mZ (k + 1) S F m) (hw : w = 0 ∨ w = 1) (hQ : ∀ m', mZ k (c_per S w f mo b own).2 F m' → (∀ x j, x < 41 ∨ 76 < x → m' x j = m x j) → Q (.inl (some (aI (c_per S w f mo b own).1))) m') : am_wpc am_G am_T d 252 [aR 41, aI w, aI f, aI mo, aI b, aI own] m Q := by
  have h := hz0.1
  have hr := hz0.2
  have fr := mFr.rfl m
  have hS := h.2.1
  have s1 := hS.1
  obtain ⟨n1, n2, n3, n4, n5, n6, n7, n8⟩ := id h.1
  have hE := h.2.2.1
  have e5 := hE.2.1
  have e6 := hE.1.1
  have e7 := hE.1.2
  obtain ⟨dk, hdk⟩ : ∃ k, d = k + 1 := ⟨d - 1, by omega⟩
  refine am_in (k := dk) rfl (by omega) (fun d hd => ?_)
  refine am_go 400 [] (am_wpc_cm _ _ _) wf_252 ?_
  have q28 := h.2.2.2.1.2.1
  have p40 := h.2.2.2.1.1.1
  refine And.intro (fun h1 => ?_) (fun h1 => ?_)
  · refine And.intro (fun h2 => ?_) (fun h2 => ?_)
    · refine And.intro (fun h3 => ?_) (fun h3 => ?_)
      · refine ct_254 (by omega) (fun h4 => ?_) (fun h4 => ?_)
        · have dy := h4
          refine And.intro (fun _ => ?_) (fun h => absurd h (by decide))
          refine And.intro (fun h5 => ?_) (fun h5 => ?_)
          · refine And.intro (fun h6 => ?_) (fun h6 => ?_)
            · refine And.intro (rfl) ?_
              refine And.intro (fun h7 => ?_) (fun h7 => ?_)
              · refine And.intro (rfl) ?_
                refine And.intro (rfl) ?_
                refine And.intro (⟨rfl, by first | omega | (simp only [mS_iff, eq_self, Int.reduceEq, true_and, and_true, false_and, and_false, and_self, ↓reduceIte]; omega) | (simp only [mS_iff, eq_self, Int.reduceEq, true_and, and_true, false_and, and_false, and_self, ↓reduceIte] at *; omega), by first | omega | (simp only [mS_iff, eq_self, Int.reduceEq, true_and, and_true, false_and, and_false, and_self, ↓reduceIte]; omega) | (simp only [mS_iff, eq_self, Int.reduceEq, true_and, and_true, false_and, and_false, and_self, ↓reduceIte] at *; omega)⟩) ?_
                refine And.intro (rfl) ?_
                refine And.intro (rfl) ?_
                refine And.intro (⟨rfl, by first | omega | (simp only [mS_iff, eq_self, Int.reduceEq, true_and, and_true, false_and, and_false, and_self, ↓reduceIte]; omega) | (simp only [mS_iff, eq_self, Int.reduceEq, true_and, and_true, false_and, and_false, and_self, ↓reduceIte] at *; omega)⟩) ?_
                refine And.intro (rfl) ?_
                refine And.intro (rfl) ?_
                refine And.intro (⟨rfl, by first | omega | (simp only [mS_iff, eq_self, Int.reduceEq, true_and, and_true, false_and, and_false, and_self, ↓reduceIte]; omega) | (simp only [mS_iff, eq_self, Int.reduceEq, true_and, and_true, false_and, and_false, and_self, ↓reduceIte] at *; omega)⟩) ?_
                refine And.intro (rfl) ?_
                refine And.intro (rfl) ?_
                refine And.intro (⟨rfl, by first | omega | (simp only [mS_iff, eq_self, Int.reduceEq, true_and, and_true, false_and, and_false, and_self, ↓reduceIte]; omega) | (simp only [mS_iff, eq_self, Int.reduceEq, true_and, and_true, false_and, and_false, and_self, ↓reduceIte] at *; omega)⟩) ?_
                refine And.intro (rfl) ?_
                refine And.intro (rfl) ?_
                refine And.intro (⟨rfl, by first | omega | (simp only [mS_iff, eq_self, Int.reduceEq, true_and, and_true, false_and, and_false, and_self, ↓reduceIte]; omega) | (simp only [mS_iff, eq_self, Int.reduceEq, true_and, and_true, false_and, and_false, and_self, ↓reduceIte] at *; omega)⟩) ?_
                refine And.intro (rfl) ?_
                refine And.intro (rfl) ?_
                refine And.intro (⟨rfl, by first | omega | (simp only [mS_iff, eq_self, Int.reduceEq, true_and, and_true, false_and, and_false, and_self, ↓reduceIte]; omega) | (simp only [mS_iff, eq_self, Int.reduceEq, true_and, and_true, false_and, and_false, and_self, ↓reduceIte] at *; omega)⟩) ?_
                refine And.intro (rfl) ?_
                refine And.intro (show -2147483648 ≤ (m 41 28) + 1 ∧ (m 41 28) + 1 ≤ 2147483647 by first | omega | (simp only [mS_iff, eq_self, Int.reduceEq, true_and, and_true, false_and, and_false, and_self, ↓reduceIte]; omega) | (simp only [mS_iff, eq_self, Int.reduceEq, true_and, and_true, false_and, and_false, and_self, ↓reduceIte] at *; omega)) ?_
                refine And.intro (rfl) ?_
                refine And.intro (rfl) ?_
                refine And.intro (show -2147483648 ≤ ((m 41 28) + 1) - 1 ∧ ((m 41 28) + 1) - 1 ≤ 2147483647 by first | omega | (simp only [mS_iff, eq_self, Int.reduceEq, true_and, and_true, false_and, and_false, and_self, ↓reduceIte]; omega) | (simp only [mS_iff, eq_self, Int.reduceEq, true_and, and_true, false_and, and_false, and_self, ↓reduceIte] at *; omega)) ?_
                have ev0 : c_per S w f mo b own = (S 0 4, sPn S w f mo b own) := by
                  unfold c_per
                  repeat' split
                  all_goals first | rfl | (exfalso; omega) | (refine Prod.ext ?_ ?_ <;> first | rfl | (show _ = _; omega))
                rw [ev0] at hQ
                dsimp only at hQ
                have ok : okPn S w f mo b own := ⟨hw, by omega, by omega, dy, by omega, by omega, by omega⟩
                show Q (.inl (some (aI (((m 41 28) + 1) - 1)))) ((mS (mS (mS (mS (mS (mS (mS m 56 (m 41 28) w) 57 (m 41 28) f) 58 (m 41 28) mo) 59 (m 41 28) b) 60 (m 41 28) 10000) 61 (m 41 28) own) 41 28 ((m 41 28) + 1)))
                rw [show (((m 41 28) + 1) - 1) = S 0 4 by omega]
                refine hQ _ ⟨h.pn ok (fun x j u v => by rw [mS_iff, if_neg (by omega), mS_iff, if_neg (by omega), mS_iff, if_neg (by omega), mS_iff, if_neg (by omega), mS_iff, if_neg (by omega), mS_iff, if_neg (by omega), mS_iff, if_neg (by omega)]) (by rw [mS_iff, if_pos ⟨rfl, rfl⟩]; omega) ?_, hr.up (by rw [mS_iff, if_neg (by omega), mS_iff, if_neg (by omega), mS_iff, if_neg (by omega), mS_iff, if_neg (by omega), mS_iff, if_neg (by omega), mS_iff, if_neg (by omega), mS_iff, if_neg (by omega)])⟩ (fun x j u => by rw [mS_iff, if_neg (by omega), mS_iff, if_neg (by omega), mS_iff, if_neg (by omega), mS_iff, if_neg (by omega), mS_iff, if_neg (by omega), mS_iff, if_neg (by omega), mS_iff, if_neg (by omega)])
                rw [← q28]
                simp only [mS_iff, eq_self, Int.reduceEq, true_and, and_true, false_and, and_false, and_self, ↓reduceIte]
                done
              · have ev0 : c_per S w f mo b own = ((-5), S) := by
                  unfold c_per
                  repeat' split
                  all_goals first | rfl | (exfalso; omega) | (refine Prod.ext ?_ ?_ <;> first | rfl | (show _ = _; omega))
                rw [ev0] at hQ
                dsimp only at hQ
                exact hQ m (hz0.fr fr) fr.1
            · refine And.intro (rfl) ?_
              refine And.intro (⟨rfl, by omega⟩) ?_
              refine And.intro (fun h8 => ?_) (fun h8 => ?_)
              · have ev0 : c_per S w f mo b own = ((-4), S) := by
                  unfold c_per
                  repeat' split
                  all_goals first | rfl | (exfalso; omega) | (refine Prod.ext ?_ ?_ <;> first | rfl | (show _ = _; omega))
                rw [ev0] at hQ
                dsimp only at hQ
                exact hQ m (hz0.fr fr) fr.1
              · refine And.intro (rfl) ?_
                refine And.intro (⟨rfl, by omega⟩) ?_
                refine And.intro (fun h9 => ?_) (fun h9 => ?_)
                · refine And.intro (rfl) ?_
                  refine And.intro (fun h10 => ?_) (fun h10 => ?_)
                  · refine And.intro (rfl) ?_
                    refine And.intro (rfl) ?_
                    refine And.intro (⟨rfl, by first | omega | (simp only [mS_iff, eq_self, Int.reduceEq, true_and, and_true, false_and, and_false, and_self, ↓reduceIte]; omega) | (simp only [mS_iff, eq_self, Int.reduceEq, true_and, and_true, false_and, and_false, and_self, ↓reduceIte] at *; omega), by first | omega | (simp only [mS_iff, eq_self, Int.reduceEq, true_and, and_true, false_and, and_false, and_self, ↓reduceIte]; omega) | (simp only [mS_iff, eq_self, Int.reduceEq, true_and, and_true, false_and, and_false, and_self, ↓reduceIte] at *; omega)⟩) ?_
                    refine And.intro (rfl) ?_
                    refine And.intro (rfl) ?_
                    refine And.intro (⟨rfl, by first | omega | (simp only [mS_iff, eq_self, Int.reduceEq, true_and, and_true, false_and, and_false, and_self, ↓reduceIte]; omega) | (simp only [mS_iff, eq_self, Int.reduceEq, true_and, and_true, false_and, and_false, and_self, ↓reduceIte] at *; omega)⟩) ?_
                    refine And.intro (rfl) ?_
                    refine And.intro (rfl) ?_
                    refine And.intro (⟨rfl, by first | omega | (simp only [mS_iff, eq_self, Int.reduceEq, true_and, and_true, false_and, and_false, and_self, ↓reduceIte]; omega) | (simp only [mS_iff, eq_self, Int.reduceEq, true_and, and_true, false_and, and_false, and_self, ↓reduceIte] at *; omega)⟩) ?_
                    refine And.intro (rfl) ?_
                    refine And.intro (rfl) ?_
                    refine And.intro (⟨rfl, by first | omega | (simp only [mS_iff, eq_self, Int.reduceEq, true_and, and_true, false_and, and_false, and_self, ↓reduceIte]; omega) | (simp only [mS_iff, eq_self, Int.reduceEq, true_and, and_true, false_and, and_false, and_self, ↓reduceIte] at *; omega)⟩) ?_
                    refine And.intro (rfl) ?_
                    refine And.intro (rfl) ?_
                    refine And.intro (⟨rfl, by first | omega | (simp only [mS_iff, eq_self, Int.reduceEq, true_and, and_true, false_and, and_false, and_self, ↓reduceIte]; omega) | (simp only [mS_iff, eq_self, Int.reduceEq, true_and, and_true, false_and, and_false, and_self, ↓reduceIte] at *; omega)⟩) ?_
                    refine And.intro (rfl) ?_
                    refine And.intro (rfl) ?_
                    refine And.intro (⟨rfl, by first | omega | (simp only [mS_iff, eq_self, Int.reduceEq, true_and, and_true, false_and, and_false, and_self, ↓reduceIte]; omega) | (simp only [mS_iff, eq_self, Int.reduceEq, true_and, and_true, false_and, and_false, and_self, ↓reduceIte] at *; omega)⟩) ?_
                    refine And.intro (rfl) ?_
                    refine And.intro (show -2147483648 ≤ (m 41 28) + 1 ∧ (m 41 28) + 1 ≤ 2147483647 by first | omega | (simp only [mS_iff, eq_self, Int.reduceEq, true_and, and_true, false_and, and_false, and_self, ↓reduceIte]; omega) | (simp only [mS_iff, eq_self, Int.reduceEq, true_and, and_true, false_and, and_false, and_self, ↓reduceIte] at *; omega)) ?_
                    refine And.intro (rfl) ?_
                    refine And.intro (rfl) ?_
                    refine And.intro (show -2147483648 ≤ ((m 41 28) + 1) - 1 ∧ ((m 41 28) + 1) - 1 ≤ 2147483647 by first | omega | (simp only [mS_iff, eq_self, Int.reduceEq, true_and, and_true, false_and, and_false, and_self, ↓reduceIte]; omega) | (simp only [mS_iff, eq_self, Int.reduceEq, true_and, and_true, false_and, and_false, and_self, ↓reduceIte] at *; omega)) ?_
                    have ev0 : c_per S w f mo b own = (S 0 4, sPn S w f mo b own) := by
                      unfold c_per
                      repeat' split
                      all_goals first | rfl | (exfalso; omega) | (refine Prod.ext ?_ ?_ <;> first | rfl | (show _ = _; omega))
                    rw [ev0] at hQ
                    dsimp only at hQ
                    have ok : okPn S w f mo b own := ⟨hw, by omega, by omega, dy, by omega, by omega, by omega⟩
                    show Q (.inl (some (aI (((m 41 28) + 1) - 1)))) ((mS (mS (mS (mS (mS (mS (mS m 56 (m 41 28) w) 57 (m 41 28) f) 58 (m 41 28) mo) 59 (m 41 28) b) 60 (m 41 28) 10000) 61 (m 41 28) own) 41 28 ((m 41 28) + 1)))
                    rw [show (((m 41 28) + 1) - 1) = S 0 4 by omega]
                    refine hQ _ ⟨h.pn ok (fun x j u v => by rw [mS_iff, if_neg (by omega), mS_iff, if_neg (by omega), mS_iff, if_neg (by omega), mS_iff, if_neg (by omega), mS_iff, if_neg (by omega), mS_iff, if_neg (by omega), mS_iff, if_neg (by omega)]) (by rw [mS_iff, if_pos ⟨rfl, rfl⟩]; omega) ?_, hr.up (by rw [mS_iff, if_neg (by omega), mS_iff, if_neg (by omega), mS_iff, if_neg (by omega), mS_iff, if_neg (by omega), mS_iff, if_neg (by omega), mS_iff, if_neg (by omega), mS_iff, if_neg (by omega)])⟩ (fun x j u => by rw [mS_iff, if_neg (by omega), mS_iff, if_neg (by omega), mS_iff, if_neg (by omega), mS_iff, if_neg (by omega), mS_iff, if_neg (by omega), mS_iff, if_neg (by omega), mS_iff, if_neg (by omega)])
                    rw [← q28]
                    simp only [mS_iff, eq_self, Int.reduceEq, true_and, and_true, false_and, and_false, and_self, ↓reduceIte]
                    done
                  · have ev0 : c_per S w f mo b own = ((-5), S) := by
                      unfold c_per
                      repeat' split
                      all_goals first | rfl | (exfalso; omega) | (refine Prod.ext ?_ ?_ <;> first | rfl | (show _ = _; omega))
                    rw [ev0] at hQ
                    dsimp only at hQ
                    exact hQ m (hz0.fr fr) fr.1
                · have ev0 : c_per S w f mo b own = ((-4), S) := by
                    unfold c_per
                    repeat' split
                    all_goals first | rfl | (exfalso; omega) | (refine Prod.ext ?_ ?_ <;> first | rfl | (show _ = _; omega))
                  rw [ev0] at hQ
                  dsimp only at hQ
                  exact hQ m (hz0.fr fr) fr.1
          · refine And.intro (rfl) ?_
            refine And.intro (⟨rfl, by omega⟩) ?_
            refine And.intro (fun h11 => ?_) (fun h11 => ?_)
            · have ev0 : c_per S w f mo b own = ((-4), S) := by
                unfold c_per
                repeat' split
                all_goals first | rfl | (exfalso; omega) | (refine Prod.ext ?_ ?_ <;> first | rfl | (show _ = _; omega))
              rw [ev0] at hQ
              dsimp only at hQ
              exact hQ m (hz0.fr fr) fr.1
            · refine And.intro (rfl) ?_
              refine And.intro (⟨rfl, by omega⟩) ?_
              refine And.intro (fun h12 => ?_) (fun h12 => ?_)
              · have ev0 : c_per S w f mo b own = ((-4), S) := by
                  unfold c_per
                  repeat' split
                  all_goals first | rfl | (exfalso; omega) | (refine Prod.ext ?_ ?_ <;> first | rfl | (show _ = _; omega))
                rw [ev0] at hQ
                dsimp only at hQ
                exact hQ m (hz0.fr fr) fr.1
              · refine And.intro (fun h13 => ?_) (fun h13 => ?_)
                · refine And.intro (rfl) ?_
                  refine And.intro (fun h14 => ?_) (fun h14 => ?_)
                  · refine And.intro (rfl) ?_
                    refine And.intro (rfl) ?_
                    refine And.intro (⟨rfl, by first | omega | (simp only [mS_iff, eq_self, Int.reduceEq, true_and, and_true, false_and, and_false, and_self, ↓reduceIte]; omega) | (simp only [mS_iff, eq_self, Int.reduceEq, true_and, and_true, false_and, and_false, and_self, ↓reduceIte] at *; omega), by first | omega | (simp only [mS_iff, eq_self, Int.reduceEq, true_and, and_true, false_and, and_false, and_self, ↓reduceIte]; omega) | (simp only [mS_iff, eq_self, Int.reduceEq, true_and, and_true, false_and, and_false, and_self, ↓reduceIte] at *; omega)⟩) ?_
                    refine And.intro (rfl) ?_
                    refine And.intro (rfl) ?_
                    refine And.intro (⟨rfl, by first | omega | (simp only [mS_iff, eq_self, Int.reduceEq, true_and, and_true, false_and, and_false, and_self, ↓reduceIte]; omega) | (simp only [mS_iff, eq_self, Int.reduceEq, true_and, and_true, false_and, and_false, and_self, ↓reduceIte] at *; omega)⟩) ?_
                    refine And.intro (rfl) ?_
                    refine And.intro (rfl) ?_
                    refine And.intro (⟨rfl, by first | omega | (simp only [mS_iff, eq_self, Int.reduceEq, true_and, and_true, false_and, and_false, and_self, ↓reduceIte]; omega) | (simp only [mS_iff, eq_self, Int.reduceEq, true_and, and_true, false_and, and_false, and_self, ↓reduceIte] at *; omega)⟩) ?_
                    refine And.intro (rfl) ?_
                    refine And.intro (rfl) ?_
                    refine And.intro (⟨rfl, by first | omega | (simp only [mS_iff, eq_self, Int.reduceEq, true_and, and_true, false_and, and_false, and_self, ↓reduceIte]; omega) | (simp only [mS_iff, eq_self, Int.reduceEq, true_and, and_true, false_and, and_false, and_self, ↓reduceIte] at *; omega)⟩) ?_
                    refine And.intro (rfl) ?_
                    refine And.intro (rfl) ?_
                    refine And.intro (⟨rfl, by first | omega | (simp only [mS_iff, eq_self, Int.reduceEq, true_and, and_true, false_and, and_false, and_self, ↓reduceIte]; omega) | (simp only [mS_iff, eq_self, Int.reduceEq, true_and, and_true, false_and, and_false, and_self, ↓reduceIte] at *; omega)⟩) ?_
                    refine And.intro (rfl) ?_
                    refine And.intro (rfl) ?_
                    refine And.intro (⟨rfl, by first | omega | (simp only [mS_iff, eq_self, Int.reduceEq, true_and, and_true, false_and, and_false, and_self, ↓reduceIte]; omega) | (simp only [mS_iff, eq_self, Int.reduceEq, true_and, and_true, false_and, and_false, and_self, ↓reduceIte] at *; omega)⟩) ?_
                    refine And.intro (rfl) ?_
                    refine And.intro (show -2147483648 ≤ (m 41 28) + 1 ∧ (m 41 28) + 1 ≤ 2147483647 by first | omega | (simp only [mS_iff, eq_self, Int.reduceEq, true_and, and_true, false_and, and_false, and_self, ↓reduceIte]; omega) | (simp only [mS_iff, eq_self, Int.reduceEq, true_and, and_true, false_and, and_false, and_self, ↓reduceIte] at *; omega)) ?_
                    refine And.intro (rfl) ?_
                    refine And.intro (rfl) ?_
                    refine And.intro (show -2147483648 ≤ ((m 41 28) + 1) - 1 ∧ ((m 41 28) + 1) - 1 ≤ 2147483647 by first | omega | (simp only [mS_iff, eq_self, Int.reduceEq, true_and, and_true, false_and, and_false, and_self, ↓reduceIte]; omega) | (simp only [mS_iff, eq_self, Int.reduceEq, true_and, and_true, false_and, and_false, and_self, ↓reduceIte] at *; omega)) ?_
                    have ev0 : c_per S w f mo b own = (S 0 4, sPn S w f mo b own) := by
                      unfold c_per
                      repeat' split
                      all_goals first | rfl | (exfalso; omega) | (refine Prod.ext ?_ ?_ <;> first | rfl | (show _ = _; omega))
                    rw [ev0] at hQ
                    dsimp only at hQ
                    have ok : okPn S w f mo b own := ⟨hw, by omega, by omega, dy, by omega, by omega, by omega⟩
                    show Q (.inl (some (aI (((m 41 28) + 1) - 1)))) ((mS (mS (mS (mS (mS (mS (mS m 56 (m 41 28) w) 57 (m 41 28) f) 58 (m 41 28) mo) 59 (m 41 28) b) 60 (m 41 28) 10000) 61 (m 41 28) own) 41 28 ((m 41 28) + 1)))
                    rw [show (((m 41 28) + 1) - 1) = S 0 4 by omega]
                    refine hQ _ ⟨h.pn ok (fun x j u v => by rw [mS_iff, if_neg (by omega), mS_iff, if_neg (by omega), mS_iff, if_neg (by omega), mS_iff, if_neg (by omega), mS_iff, if_neg (by omega), mS_iff, if_neg (by omega), mS_iff, if_neg (by omega)]) (by rw [mS_iff, if_pos ⟨rfl, rfl⟩]; omega) ?_, hr.up (by rw [mS_iff, if_neg (by omega), mS_iff, if_neg (by omega), mS_iff, if_neg (by omega), mS_iff, if_neg (by omega), mS_iff, if_neg (by omega), mS_iff, if_neg (by omega), mS_iff, if_neg (by omega)])⟩ (fun x j u => by rw [mS_iff, if_neg (by omega), mS_iff, if_neg (by omega), mS_iff, if_neg (by omega), mS_iff, if_neg (by omega), mS_iff, if_neg (by omega), mS_iff, if_neg (by omega), mS_iff, if_neg (by omega)])
                    rw [← q28]
                    simp only [mS_iff, eq_self, Int.reduceEq, true_and, and_true, false_and, and_false, and_self, ↓reduceIte]
                    done
                  · have ev0 : c_per S w f mo b own = ((-5), S) := by
                      unfold c_per
                      repeat' split
                      all_goals first | rfl | (exfalso; omega) | (refine Prod.ext ?_ ?_ <;> first | rfl | (show _ = _; omega))
                    rw [ev0] at hQ
                    dsimp only at hQ
                    exact hQ m (hz0.fr fr) fr.1
                · refine And.intro (rfl) ?_
                  refine And.intro (⟨rfl, by omega⟩) ?_
                  refine And.intro (fun h15 => ?_) (fun h15 => ?_)
                  · have ev0 : c_per S w f mo b own = ((-4), S) := by
                      unfold c_per
                      repeat' split
                      all_goals first | rfl | (exfalso; omega) | (refine Prod.ext ?_ ?_ <;> first | rfl | (show _ = _; omega))
                    rw [ev0] at hQ
                    dsimp only at hQ
                    exact hQ m (hz0.fr fr) fr.1
                  · refine And.intro (rfl) ?_
                    refine And.intro (⟨rfl, by omega⟩) ?_
                    refine And.intro (fun h16 => ?_) (fun h16 => ?_)
                    · refine And.intro (rfl) ?_
                      refine And.intro (fun h17 => ?_) (fun h17 => ?_)
                      · refine And.intro (rfl) ?_
                        refine And.intro (rfl) ?_
                        refine And.intro (⟨rfl, by first | omega | (simp only [mS_iff, eq_self, Int.reduceEq, true_and, and_true, false_and, and_false, and_self, ↓reduceIte]; omega) | (simp only [mS_iff, eq_self, Int.reduceEq, true_and, and_true, false_and, and_false, and_self, ↓reduceIte] at *; omega), by first | omega | (simp only [mS_iff, eq_self, Int.reduceEq, true_and, and_true, false_and, and_false, and_self, ↓reduceIte]; omega) | (simp only [mS_iff, eq_self, Int.reduceEq, true_and, and_true, false_and, and_false, and_self, ↓reduceIte] at *; omega)⟩) ?_
                        refine And.intro (rfl) ?_
                        refine And.intro (rfl) ?_
                        refine And.intro (⟨rfl, by first | omega | (simp only [mS_iff, eq_self, Int.reduceEq, true_and, and_true, false_and, and_false, and_self, ↓reduceIte]; omega) | (simp only [mS_iff, eq_self, Int.reduceEq, true_and, and_true, false_and, and_false, and_self, ↓reduceIte] at *; omega)⟩) ?_
                        refine And.intro (rfl) ?_
                        refine And.intro (rfl) ?_
                        refine And.intro (⟨rfl, by first | omega | (simp only [mS_iff, eq_self, Int.reduceEq, true_and, and_true, false_and, and_false, and_self, ↓reduceIte]; omega) | (simp only [mS_iff, eq_self, Int.reduceEq, true_and, and_true, false_and, and_false, and_self, ↓reduceIte] at *; omega)⟩) ?_
                        refine And.intro (rfl) ?_
                        refine And.intro (rfl) ?_
                        refine And.intro (⟨rfl, by first | omega | (simp only [mS_iff, eq_self, Int.reduceEq, true_and, and_true, false_and, and_false, and_self, ↓reduceIte]; omega) | (simp only [mS_iff, eq_self, Int.reduceEq, true_and, and_true, false_and, and_false, and_self, ↓reduceIte] at *; omega)⟩) ?_
                        refine And.intro (rfl) ?_
                        refine And.intro (rfl) ?_
                        refine And.intro (⟨rfl, by first | omega | (simp only [mS_iff, eq_self, Int.reduceEq, true_and, and_true, false_and, and_false, and_self, ↓reduceIte]; omega) | (simp only [mS_iff, eq_self, Int.reduceEq, true_and, and_true, false_and, and_false, and_self, ↓reduceIte] at *; omega)⟩) ?_
                        refine And.intro (rfl) ?_
                        refine And.intro (rfl) ?_
                        refine And.intro (⟨rfl, by first | omega | (simp only [mS_iff, eq_self, Int.reduceEq, true_and, and_true, false_and, and_false, and_self, ↓reduceIte]; omega) | (simp only [mS_iff, eq_self, Int.reduceEq, true_and, and_true, false_and, and_false, and_self, ↓reduceIte] at *; omega)⟩) ?_
                        refine And.intro (rfl) ?_
                        refine And.intro (show -2147483648 ≤ (m 41 28) + 1 ∧ (m 41 28) + 1 ≤ 2147483647 by first | omega | (simp only [mS_iff, eq_self, Int.reduceEq, true_and, and_true, false_and, and_false, and_self, ↓reduceIte]; omega) | (simp only [mS_iff, eq_self, Int.reduceEq, true_and, and_true, false_and, and_false, and_self, ↓reduceIte] at *; omega)) ?_
                        refine And.intro (rfl) ?_
                        refine And.intro (rfl) ?_
                        refine And.intro (show -2147483648 ≤ ((m 41 28) + 1) - 1 ∧ ((m 41 28) + 1) - 1 ≤ 2147483647 by first | omega | (simp only [mS_iff, eq_self, Int.reduceEq, true_and, and_true, false_and, and_false, and_self, ↓reduceIte]; omega) | (simp only [mS_iff, eq_self, Int.reduceEq, true_and, and_true, false_and, and_false, and_self, ↓reduceIte] at *; omega)) ?_
                        have ev0 : c_per S w f mo b own = (S 0 4, sPn S w f mo b own) := by
                          unfold c_per
                          repeat' split
                          all_goals first | rfl | (exfalso; omega) | (refine Prod.ext ?_ ?_ <;> first | rfl | (show _ = _; omega))
                        rw [ev0] at hQ
                        dsimp only at hQ
                        have ok : okPn S w f mo b own := ⟨hw, by omega, by omega, dy, by omega, by omega, by omega⟩
                        show Q (.inl (some (aI (((m 41 28) + 1) - 1)))) ((mS (mS (mS (mS (mS (mS (mS m 56 (m 41 28) w) 57 (m 41 28) f) 58 (m 41 28) mo) 59 (m 41 28) b) 60 (m 41 28) 10000) 61 (m 41 28) own) 41 28 ((m 41 28) + 1)))
                        rw [show (((m 41 28) + 1) - 1) = S 0 4 by omega]
                        refine hQ _ ⟨h.pn ok (fun x j u v => by rw [mS_iff, if_neg (by omega), mS_iff, if_neg (by omega), mS_iff, if_neg (by omega), mS_iff, if_neg (by omega), mS_iff, if_neg (by omega), mS_iff, if_neg (by omega), mS_iff, if_neg (by omega)]) (by rw [mS_iff, if_pos ⟨rfl, rfl⟩]; omega) ?_, hr.up (by rw [mS_iff, if_neg (by omega), mS_iff, if_neg (by omega), mS_iff, if_neg (by omega), mS_iff, if_neg (by omega), mS_iff, if_neg (by omega), mS_iff, if_neg (by omega), mS_iff, if_neg (by omega)])⟩ (fun x j u => by rw [mS_iff, if_neg (by omega), mS_iff, if_neg (by omega), mS_iff, if_neg (by omega), mS_iff, if_neg (by omega), mS_iff, if_neg (by omega), mS_iff, if_neg (by omega), mS_iff, if_neg (by omega)])
                        rw [← q28]
                        simp only [mS_iff, eq_self, Int.reduceEq, true_and, and_true, false_and, and_false, and_self, ↓reduceIte]
                        done
                      · have ev0 : c_per S w f mo b own = ((-5), S) := by
                          unfold c_per
                          repeat' split
                          all_goals first | rfl | (exfalso; omega) | (refine Prod.ext ?_ ?_ <;> first | rfl | (show _ = _; omega))
                        rw [ev0] at hQ
                        dsimp only at hQ
                        exact hQ m (hz0.fr fr) fr.1
                    · have ev0 : c_per S w f mo b own = ((-4), S) := by
                        unfold c_per
                        repeat' split
                        all_goals first | rfl | (exfalso; omega) | (refine Prod.ext ?_ ?_ <;> first | rfl | (show _ = _; omega))
                      rw [ev0] at hQ
                      dsimp only at hQ
                      exact hQ m (hz0.fr fr) fr.1
        · have dn := h4
          refine And.intro (fun h => absurd h (by decide)) (fun _ => ?_)
          have ev0 : c_per S w f mo b own = ((-3), S) := by
            unfold c_per
            repeat' split
            all_goals first | rfl | (exfalso; omega) | (refine Prod.ext ?_ ?_ <;> first | rfl | (show _ = _; omega))
          rw [ev0] at hQ
          dsimp only at hQ
          exact hQ m (hz0.fr fr) fr.1
      · refine And.intro (rfl) ?_
        refine ct_222 (by omega) h (fun t3 => ?_) (fun t3 => ?_)
        · have hA3 := (hS.2.2 own t3.1 t3.2).1
          have ok3 := (hS.2.2 own t3.1 t3.2).2
          refine And.intro (fun _ => ?_) (fun h => absurd h (by decide))
          refine ct_254 (by omega) (fun h18 => ?_) (fun h18 => ?_)
          · have dy := h18
            refine And.intro (fun _ => ?_) (fun h => absurd h (by decide))
            refine And.intro (fun h19 => ?_) (fun h19 => ?_)
            · refine And.intro (fun h20 => ?_) (fun h20 => ?_)
              · refine And.intro (rfl) ?_
                refine And.intro (fun h21 => ?_) (fun h21 => ?_)
                · refine And.intro (rfl) ?_
                  refine And.intro (rfl) ?_
                  refine And.intro (⟨rfl, by first | omega | (simp only [mS_iff, eq_self, Int.reduceEq, true_and, and_true, false_and, and_false, and_self, ↓reduceIte]; omega) | (simp only [mS_iff, eq_self, Int.reduceEq, true_and, and_true, false_and, and_false, and_self, ↓reduceIte] at *; omega), by first | omega | (simp only [mS_iff, eq_self, Int.reduceEq, true_and, and_true, false_and, and_false, and_self, ↓reduceIte]; omega) | (simp only [mS_iff, eq_self, Int.reduceEq, true_and, and_true, false_and, and_false, and_self, ↓reduceIte] at *; omega)⟩) ?_
                  refine And.intro (rfl) ?_
                  refine And.intro (rfl) ?_
                  refine And.intro (⟨rfl, by first | omega | (simp only [mS_iff, eq_self, Int.reduceEq, true_and, and_true, false_and, and_false, and_self, ↓reduceIte]; omega) | (simp only [mS_iff, eq_self, Int.reduceEq, true_and, and_true, false_and, and_false, and_self, ↓reduceIte] at *; omega)⟩) ?_
                  refine And.intro (rfl) ?_
                  refine And.intro (rfl) ?_
                  refine And.intro (⟨rfl, by first | omega | (simp only [mS_iff, eq_self, Int.reduceEq, true_and, and_true, false_and, and_false, and_self, ↓reduceIte]; omega) | (simp only [mS_iff, eq_self, Int.reduceEq, true_and, and_true, false_and, and_false, and_self, ↓reduceIte] at *; omega)⟩) ?_
                  refine And.intro (rfl) ?_
                  refine And.intro (rfl) ?_
                  refine And.intro (⟨rfl, by first | omega | (simp only [mS_iff, eq_self, Int.reduceEq, true_and, and_true, false_and, and_false, and_self, ↓reduceIte]; omega) | (simp only [mS_iff, eq_self, Int.reduceEq, true_and, and_true, false_and, and_false, and_self, ↓reduceIte] at *; omega)⟩) ?_
                  refine And.intro (rfl) ?_
                  refine And.intro (rfl) ?_
                  refine And.intro (⟨rfl, by first | omega | (simp only [mS_iff, eq_self, Int.reduceEq, true_and, and_true, false_and, and_false, and_self, ↓reduceIte]; omega) | (simp only [mS_iff, eq_self, Int.reduceEq, true_and, and_true, false_and, and_false, and_self, ↓reduceIte] at *; omega)⟩) ?_
                  refine And.intro (rfl) ?_
                  refine And.intro (rfl) ?_
                  refine And.intro (⟨rfl, by first | omega | (simp only [mS_iff, eq_self, Int.reduceEq, true_and, and_true, false_and, and_false, and_self, ↓reduceIte]; omega) | (simp only [mS_iff, eq_self, Int.reduceEq, true_and, and_true, false_and, and_false, and_self, ↓reduceIte] at *; omega)⟩) ?_
                  refine And.intro (rfl) ?_
                  refine And.intro (show -2147483648 ≤ (m 41 28) + 1 ∧ (m 41 28) + 1 ≤ 2147483647 by first | omega | (simp only [mS_iff, eq_self, Int.reduceEq, true_and, and_true, false_and, and_false, and_self, ↓reduceIte]; omega) | (simp only [mS_iff, eq_self, Int.reduceEq, true_and, and_true, false_and, and_false, and_self, ↓reduceIte] at *; omega)) ?_
                  refine And.intro (rfl) ?_
                  refine And.intro (rfl) ?_
                  refine And.intro (show -2147483648 ≤ ((m 41 28) + 1) - 1 ∧ ((m 41 28) + 1) - 1 ≤ 2147483647 by first | omega | (simp only [mS_iff, eq_self, Int.reduceEq, true_and, and_true, false_and, and_false, and_self, ↓reduceIte]; omega) | (simp only [mS_iff, eq_self, Int.reduceEq, true_and, and_true, false_and, and_false, and_self, ↓reduceIte] at *; omega)) ?_
                  have ev0 : c_per S w f mo b own = (S 0 4, sPn S w f mo b own) := by
                    unfold c_per
                    repeat' split
                    all_goals first | rfl | (exfalso; omega) | (refine Prod.ext ?_ ?_ <;> first | rfl | (show _ = _; omega))
                  rw [ev0] at hQ
                  dsimp only at hQ
                  have ok : okPn S w f mo b own := ⟨hw, by omega, by omega, dy, by omega, by omega, by omega⟩
                  show Q (.inl (some (aI (((m 41 28) + 1) - 1)))) ((mS (mS (mS (mS (mS (mS (mS m 56 (m 41 28) w) 57 (m 41 28) f) 58 (m 41 28) mo) 59 (m 41 28) b) 60 (m 41 28) 10000) 61 (m 41 28) own) 41 28 ((m 41 28) + 1)))
                  rw [show (((m 41 28) + 1) - 1) = S 0 4 by omega]
                  refine hQ _ ⟨h.pn ok (fun x j u v => by rw [mS_iff, if_neg (by omega), mS_iff, if_neg (by omega), mS_iff, if_neg (by omega), mS_iff, if_neg (by omega), mS_iff, if_neg (by omega), mS_iff, if_neg (by omega), mS_iff, if_neg (by omega)]) (by rw [mS_iff, if_pos ⟨rfl, rfl⟩]; omega) ?_, hr.up (by rw [mS_iff, if_neg (by omega), mS_iff, if_neg (by omega), mS_iff, if_neg (by omega), mS_iff, if_neg (by omega), mS_iff, if_neg (by omega), mS_iff, if_neg (by omega), mS_iff, if_neg (by omega)])⟩ (fun x j u => by rw [mS_iff, if_neg (by omega), mS_iff, if_neg (by omega), mS_iff, if_neg (by omega), mS_iff, if_neg (by omega), mS_iff, if_neg (by omega), mS_iff, if_neg (by omega), mS_iff, if_neg (by omega)])
                  rw [← q28]
                  simp only [mS_iff, eq_self, Int.reduceEq, true_and, and_true, false_and, and_false, and_self, ↓reduceIte]
                  done
                · have ev0 : c_per S w f mo b own = ((-5), S) := by
                    unfold c_per
                    repeat' split
                    all_goals first | rfl | (exfalso; omega) | (refine Prod.ext ?_ ?_ <;> first | rfl | (show _ = _; omega))
                  rw [ev0] at hQ
                  dsimp only at hQ
                  exact hQ m (hz0.fr fr) fr.1
              · refine And.intro (rfl) ?_
                refine And.intro (⟨rfl, by omega⟩) ?_
                refine And.intro (fun h22 => ?_) (fun h22 => ?_)
                · have ev0 : c_per S w f mo b own = ((-4), S) := by
                    unfold c_per
                    repeat' split
                    all_goals first | rfl | (exfalso; omega) | (refine Prod.ext ?_ ?_ <;> first | rfl | (show _ = _; omega))
                  rw [ev0] at hQ
                  dsimp only at hQ
                  exact hQ m (hz0.fr fr) fr.1
                · refine And.intro (rfl) ?_
                  refine And.intro (⟨rfl, by omega⟩) ?_
                  refine And.intro (fun h23 => ?_) (fun h23 => ?_)
                  · refine And.intro (rfl) ?_
                    refine And.intro (fun h24 => ?_) (fun h24 => ?_)
                    · refine And.intro (rfl) ?_
                      refine And.intro (rfl) ?_
                      refine And.intro (⟨rfl, by first | omega | (simp only [mS_iff, eq_self, Int.reduceEq, true_and, and_true, false_and, and_false, and_self, ↓reduceIte]; omega) | (simp only [mS_iff, eq_self, Int.reduceEq, true_and, and_true, false_and, and_false, and_self, ↓reduceIte] at *; omega), by first | omega | (simp only [mS_iff, eq_self, Int.reduceEq, true_and, and_true, false_and, and_false, and_self, ↓reduceIte]; omega) | (simp only [mS_iff, eq_self, Int.reduceEq, true_and, and_true, false_and, and_false, and_self, ↓reduceIte] at *; omega)⟩) ?_
                      refine And.intro (rfl) ?_
                      refine And.intro (rfl) ?_
                      refine And.intro (⟨rfl, by first | omega | (simp only [mS_iff, eq_self, Int.reduceEq, true_and, and_true, false_and, and_false, and_self, ↓reduceIte]; omega) | (simp only [mS_iff, eq_self, Int.reduceEq, true_and, and_true, false_and, and_false, and_self, ↓reduceIte] at *; omega)⟩) ?_
                      refine And.intro (rfl) ?_
                      refine And.intro (rfl) ?_
                      refine And.intro (⟨rfl, by first | omega | (simp only [mS_iff, eq_self, Int.reduceEq, true_and, and_true, false_and, and_false, and_self, ↓reduceIte]; omega) | (simp only [mS_iff, eq_self, Int.reduceEq, true_and, and_true, false_and, and_false, and_self, ↓reduceIte] at *; omega)⟩) ?_
                      refine And.intro (rfl) ?_
                      refine And.intro (rfl) ?_
                      refine And.intro (⟨rfl, by first | omega | (simp only [mS_iff, eq_self, Int.reduceEq, true_and, and_true, false_and, and_false, and_self, ↓reduceIte]; omega) | (simp only [mS_iff, eq_self, Int.reduceEq, true_and, and_true, false_and, and_false, and_self, ↓reduceIte] at *; omega)⟩) ?_
                      refine And.intro (rfl) ?_
                      refine And.intro (rfl) ?_
                      refine And.intro (⟨rfl, by first | omega | (simp only [mS_iff, eq_self, Int.reduceEq, true_and, and_true, false_and, and_false, and_self, ↓reduceIte]; omega) | (simp only [mS_iff, eq_self, Int.reduceEq, true_and, and_true, false_and, and_false, and_self, ↓reduceIte] at *; omega)⟩) ?_
                      refine And.intro (rfl) ?_
                      refine And.intro (rfl) ?_
                      refine And.intro (⟨rfl, by first | omega | (simp only [mS_iff, eq_self, Int.reduceEq, true_and, and_true, false_and, and_false, and_self, ↓reduceIte]; omega) | (simp only [mS_iff, eq_self, Int.reduceEq, true_and, and_true, false_and, and_false, and_self, ↓reduceIte] at *; omega)⟩) ?_
                      refine And.intro (rfl) ?_
                      refine And.intro (show -2147483648 ≤ (m 41 28) + 1 ∧ (m 41 28) + 1 ≤ 2147483647 by first | omega | (simp only [mS_iff, eq_self, Int.reduceEq, true_and, and_true, false_and, and_false, and_self, ↓reduceIte]; omega) | (simp only [mS_iff, eq_self, Int.reduceEq, true_and, and_true, false_and, and_false, and_self, ↓reduceIte] at *; omega)) ?_
                      refine And.intro (rfl) ?_
                      refine And.intro (rfl) ?_
                      refine And.intro (show -2147483648 ≤ ((m 41 28) + 1) - 1 ∧ ((m 41 28) + 1) - 1 ≤ 2147483647 by first | omega | (simp only [mS_iff, eq_self, Int.reduceEq, true_and, and_true, false_and, and_false, and_self, ↓reduceIte]; omega) | (simp only [mS_iff, eq_self, Int.reduceEq, true_and, and_true, false_and, and_false, and_self, ↓reduceIte] at *; omega)) ?_
                      have ev0 : c_per S w f mo b own = (S 0 4, sPn S w f mo b own) := by
                        unfold c_per
                        repeat' split
                        all_goals first | rfl | (exfalso; omega) | (refine Prod.ext ?_ ?_ <;> first | rfl | (show _ = _; omega))
                      rw [ev0] at hQ
                      dsimp only at hQ
                      have ok : okPn S w f mo b own := ⟨hw, by omega, by omega, dy, by omega, by omega, by omega⟩
                      show Q (.inl (some (aI (((m 41 28) + 1) - 1)))) ((mS (mS (mS (mS (mS (mS (mS m 56 (m 41 28) w) 57 (m 41 28) f) 58 (m 41 28) mo) 59 (m 41 28) b) 60 (m 41 28) 10000) 61 (m 41 28) own) 41 28 ((m 41 28) + 1)))
                      rw [show (((m 41 28) + 1) - 1) = S 0 4 by omega]
                      refine hQ _ ⟨h.pn ok (fun x j u v => by rw [mS_iff, if_neg (by omega), mS_iff, if_neg (by omega), mS_iff, if_neg (by omega), mS_iff, if_neg (by omega), mS_iff, if_neg (by omega), mS_iff, if_neg (by omega), mS_iff, if_neg (by omega)]) (by rw [mS_iff, if_pos ⟨rfl, rfl⟩]; omega) ?_, hr.up (by rw [mS_iff, if_neg (by omega), mS_iff, if_neg (by omega), mS_iff, if_neg (by omega), mS_iff, if_neg (by omega), mS_iff, if_neg (by omega), mS_iff, if_neg (by omega), mS_iff, if_neg (by omega)])⟩ (fun x j u => by rw [mS_iff, if_neg (by omega), mS_iff, if_neg (by omega), mS_iff, if_neg (by omega), mS_iff, if_neg (by omega), mS_iff, if_neg (by omega), mS_iff, if_neg (by omega), mS_iff, if_neg (by omega)])
                      rw [← q28]
                      simp only [mS_iff, eq_self, Int.reduceEq, true_and, and_true, false_and, and_false, and_self, ↓reduceIte]
                      done
                    · have ev0 : c_per S w f mo b own = ((-5), S) := by
                        unfold c_per
                        repeat' split
                        all_goals first | rfl | (exfalso; omega) | (refine Prod.ext ?_ ?_ <;> first | rfl | (show _ = _; omega))
                      rw [ev0] at hQ
                      dsimp only at hQ
                      exact hQ m (hz0.fr fr) fr.1
                  · have ev0 : c_per S w f mo b own = ((-4), S) := by
                      unfold c_per
                      repeat' split
                      all_goals first | rfl | (exfalso; omega) | (refine Prod.ext ?_ ?_ <;> first | rfl | (show _ = _; omega))
                    rw [ev0] at hQ
                    dsimp only at hQ
                    exact hQ m (hz0.fr fr) fr.1
            · refine And.intro (rfl) ?_
              refine And.intro (⟨rfl, by omega⟩) ?_
              refine And.intro (fun h25 => ?_) (fun h25 => ?_)
              · have ev0 : c_per S w f mo b own = ((-4), S) := by
                  unfold c_per
                  repeat' split
                  all_goals first | rfl | (exfalso; omega) | (refine Prod.ext ?_ ?_ <;> first | rfl | (show _ = _; omega))
                rw [ev0] at hQ
                dsimp only at hQ
                exact hQ m (hz0.fr fr) fr.1
              · refine And.intro (rfl) ?_
                refine And.intro (⟨rfl, by omega⟩) ?_
                refine And.intro (fun h26 => ?_) (fun h26 => ?_)
                · have ev0 : c_per S w f mo b own = ((-4), S) := by
                    unfold c_per
                    repeat' split
                    all_goals first | rfl | (exfalso; omega) | (refine Prod.ext ?_ ?_ <;> first | rfl | (show _ = _; omega))
                  rw [ev0] at hQ
                  dsimp only at hQ
                  exact hQ m (hz0.fr fr) fr.1
                · refine And.intro (fun h27 => ?_) (fun h27 => ?_)
                  · refine And.intro (rfl) ?_
                    refine And.intro (fun h28 => ?_) (fun h28 => ?_)
                    · refine And.intro (rfl) ?_
                      refine And.intro (rfl) ?_
                      refine And.intro (⟨rfl, by first | omega | (simp only [mS_iff, eq_self, Int.reduceEq, true_and, and_true, false_and, and_false, and_self, ↓reduceIte]; omega) | (simp only [mS_iff, eq_self, Int.reduceEq, true_and, and_true, false_and, and_false, and_self, ↓reduceIte] at *; omega), by first | omega | (simp only [mS_iff, eq_self, Int.reduceEq, true_and, and_true, false_and, and_false, and_self, ↓reduceIte]; omega) | (simp only [mS_iff, eq_self, Int.reduceEq, true_and, and_true, false_and, and_false, and_self, ↓reduceIte] at *; omega)⟩) ?_
                      refine And.intro (rfl) ?_
                      refine And.intro (rfl) ?_
                      refine And.intro (⟨rfl, by first | omega | (simp only [mS_iff, eq_self, Int.reduceEq, true_and, and_true, false_and, and_false, and_self, ↓reduceIte]; omega) | (simp only [mS_iff, eq_self, Int.reduceEq, true_and, and_true, false_and, and_false, and_self, ↓reduceIte] at *; omega)⟩) ?_
                      refine And.intro (rfl) ?_
                      refine And.intro (rfl) ?_
                      refine And.intro (⟨rfl, by first | omega | (simp only [mS_iff, eq_self, Int.reduceEq, true_and, and_true, false_and, and_false, and_self, ↓reduceIte]; omega) | (simp only [mS_iff, eq_self, Int.reduceEq, true_and, and_true, false_and, and_false, and_self, ↓reduceIte] at *; omega)⟩) ?_
                      refine And.intro (rfl) ?_
                      refine And.intro (rfl) ?_
                      refine And.intro (⟨rfl, by first | omega | (simp only [mS_iff, eq_self, Int.reduceEq, true_and, and_true, false_and, and_false, and_self, ↓reduceIte]; omega) | (simp only [mS_iff, eq_self, Int.reduceEq, true_and, and_true, false_and, and_false, and_self, ↓reduceIte] at *; omega)⟩) ?_
                      refine And.intro (rfl) ?_
                      refine And.intro (rfl) ?_
                      refine And.intro (⟨rfl, by first | omega | (simp only [mS_iff, eq_self, Int.reduceEq, true_and, and_true, false_and, and_false, and_self, ↓reduceIte]; omega) | (simp only [mS_iff, eq_self, Int.reduceEq, true_and, and_true, false_and, and_false, and_self, ↓reduceIte] at *; omega)⟩) ?_
                      refine And.intro (rfl) ?_
                      refine And.intro (rfl) ?_
                      refine And.intro (⟨rfl, by first | omega | (simp only [mS_iff, eq_self, Int.reduceEq, true_and, and_true, false_and, and_false, and_self, ↓reduceIte]; omega) | (simp only [mS_iff, eq_self, Int.reduceEq, true_and, and_true, false_and, and_false, and_self, ↓reduceIte] at *; omega)⟩) ?_
                      refine And.intro (rfl) ?_
                      refine And.intro (show -2147483648 ≤ (m 41 28) + 1 ∧ (m 41 28) + 1 ≤ 2147483647 by first | omega | (simp only [mS_iff, eq_self, Int.reduceEq, true_and, and_true, false_and, and_false, and_self, ↓reduceIte]; omega) | (simp only [mS_iff, eq_self, Int.reduceEq, true_and, and_true, false_and, and_false, and_self, ↓reduceIte] at *; omega)) ?_
                      refine And.intro (rfl) ?_
                      refine And.intro (rfl) ?_
                      refine And.intro (show -2147483648 ≤ ((m 41 28) + 1) - 1 ∧ ((m 41 28) + 1) - 1 ≤ 2147483647 by first | omega | (simp only [mS_iff, eq_self, Int.reduceEq, true_and, and_true, false_and, and_false, and_self, ↓reduceIte]; omega) | (simp only [mS_iff, eq_self, Int.reduceEq, true_and, and_true, false_and, and_false, and_self, ↓reduceIte] at *; omega)) ?_
                      have ev0 : c_per S w f mo b own = (S 0 4, sPn S w f mo b own) := by
                        unfold c_per
                        repeat' split
                        all_goals first | rfl | (exfalso; omega) | (refine Prod.ext ?_ ?_ <;> first | rfl | (show _ = _; omega))
                      rw [ev0] at hQ
                      dsimp only at hQ
                      have ok : okPn S w f mo b own := ⟨hw, by omega, by omega, dy, by omega, by omega, by omega⟩
                      show Q (.inl (some (aI (((m 41 28) + 1) - 1)))) ((mS (mS (mS (mS (mS (mS (mS m 56 (m 41 28) w) 57 (m 41 28) f) 58 (m 41 28) mo) 59 (m 41 28) b) 60 (m 41 28) 10000) 61 (m 41 28) own) 41 28 ((m 41 28) + 1)))
                      rw [show (((m 41 28) + 1) - 1) = S 0 4 by omega]
                      refine hQ _ ⟨h.pn ok (fun x j u v => by rw [mS_iff, if_neg (by omega), mS_iff, if_neg (by omega), mS_iff, if_neg (by omega), mS_iff, if_neg (by omega), mS_iff, if_neg (by omega), mS_iff, if_neg (by omega), mS_iff, if_neg (by omega)]) (by rw [mS_iff, if_pos ⟨rfl, rfl⟩]; omega) ?_, hr.up (by rw [mS_iff, if_neg (by omega), mS_iff, if_neg (by omega), mS_iff, if_neg (by omega), mS_iff, if_neg (by omega), mS_iff, if_neg (by omega), mS_iff, if_neg (by omega), mS_iff, if_neg (by omega)])⟩ (fun x j u => by rw [mS_iff, if_neg (by omega), mS_iff, if_neg (by omega), mS_iff, if_neg (by omega), mS_iff, if_neg (by omega), mS_iff, if_neg (by omega), mS_iff, if_neg (by omega), mS_iff, if_neg (by omega)])
                      rw [← q28]
                      simp only [mS_iff, eq_self, Int.reduceEq, true_and, and_true, false_and, and_false, and_self, ↓reduceIte]
                      done
                    · have ev0 : c_per S w f mo b own = ((-5), S) := by
                        unfold c_per
                        repeat' split
                        all_goals first | rfl | (exfalso; omega) | (refine Prod.ext ?_ ?_ <;> first | rfl | (show _ = _; omega))
                      rw [ev0] at hQ
                      dsimp only at hQ
                      exact hQ m (hz0.fr fr) fr.1
                  · refine And.intro (rfl) ?_
                    refine And.intro (⟨rfl, by omega⟩) ?_
                    refine And.intro (fun h29 => ?_) (fun h29 => ?_)
                    · have ev0 : c_per S w f mo b own = ((-4), S) := by
                        unfold c_per
                        repeat' split
                        all_goals first | rfl | (exfalso; omega) | (refine Prod.ext ?_ ?_ <;> first | rfl | (show _ = _; omega))
                      rw [ev0] at hQ
                      dsimp only at hQ
                      exact hQ m (hz0.fr fr) fr.1
                    · refine And.intro (rfl) ?_
                      refine And.intro (⟨rfl, by omega⟩) ?_
                      refine And.intro (fun h30 => ?_) (fun h30 => ?_)
                      · refine And.intro (rfl) ?_
                        refine And.intro (fun h31 => ?_) (fun h31 => ?_)
                        · refine And.intro (rfl) ?_
                          refine And.intro (rfl) ?_
                          refine And.intro (⟨rfl, by first | omega | (simp only [mS_iff, eq_self, Int.reduceEq, true_and, and_true, false_and, and_false, and_self, ↓reduceIte]; omega) | (simp only [mS_iff, eq_self, Int.reduceEq, true_and, and_true, false_and, and_false, and_self, ↓reduceIte] at *; omega), by first | omega | (simp only [mS_iff, eq_self, Int.reduceEq, true_and, and_true, false_and, and_false, and_self, ↓reduceIte]; omega) | (simp only [mS_iff, eq_self, Int.reduceEq, true_and, and_true, false_and, and_false, and_self, ↓reduceIte] at *; omega)⟩) ?_
                          refine And.intro (rfl) ?_
                          refine And.intro (rfl) ?_
                          refine And.intro (⟨rfl, by first | omega | (simp only [mS_iff, eq_self, Int.reduceEq, true_and, and_true, false_and, and_false, and_self, ↓reduceIte]; omega) | (simp only [mS_iff, eq_self, Int.reduceEq, true_and, and_true, false_and, and_false, and_self, ↓reduceIte] at *; omega)⟩) ?_
                          refine And.intro (rfl) ?_
                          refine And.intro (rfl) ?_
                          refine And.intro (⟨rfl, by first | omega | (simp only [mS_iff, eq_self, Int.reduceEq, true_and, and_true, false_and, and_false, and_self, ↓reduceIte]; omega) | (simp only [mS_iff, eq_self, Int.reduceEq, true_and, and_true, false_and, and_false, and_self, ↓reduceIte] at *; omega)⟩) ?_
                          refine And.intro (rfl) ?_
                          refine And.intro (rfl) ?_
                          refine And.intro (⟨rfl, by first | omega | (simp only [mS_iff, eq_self, Int.reduceEq, true_and, and_true, false_and, and_false, and_self, ↓reduceIte]; omega) | (simp only [mS_iff, eq_self, Int.reduceEq, true_and, and_true, false_and, and_false, and_self, ↓reduceIte] at *; omega)⟩) ?_
                          refine And.intro (rfl) ?_
                          refine And.intro (rfl) ?_
                          refine And.intro (⟨rfl, by first | omega | (simp only [mS_iff, eq_self, Int.reduceEq, true_and, and_true, false_and, and_false, and_self, ↓reduceIte]; omega) | (simp only [mS_iff, eq_self, Int.reduceEq, true_and, and_true, false_and, and_false, and_self, ↓reduceIte] at *; omega)⟩) ?_
                          refine And.intro (rfl) ?_
                          refine And.intro (rfl) ?_
                          refine And.intro (⟨rfl, by first | omega | (simp only [mS_iff, eq_self, Int.reduceEq, true_and, and_true, false_and, and_false, and_self, ↓reduceIte]; omega) | (simp only [mS_iff, eq_self, Int.reduceEq, true_and, and_true, false_and, and_false, and_self, ↓reduceIte] at *; omega)⟩) ?_
                          refine And.intro (rfl) ?_
                          refine And.intro (show -2147483648 ≤ (m 41 28) + 1 ∧ (m 41 28) + 1 ≤ 2147483647 by first | omega | (simp only [mS_iff, eq_self, Int.reduceEq, true_and, and_true, false_and, and_false, and_self, ↓reduceIte]; omega) | (simp only [mS_iff, eq_self, Int.reduceEq, true_and, and_true, false_and, and_false, and_self, ↓reduceIte] at *; omega)) ?_
                          refine And.intro (rfl) ?_
                          refine And.intro (rfl) ?_
                          refine And.intro (show -2147483648 ≤ ((m 41 28) + 1) - 1 ∧ ((m 41 28) + 1) - 1 ≤ 2147483647 by first | omega | (simp only [mS_iff, eq_self, Int.reduceEq, true_and, and_true, false_and, and_false, and_self, ↓reduceIte]; omega) | (simp only [mS_iff, eq_self, Int.reduceEq, true_and, and_true, false_and, and_false, and_self, ↓reduceIte] at *; omega)) ?_
                          have ev0 : c_per S w f mo b own = (S 0 4, sPn S w f mo b own) := by
                            unfold c_per
                            repeat' split
                            all_goals first | rfl | (exfalso; omega) | (refine Prod.ext ?_ ?_ <;> first | rfl | (show _ = _; omega))
                          rw [ev0] at hQ
                          dsimp only at hQ
                          have ok : okPn S w f mo b own := ⟨hw, by omega, by omega, dy, by omega, by omega, by omega⟩
                          show Q (.inl (some (aI (((m 41 28) + 1) - 1)))) ((mS (mS (mS (mS (mS (mS (mS m 56 (m 41 28) w) 57 (m 41 28) f) 58 (m 41 28) mo) 59 (m 41 28) b) 60 (m 41 28) 10000) 61 (m 41 28) own) 41 28 ((m 41 28) + 1)))
                          rw [show (((m 41 28) + 1) - 1) = S 0 4 by omega]
                          refine hQ _ ⟨h.pn ok (fun x j u v => by rw [mS_iff, if_neg (by omega), mS_iff, if_neg (by omega), mS_iff, if_neg (by omega), mS_iff, if_neg (by omega), mS_iff, if_neg (by omega), mS_iff, if_neg (by omega), mS_iff, if_neg (by omega)]) (by rw [mS_iff, if_pos ⟨rfl, rfl⟩]; omega) ?_, hr.up (by rw [mS_iff, if_neg (by omega), mS_iff, if_neg (by omega), mS_iff, if_neg (by omega), mS_iff, if_neg (by omega), mS_iff, if_neg (by omega), mS_iff, if_neg (by omega), mS_iff, if_neg (by omega)])⟩ (fun x j u => by rw [mS_iff, if_neg (by omega), mS_iff, if_neg (by omega), mS_iff, if_neg (by omega), mS_iff, if_neg (by omega), mS_iff, if_neg (by omega), mS_iff, if_neg (by omega), mS_iff, if_neg (by omega)])
                          rw [← q28]
                          simp only [mS_iff, eq_self, Int.reduceEq, true_and, and_true, false_and, and_false, and_self, ↓reduceIte]
                          done
                        · have ev0 : c_per S w f mo b own = ((-5), S) := by
                            unfold c_per
                            repeat' split
                            all_goals first | rfl | (exfalso; omega) | (refine Prod.ext ?_ ?_ <;> first | rfl | (show _ = _; omega))
                          rw [ev0] at hQ
                          dsimp only at hQ
                          exact hQ m (hz0.fr fr) fr.1
                      · have ev0 : c_per S w f mo b own = ((-4), S) := by
                          unfold c_per
                          repeat' split
                          all_goals first | rfl | (exfalso; omega) | (refine Prod.ext ?_ ?_ <;> first | rfl | (show _ = _; omega))
                        rw [ev0] at hQ
                        dsimp only at hQ
                        exact hQ m (hz0.fr fr) fr.1
          · have dn := h18
            refine And.intro (fun h => absurd h (by decide)) (fun _ => ?_)
            have ev0 : c_per S w f mo b own = ((-3), S) := by
              unfold c_per
              repeat' split
              all_goals first | rfl | (exfalso; omega) | (refine Prod.ext ?_ ?_ <;> first | rfl | (show _ = _; omega))
            rw [ev0] at hQ
            dsimp only at hQ
            exact hQ m (hz0.fr fr) fr.1
        · refine And.intro (fun h => absurd h (by decide)) (fun _ => ?_)
          have ev0 : c_per S w f mo b own = ((-2), S) := by
            unfold c_per
            repeat' split
            all_goals first | rfl | (exfalso; omega) | (refine Prod.ext ?_ ?_ <;> first | rfl | (show _ = _; omega))
          rw [ev0] at hQ
          dsimp only at hQ
          exact hQ m (hz0.fr fr) fr.1
    · refine And.intro (rfl) ?_
      refine ct_253 (by omega) h (fun tmo => ?_) (fun tmo => ?_)
      · obtain ⟨xmo1, xmo2, xmo3, xmo4, xmo5, xmo6⟩ := h.2.2.2.1.2.2 mo tmo.1 tmo.2
        have ymo := (h.2.2.2.1.1.2 mo tmo.1 tmo.2).1
        refine And.intro (fun h => absurd h (by decide)) (fun _ => ?_)
        refine And.intro (fun h32 => ?_) (fun h32 => ?_)
        · refine ct_254 (by omega) (fun h33 => ?_) (fun h33 => ?_)
          · have dy := h33
            refine And.intro (fun _ => ?_) (fun h => absurd h (by decide))
            refine And.intro (fun h34 => ?_) (fun h34 => ?_)
            · refine And.intro (fun h35 => ?_) (fun h35 => ?_)
              · refine And.intro (rfl) ?_
                refine And.intro (fun h36 => ?_) (fun h36 => ?_)
                · refine And.intro (rfl) ?_
                  refine And.intro (rfl) ?_
                  refine And.intro (⟨rfl, by first | omega | (simp only [mS_iff, eq_self, Int.reduceEq, true_and, and_true, false_and, and_false, and_self, ↓reduceIte]; omega) | (simp only [mS_iff, eq_self, Int.reduceEq, true_and, and_true, false_and, and_false, and_self, ↓reduceIte] at *; omega), by first | omega | (simp only [mS_iff, eq_self, Int.reduceEq, true_and, and_true, false_and, and_false, and_self, ↓reduceIte]; omega) | (simp only [mS_iff, eq_self, Int.reduceEq, true_and, and_true, false_and, and_false, and_self, ↓reduceIte] at *; omega)⟩) ?_
                  refine And.intro (rfl) ?_
                  refine And.intro (rfl) ?_
                  refine And.intro (⟨rfl, by first | omega | (simp only [mS_iff, eq_self, Int.reduceEq, true_and, and_true, false_and, and_false, and_self, ↓reduceIte]; omega) | (simp only [mS_iff, eq_self, Int.reduceEq, true_and, and_true, false_and, and_false, and_self, ↓reduceIte] at *; omega)⟩) ?_
                  refine And.intro (rfl) ?_
                  refine And.intro (rfl) ?_
                  refine And.intro (⟨rfl, by first | omega | (simp only [mS_iff, eq_self, Int.reduceEq, true_and, and_true, false_and, and_false, and_self, ↓reduceIte]; omega) | (simp only [mS_iff, eq_self, Int.reduceEq, true_and, and_true, false_and, and_false, and_self, ↓reduceIte] at *; omega)⟩) ?_
                  refine And.intro (rfl) ?_
                  refine And.intro (rfl) ?_
                  refine And.intro (⟨rfl, by first | omega | (simp only [mS_iff, eq_self, Int.reduceEq, true_and, and_true, false_and, and_false, and_self, ↓reduceIte]; omega) | (simp only [mS_iff, eq_self, Int.reduceEq, true_and, and_true, false_and, and_false, and_self, ↓reduceIte] at *; omega)⟩) ?_
                  refine And.intro (rfl) ?_
                  refine And.intro (rfl) ?_
                  refine And.intro (⟨rfl, by first | omega | (simp only [mS_iff, eq_self, Int.reduceEq, true_and, and_true, false_and, and_false, and_self, ↓reduceIte]; omega) | (simp only [mS_iff, eq_self, Int.reduceEq, true_and, and_true, false_and, and_false, and_self, ↓reduceIte] at *; omega)⟩) ?_
                  refine And.intro (rfl) ?_
                  refine And.intro (rfl) ?_
                  refine And.intro (⟨rfl, by first | omega | (simp only [mS_iff, eq_self, Int.reduceEq, true_and, and_true, false_and, and_false, and_self, ↓reduceIte]; omega) | (simp only [mS_iff, eq_self, Int.reduceEq, true_and, and_true, false_and, and_false, and_self, ↓reduceIte] at *; omega)⟩) ?_
                  refine And.intro (rfl) ?_
                  refine And.intro (show -2147483648 ≤ (m 41 28) + 1 ∧ (m 41 28) + 1 ≤ 2147483647 by first | omega | (simp only [mS_iff, eq_self, Int.reduceEq, true_and, and_true, false_and, and_false, and_self, ↓reduceIte]; omega) | (simp only [mS_iff, eq_self, Int.reduceEq, true_and, and_true, false_and, and_false, and_self, ↓reduceIte] at *; omega)) ?_
                  refine And.intro (rfl) ?_
                  refine And.intro (rfl) ?_
                  refine And.intro (show -2147483648 ≤ ((m 41 28) + 1) - 1 ∧ ((m 41 28) + 1) - 1 ≤ 2147483647 by first | omega | (simp only [mS_iff, eq_self, Int.reduceEq, true_and, and_true, false_and, and_false, and_self, ↓reduceIte]; omega) | (simp only [mS_iff, eq_self, Int.reduceEq, true_and, and_true, false_and, and_false, and_self, ↓reduceIte] at *; omega)) ?_
                  have ev0 : c_per S w f mo b own = (S 0 4, sPn S w f mo b own) := by
                    unfold c_per
                    repeat' split
                    all_goals first | rfl | (exfalso; omega) | (refine Prod.ext ?_ ?_ <;> first | rfl | (show _ = _; omega))
                  rw [ev0] at hQ
                  dsimp only at hQ
                  have ok : okPn S w f mo b own := ⟨hw, by omega, by omega, dy, by omega, by omega, by omega⟩
                  show Q (.inl (some (aI (((m 41 28) + 1) - 1)))) ((mS (mS (mS (mS (mS (mS (mS m 56 (m 41 28) w) 57 (m 41 28) f) 58 (m 41 28) mo) 59 (m 41 28) b) 60 (m 41 28) 10000) 61 (m 41 28) own) 41 28 ((m 41 28) + 1)))
                  rw [show (((m 41 28) + 1) - 1) = S 0 4 by omega]
                  refine hQ _ ⟨h.pn ok (fun x j u v => by rw [mS_iff, if_neg (by omega), mS_iff, if_neg (by omega), mS_iff, if_neg (by omega), mS_iff, if_neg (by omega), mS_iff, if_neg (by omega), mS_iff, if_neg (by omega), mS_iff, if_neg (by omega)]) (by rw [mS_iff, if_pos ⟨rfl, rfl⟩]; omega) ?_, hr.up (by rw [mS_iff, if_neg (by omega), mS_iff, if_neg (by omega), mS_iff, if_neg (by omega), mS_iff, if_neg (by omega), mS_iff, if_neg (by omega), mS_iff, if_neg (by omega), mS_iff, if_neg (by omega)])⟩ (fun x j u => by rw [mS_iff, if_neg (by omega), mS_iff, if_neg (by omega), mS_iff, if_neg (by omega), mS_iff, if_neg (by omega), mS_iff, if_neg (by omega), mS_iff, if_neg (by omega), mS_iff, if_neg (by omega)])
                  rw [← q28]
                  simp only [mS_iff, eq_self, Int.reduceEq, true_and, and_true, false_and, and_false, and_self, ↓reduceIte]
                  done
                · have ev0 : c_per S w f mo b own = ((-5), S) := by
                    unfold c_per
                    repeat' split
                    all_goals first | rfl | (exfalso; omega) | (refine Prod.ext ?_ ?_ <;> first | rfl | (show _ = _; omega))
                  rw [ev0] at hQ
                  dsimp only at hQ
                  exact hQ m (hz0.fr fr) fr.1
              · refine And.intro (rfl) ?_
                refine And.intro (⟨rfl, by omega⟩) ?_
                refine And.intro (fun h37 => ?_) (fun h37 => ?_)
                · have ev0 : c_per S w f mo b own = ((-4), S) := by
                    unfold c_per
                    repeat' split
                    all_goals first | rfl | (exfalso; omega) | (refine Prod.ext ?_ ?_ <;> first | rfl | (show _ = _; omega))
                  rw [ev0] at hQ
                  dsimp only at hQ
                  exact hQ m (hz0.fr fr) fr.1
                · refine And.intro (rfl) ?_
                  refine And.intro (⟨rfl, by omega⟩) ?_
                  refine And.intro (fun h38 => ?_) (fun h38 => ?_)
                  · refine And.intro (rfl) ?_
                    refine And.intro (fun h39 => ?_) (fun h39 => ?_)
                    · refine And.intro (rfl) ?_
                      refine And.intro (rfl) ?_
                      refine And.intro (⟨rfl, by first | omega | (simp only [mS_iff, eq_self, Int.reduceEq, true_and, and_true, false_and, and_false, and_self, ↓reduceIte]; omega) | (simp only [mS_iff, eq_self, Int.reduceEq, true_and, and_true, false_and, and_false, and_self, ↓reduceIte] at *; omega), by first | omega | (simp only [mS_iff, eq_self, Int.reduceEq, true_and, and_true, false_and, and_false, and_self, ↓reduceIte]; omega) | (simp only [mS_iff, eq_self, Int.reduceEq, true_and, and_true, false_and, and_false, and_self, ↓reduceIte] at *; omega)⟩) ?_
                      refine And.intro (rfl) ?_
                      refine And.intro (rfl) ?_
                      refine And.intro (⟨rfl, by first | omega | (simp only [mS_iff, eq_self, Int.reduceEq, true_and, and_true, false_and, and_false, and_self, ↓reduceIte]; omega) | (simp only [mS_iff, eq_self, Int.reduceEq, true_and, and_true, false_and, and_false, and_self, ↓reduceIte] at *; omega)⟩) ?_
                      refine And.intro (rfl) ?_
                      refine And.intro (rfl) ?_
                      refine And.intro (⟨rfl, by first | omega | (simp only [mS_iff, eq_self, Int.reduceEq, true_and, and_true, false_and, and_false, and_self, ↓reduceIte]; omega) | (simp only [mS_iff, eq_self, Int.reduceEq, true_and, and_true, false_and, and_false, and_self, ↓reduceIte] at *; omega)⟩) ?_
                      refine And.intro (rfl) ?_
                      refine And.intro (rfl) ?_
                      refine And.intro (⟨rfl, by first | omega | (simp only [mS_iff, eq_self, Int.reduceEq, true_and, and_true, false_and, and_false, and_self, ↓reduceIte]; omega) | (simp only [mS_iff, eq_self, Int.reduceEq, true_and, and_true, false_and, and_false, and_self, ↓reduceIte] at *; omega)⟩) ?_
                      refine And.intro (rfl) ?_
                      refine And.intro (rfl) ?_
                      refine And.intro (⟨rfl, by first | omega | (simp only [mS_iff, eq_self, Int.reduceEq, true_and, and_true, false_and, and_false, and_self, ↓reduceIte]; omega) | (simp only [mS_iff, eq_self, Int.reduceEq, true_and, and_true, false_and, and_false, and_self, ↓reduceIte] at *; omega)⟩) ?_
                      refine And.intro (rfl) ?_
                      refine And.intro (rfl) ?_
                      refine And.intro (⟨rfl, by first | omega | (simp only [mS_iff, eq_self, Int.reduceEq, true_and, and_true, false_and, and_false, and_self, ↓reduceIte]; omega) | (simp only [mS_iff, eq_self, Int.reduceEq, true_and, and_true, false_and, and_false, and_self, ↓reduceIte] at *; omega)⟩) ?_
                      refine And.intro (rfl) ?_
                      refine And.intro (show -2147483648 ≤ (m 41 28) + 1 ∧ (m 41 28) + 1 ≤ 2147483647 by first | omega | (simp only [mS_iff, eq_self, Int.reduceEq, true_and, and_true, false_and, and_false, and_self, ↓reduceIte]; omega) | (simp only [mS_iff, eq_self, Int.reduceEq, true_and, and_true, false_and, and_false, and_self, ↓reduceIte] at *; omega)) ?_
                      refine And.intro (rfl) ?_
                      refine And.intro (rfl) ?_
                      refine And.intro (show -2147483648 ≤ ((m 41 28) + 1) - 1 ∧ ((m 41 28) + 1) - 1 ≤ 2147483647 by first | omega | (simp only [mS_iff, eq_self, Int.reduceEq, true_and, and_true, false_and, and_false, and_self, ↓reduceIte]; omega) | (simp only [mS_iff, eq_self, Int.reduceEq, true_and, and_true, false_and, and_false, and_self, ↓reduceIte] at *; omega)) ?_
                      have ev0 : c_per S w f mo b own = (S 0 4, sPn S w f mo b own) := by
                        unfold c_per
                        repeat' split
                        all_goals first | rfl | (exfalso; omega) | (refine Prod.ext ?_ ?_ <;> first | rfl | (show _ = _; omega))
                      rw [ev0] at hQ
                      dsimp only at hQ
                      have ok : okPn S w f mo b own := ⟨hw, by omega, by omega, dy, by omega, by omega, by omega⟩
                      show Q (.inl (some (aI (((m 41 28) + 1) - 1)))) ((mS (mS (mS (mS (mS (mS (mS m 56 (m 41 28) w) 57 (m 41 28) f) 58 (m 41 28) mo) 59 (m 41 28) b) 60 (m 41 28) 10000) 61 (m 41 28) own) 41 28 ((m 41 28) + 1)))
                      rw [show (((m 41 28) + 1) - 1) = S 0 4 by omega]
                      refine hQ _ ⟨h.pn ok (fun x j u v => by rw [mS_iff, if_neg (by omega), mS_iff, if_neg (by omega), mS_iff, if_neg (by omega), mS_iff, if_neg (by omega), mS_iff, if_neg (by omega), mS_iff, if_neg (by omega), mS_iff, if_neg (by omega)]) (by rw [mS_iff, if_pos ⟨rfl, rfl⟩]; omega) ?_, hr.up (by rw [mS_iff, if_neg (by omega), mS_iff, if_neg (by omega), mS_iff, if_neg (by omega), mS_iff, if_neg (by omega), mS_iff, if_neg (by omega), mS_iff, if_neg (by omega), mS_iff, if_neg (by omega)])⟩ (fun x j u => by rw [mS_iff, if_neg (by omega), mS_iff, if_neg (by omega), mS_iff, if_neg (by omega), mS_iff, if_neg (by omega), mS_iff, if_neg (by omega), mS_iff, if_neg (by omega), mS_iff, if_neg (by omega)])
                      rw [← q28]
                      simp only [mS_iff, eq_self, Int.reduceEq, true_and, and_true, false_and, and_false, and_self, ↓reduceIte]
                      done
                    · have ev0 : c_per S w f mo b own = ((-5), S) := by
                        unfold c_per
                        repeat' split
                        all_goals first | rfl | (exfalso; omega) | (refine Prod.ext ?_ ?_ <;> first | rfl | (show _ = _; omega))
                      rw [ev0] at hQ
                      dsimp only at hQ
                      exact hQ m (hz0.fr fr) fr.1
                  · have ev0 : c_per S w f mo b own = ((-4), S) := by
                      unfold c_per
                      repeat' split
                      all_goals first | rfl | (exfalso; omega) | (refine Prod.ext ?_ ?_ <;> first | rfl | (show _ = _; omega))
                    rw [ev0] at hQ
                    dsimp only at hQ
                    exact hQ m (hz0.fr fr) fr.1
            · refine And.intro (rfl) ?_
              refine And.intro (⟨rfl, by omega⟩) ?_
              refine And.intro (fun h40 => ?_) (fun h40 => ?_)
              · have ev0 : c_per S w f mo b own = ((-4), S) := by
                  unfold c_per
                  repeat' split
                  all_goals first | rfl | (exfalso; omega) | (refine Prod.ext ?_ ?_ <;> first | rfl | (show _ = _; omega))
                rw [ev0] at hQ
                dsimp only at hQ
                exact hQ m (hz0.fr fr) fr.1
              · refine And.intro (rfl) ?_
                refine And.intro (⟨rfl, by omega⟩) ?_
                refine And.intro (fun h41 => ?_) (fun h41 => ?_)
                · have ev0 : c_per S w f mo b own = ((-4), S) := by
                    unfold c_per
                    repeat' split
                    all_goals first | rfl | (exfalso; omega) | (refine Prod.ext ?_ ?_ <;> first | rfl | (show _ = _; omega))
                  rw [ev0] at hQ
                  dsimp only at hQ
                  exact hQ m (hz0.fr fr) fr.1
                · refine And.intro (fun h42 => ?_) (fun h42 => ?_)
                  · refine And.intro (rfl) ?_
                    refine And.intro (fun h43 => ?_) (fun h43 => ?_)
                    · refine And.intro (rfl) ?_
                      refine And.intro (rfl) ?_
                      refine And.intro (⟨rfl, by first | omega | (simp only [mS_iff, eq_self, Int.reduceEq, true_and, and_true, false_and, and_false, and_self, ↓reduceIte]; omega) | (simp only [mS_iff, eq_self, Int.reduceEq, true_and, and_true, false_and, and_false, and_self, ↓reduceIte] at *; omega), by first | omega | (simp only [mS_iff, eq_self, Int.reduceEq, true_and, and_true, false_and, and_false, and_self, ↓reduceIte]; omega) | (simp only [mS_iff, eq_self, Int.reduceEq, true_and, and_true, false_and, and_false, and_self, ↓reduceIte] at *; omega)⟩) ?_
                      refine And.intro (rfl) ?_
                      refine And.intro (rfl) ?_
                      refine And.intro (⟨rfl, by first | omega | (simp only [mS_iff, eq_self, Int.reduceEq, true_and, and_true, false_and, and_false, and_self, ↓reduceIte]; omega) | (simp only [mS_iff, eq_self, Int.reduceEq, true_and, and_true, false_and, and_false, and_self, ↓reduceIte] at *; omega)⟩) ?_
                      refine And.intro (rfl) ?_
                      refine And.intro (rfl) ?_
                      refine And.intro (⟨rfl, by first | omega | (simp only [mS_iff, eq_self, Int.reduceEq, true_and, and_true, false_and, and_false, and_self, ↓reduceIte]; omega) | (simp only [mS_iff, eq_self, Int.reduceEq, true_and, and_true, false_and, and_false, and_self, ↓reduceIte] at *; omega)⟩) ?_
                      refine And.intro (rfl) ?_
                      refine And.intro (rfl) ?_
                      refine And.intro (⟨rfl, by first | omega | (simp only [mS_iff, eq_self, Int.reduceEq, true_and, and_true, false_and, and_false, and_self, ↓reduceIte]; omega) | (simp only [mS_iff, eq_self, Int.reduceEq, true_and, and_true, false_and, and_false, and_self, ↓reduceIte] at *; omega)⟩) ?_
                      refine And.intro (rfl) ?_
                      refine And.intro (rfl) ?_
                      refine And.intro (⟨rfl, by first | omega | (simp only [mS_iff, eq_self, Int.reduceEq, true_and, and_true, false_and, and_false, and_self, ↓reduceIte]; omega) | (simp only [mS_iff, eq_self, Int.reduceEq, true_and, and_true, false_and, and_false, and_self, ↓reduceIte] at *; omega)⟩) ?_
                      refine And.intro (rfl) ?_
                      refine And.intro (rfl) ?_
                      refine And.intro (⟨rfl, by first | omega | (simp only [mS_iff, eq_self, Int.reduceEq, true_and, and_true, false_and, and_false, and_self, ↓reduceIte]; omega) | (simp only [mS_iff, eq_self, Int.reduceEq, true_and, and_true, false_and, and_false, and_self, ↓reduceIte] at *; omega)⟩) ?_
                      refine And.intro (rfl) ?_
                      refine And.intro (show -2147483648 ≤ (m 41 28) + 1 ∧ (m 41 28) + 1 ≤ 2147483647 by first | omega | (simp only [mS_iff, eq_self, Int.reduceEq, true_and, and_true, false_and, and_false, and_self, ↓reduceIte]; omega) | (simp only [mS_iff, eq_self, Int.reduceEq, true_and, and_true, false_and, and_false, and_self, ↓reduceIte] at *; omega)) ?_
                      refine And.intro (rfl) ?_
                      refine And.intro (rfl) ?_
                      refine And.intro (show -2147483648 ≤ ((m 41 28) + 1) - 1 ∧ ((m 41 28) + 1) - 1 ≤ 2147483647 by first | omega | (simp only [mS_iff, eq_self, Int.reduceEq, true_and, and_true, false_and, and_false, and_self, ↓reduceIte]; omega) | (simp only [mS_iff, eq_self, Int.reduceEq, true_and, and_true, false_and, and_false, and_self, ↓reduceIte] at *; omega)) ?_
                      have ev0 : c_per S w f mo b own = (S 0 4, sPn S w f mo b own) := by
                        unfold c_per
                        repeat' split
                        all_goals first | rfl | (exfalso; omega) | (refine Prod.ext ?_ ?_ <;> first | rfl | (show _ = _; omega))
                      rw [ev0] at hQ
                      dsimp only at hQ
                      have ok : okPn S w f mo b own := ⟨hw, by omega, by omega, dy, by omega, by omega, by omega⟩
                      show Q (.inl (some (aI (((m 41 28) + 1) - 1)))) ((mS (mS (mS (mS (mS (mS (mS m 56 (m 41 28) w) 57 (m 41 28) f) 58 (m 41 28) mo) 59 (m 41 28) b) 60 (m 41 28) 10000) 61 (m 41 28) own) 41 28 ((m 41 28) + 1)))
                      rw [show (((m 41 28) + 1) - 1) = S 0 4 by omega]
                      refine hQ _ ⟨h.pn ok (fun x j u v => by rw [mS_iff, if_neg (by omega), mS_iff, if_neg (by omega), mS_iff, if_neg (by omega), mS_iff, if_neg (by omega), mS_iff, if_neg (by omega), mS_iff, if_neg (by omega), mS_iff, if_neg (by omega)]) (by rw [mS_iff, if_pos ⟨rfl, rfl⟩]; omega) ?_, hr.up (by rw [mS_iff, if_neg (by omega), mS_iff, if_neg (by omega), mS_iff, if_neg (by omega), mS_iff, if_neg (by omega), mS_iff, if_neg (by omega), mS_iff, if_neg (by omega), mS_iff, if_neg (by omega)])⟩ (fun x j u => by rw [mS_iff, if_neg (by omega), mS_iff, if_neg (by omega), mS_iff, if_neg (by omega), mS_iff, if_neg (by omega), mS_iff, if_neg (by omega), mS_iff, if_neg (by omega), mS_iff, if_neg (by omega)])
                      rw [← q28]
                      simp only [mS_iff, eq_self, Int.reduceEq, true_and, and_true, false_and, and_false, and_self, ↓reduceIte]
                      done
                    · have ev0 : c_per S w f mo b own = ((-5), S) := by
                        unfold c_per
                        repeat' split
                        all_goals first | rfl | (exfalso; omega) | (refine Prod.ext ?_ ?_ <;> first | rfl | (show _ = _; omega))
                      rw [ev0] at hQ
                      dsimp only at hQ
                      exact hQ m (hz0.fr fr) fr.1
                  · refine And.intro (rfl) ?_
                    refine And.intro (⟨rfl, by omega⟩) ?_
                    refine And.intro (fun h44 => ?_) (fun h44 => ?_)
                    · have ev0 : c_per S w f mo b own = ((-4), S) := by
                        unfold c_per
                        repeat' split
                        all_goals first | rfl | (exfalso; omega) | (refine Prod.ext ?_ ?_ <;> first | rfl | (show _ = _; omega))
                      rw [ev0] at hQ
                      dsimp only at hQ
                      exact hQ m (hz0.fr fr) fr.1
                    · refine And.intro (rfl) ?_
                      refine And.intro (⟨rfl, by omega⟩) ?_
                      refine And.intro (fun h45 => ?_) (fun h45 => ?_)
                      · refine And.intro (rfl) ?_
                        refine And.intro (fun h46 => ?_) (fun h46 => ?_)
                        · refine And.intro (rfl) ?_
                          refine And.intro (rfl) ?_
                          refine And.intro (⟨rfl, by first | omega | (simp only [mS_iff, eq_self, Int.reduceEq, true_and, and_true, false_and, and_false, and_self, ↓reduceIte]; omega) | (simp only [mS_iff, eq_self, Int.reduceEq, true_and, and_true, false_and, and_false, and_self, ↓reduceIte] at *; omega), by first | omega | (simp only [mS_iff, eq_self, Int.reduceEq, true_and, and_true, false_and, and_false, and_self, ↓reduceIte]; omega) | (simp only [mS_iff, eq_self, Int.reduceEq, true_and, and_true, false_and, and_false, and_self, ↓reduceIte] at *; omega)⟩) ?_
                          refine And.intro (rfl) ?_
                          refine And.intro (rfl) ?_
                          refine And.intro (⟨rfl, by first | omega | (simp only [mS_iff, eq_self, Int.reduceEq, true_and, and_true, false_and, and_false, and_self, ↓reduceIte]; omega) | (simp only [mS_iff, eq_self, Int.reduceEq, true_and, and_true, false_and, and_false, and_self, ↓reduceIte] at *; omega)⟩) ?_
                          refine And.intro (rfl) ?_
                          refine And.intro (rfl) ?_
                          refine And.intro (⟨rfl, by first | omega | (simp only [mS_iff, eq_self, Int.reduceEq, true_and, and_true, false_and, and_false, and_self, ↓reduceIte]; omega) | (simp only [mS_iff, eq_self, Int.reduceEq, true_and, and_true, false_and, and_false, and_self, ↓reduceIte] at *; omega)⟩) ?_
                          refine And.intro (rfl) ?_
                          refine And.intro (rfl) ?_
                          refine And.intro (⟨rfl, by first | omega | (simp only [mS_iff, eq_self, Int.reduceEq, true_and, and_true, false_and, and_false, and_self, ↓reduceIte]; omega) | (simp only [mS_iff, eq_self, Int.reduceEq, true_and, and_true, false_and, and_false, and_self, ↓reduceIte] at *; omega)⟩) ?_
                          refine And.intro (rfl) ?_
                          refine And.intro (rfl) ?_
                          refine And.intro (⟨rfl, by first | omega | (simp only [mS_iff, eq_self, Int.reduceEq, true_and, and_true, false_and, and_false, and_self, ↓reduceIte]; omega) | (simp only [mS_iff, eq_self, Int.reduceEq, true_and, and_true, false_and, and_false, and_self, ↓reduceIte] at *; omega)⟩) ?_
                          refine And.intro (rfl) ?_
                          refine And.intro (rfl) ?_
                          refine And.intro (⟨rfl, by first | omega | (simp only [mS_iff, eq_self, Int.reduceEq, true_and, and_true, false_and, and_false, and_self, ↓reduceIte]; omega) | (simp only [mS_iff, eq_self, Int.reduceEq, true_and, and_true, false_and, and_false, and_self, ↓reduceIte] at *; omega)⟩) ?_
                          refine And.intro (rfl) ?_
                          refine And.intro (show -2147483648 ≤ (m 41 28) + 1 ∧ (m 41 28) + 1 ≤ 2147483647 by first | omega | (simp only [mS_iff, eq_self, Int.reduceEq, true_and, and_true, false_and, and_false, and_self, ↓reduceIte]; omega) | (simp only [mS_iff, eq_self, Int.reduceEq, true_and, and_true, false_and, and_false, and_self, ↓reduceIte] at *; omega)) ?_
                          refine And.intro (rfl) ?_
                          refine And.intro (rfl) ?_
                          refine And.intro (show -2147483648 ≤ ((m 41 28) + 1) - 1 ∧ ((m 41 28) + 1) - 1 ≤ 2147483647 by first | omega | (simp only [mS_iff, eq_self, Int.reduceEq, true_and, and_true, false_and, and_false, and_self, ↓reduceIte]; omega) | (simp only [mS_iff, eq_self, Int.reduceEq, true_and, and_true, false_and, and_false, and_self, ↓reduceIte] at *; omega)) ?_
                          have ev0 : c_per S w f mo b own = (S 0 4, sPn S w f mo b own) := by
                            unfold c_per
                            repeat' split
                            all_goals first | rfl | (exfalso; omega) | (refine Prod.ext ?_ ?_ <;> first | rfl | (show _ = _; omega))
                          rw [ev0] at hQ
                          dsimp only at hQ
                          have ok : okPn S w f mo b own := ⟨hw, by omega, by omega, dy, by omega, by omega, by omega⟩
                          show Q (.inl (some (aI (((m 41 28) + 1) - 1)))) ((mS (mS (mS (mS (mS (mS (mS m 56 (m 41 28) w) 57 (m 41 28) f) 58 (m 41 28) mo) 59 (m 41 28) b) 60 (m 41 28) 10000) 61 (m 41 28) own) 41 28 ((m 41 28) + 1)))
                          rw [show (((m 41 28) + 1) - 1) = S 0 4 by omega]
                          refine hQ _ ⟨h.pn ok (fun x j u v => by rw [mS_iff, if_neg (by omega), mS_iff, if_neg (by omega), mS_iff, if_neg (by omega), mS_iff, if_neg (by omega), mS_iff, if_neg (by omega), mS_iff, if_neg (by omega), mS_iff, if_neg (by omega)]) (by rw [mS_iff, if_pos ⟨rfl, rfl⟩]; omega) ?_, hr.up (by rw [mS_iff, if_neg (by omega), mS_iff, if_neg (by omega), mS_iff, if_neg (by omega), mS_iff, if_neg (by omega), mS_iff, if_neg (by omega), mS_iff, if_neg (by omega), mS_iff, if_neg (by omega)])⟩ (fun x j u => by rw [mS_iff, if_neg (by omega), mS_iff, if_neg (by omega), mS_iff, if_neg (by omega), mS_iff, if_neg (by omega), mS_iff, if_neg (by omega), mS_iff, if_neg (by omega), mS_iff, if_neg (by omega)])
                          rw [← q28]
                          simp only [mS_iff, eq_self, Int.reduceEq, true_and, and_true, false_and, and_false, and_self, ↓reduceIte]
                          done
                        · have ev0 : c_per S w f mo b own = ((-5), S) := by
                            unfold c_per
                            repeat' split
                            all_goals first | rfl | (exfalso; omega) | (refine Prod.ext ?_ ?_ <;> first | rfl | (show _ = _; omega))
                          rw [ev0] at hQ
                          dsimp only at hQ
                          exact hQ m (hz0.fr fr) fr.1
                      · have ev0 : c_per S w f mo b own = ((-4), S) := by
                          unfold c_per
                          repeat' split
                          all_goals first | rfl | (exfalso; omega) | (refine Prod.ext ?_ ?_ <;> first | rfl | (show _ = _; omega))
                        rw [ev0] at hQ
                        dsimp only at hQ
                        exact hQ m (hz0.fr fr) fr.1
          · have dn := h33
            refine And.intro (fun h => absurd h (by decide)) (fun _ => ?_)
            have ev0 : c_per S w f mo b own = ((-3), S) := by
              unfold c_per
              repeat' split
              all_goals first | rfl | (exfalso; omega) | (refine Prod.ext ?_ ?_ <;> first | rfl | (show _ = _; omega))
            rw [ev0] at hQ
            dsimp only at hQ
            exact hQ m (hz0.fr fr) fr.1
        · refine And.intro (rfl) ?_
          refine ct_222 (by omega) h (fun t3 => ?_) (fun t3 => ?_)
          · have hA3 := (hS.2.2 own t3.1 t3.2).1
            have ok3 := (hS.2.2 own t3.1 t3.2).2
            refine And.intro (fun _ => ?_) (fun h => absurd h (by decide))
            refine ct_254 (by omega) (fun h47 => ?_) (fun h47 => ?_)
            · have dy := h47
              refine And.intro (fun _ => ?_) (fun h => absurd h (by decide))
              refine And.intro (fun h48 => ?_) (fun h48 => ?_)
              · refine And.intro (fun h49 => ?_) (fun h49 => ?_)
                · refine And.intro (rfl) ?_
                  refine And.intro (fun h50 => ?_) (fun h50 => ?_)
                  · refine And.intro (rfl) ?_
                    refine And.intro (rfl) ?_
                    refine And.intro (⟨rfl, by first | omega | (simp only [mS_iff, eq_self, Int.reduceEq, true_and, and_true, false_and, and_false, and_self, ↓reduceIte]; omega) | (simp only [mS_iff, eq_self, Int.reduceEq, true_and, and_true, false_and, and_false, and_self, ↓reduceIte] at *; omega), by first | omega | (simp only [mS_iff, eq_self, Int.reduceEq, true_and, and_true, false_and, and_false, and_self, ↓reduceIte]; omega) | (simp only [mS_iff, eq_self, Int.reduceEq, true_and, and_true, false_and, and_false, and_self, ↓reduceIte] at *; omega)⟩) ?_
                    refine And.intro (rfl) ?_
                    refine And.intro (rfl) ?_
                    refine And.intro (⟨rfl, by first | omega | (simp only [mS_iff, eq_self, Int.reduceEq, true_and, and_true, false_and, and_false, and_self, ↓reduceIte]; omega) | (simp only [mS_iff, eq_self, Int.reduceEq, true_and, and_true, false_and, and_false, and_self, ↓reduceIte] at *; omega)⟩) ?_
                    refine And.intro (rfl) ?_
                    refine And.intro (rfl) ?_
                    refine And.intro (⟨rfl, by first | omega | (simp only [mS_iff, eq_self, Int.reduceEq, true_and, and_true, false_and, and_false, and_self, ↓reduceIte]; omega) | (simp only [mS_iff, eq_self, Int.reduceEq, true_and, and_true, false_and, and_false, and_self, ↓reduceIte] at *; omega)⟩) ?_
                    refine And.intro (rfl) ?_
                    refine And.intro (rfl) ?_
                    refine And.intro (⟨rfl, by first | omega | (simp only [mS_iff, eq_self, Int.reduceEq, true_and, and_true, false_and, and_false, and_self, ↓reduceIte]; omega) | (simp only [mS_iff, eq_self, Int.reduceEq, true_and, and_true, false_and, and_false, and_self, ↓reduceIte] at *; omega)⟩) ?_
                    refine And.intro (rfl) ?_
                    refine And.intro (rfl) ?_
                    refine And.intro (⟨rfl, by first | omega | (simp only [mS_iff, eq_self, Int.reduceEq, true_and, and_true, false_and, and_false, and_self, ↓reduceIte]; omega) | (simp only [mS_iff, eq_self, Int.reduceEq, true_and, and_true, false_and, and_false, and_self, ↓reduceIte] at *; omega)⟩) ?_
                    refine And.intro (rfl) ?_
                    refine And.intro (rfl) ?_
                    refine And.intro (⟨rfl, by first | omega | (simp only [mS_iff, eq_self, Int.reduceEq, true_and, and_true, false_and, and_false, and_self, ↓reduceIte]; omega) | (simp only [mS_iff, eq_self, Int.reduceEq, true_and, and_true, false_and, and_false, and_self, ↓reduceIte] at *; omega)⟩) ?_
                    refine And.intro (rfl) ?_
                    refine And.intro (show -2147483648 ≤ (m 41 28) + 1 ∧ (m 41 28) + 1 ≤ 2147483647 by first | omega | (simp only [mS_iff, eq_self, Int.reduceEq, true_and, and_true, false_and, and_false, and_self, ↓reduceIte]; omega) | (simp only [mS_iff, eq_self, Int.reduceEq, true_and, and_true, false_and, and_false, and_self, ↓reduceIte] at *; omega)) ?_
                    refine And.intro (rfl) ?_
                    refine And.intro (rfl) ?_
                    refine And.intro (show -2147483648 ≤ ((m 41 28) + 1) - 1 ∧ ((m 41 28) + 1) - 1 ≤ 2147483647 by first | omega | (simp only [mS_iff, eq_self, Int.reduceEq, true_and, and_true, false_and, and_false, and_self, ↓reduceIte]; omega) | (simp only [mS_iff, eq_self, Int.reduceEq, true_and, and_true, false_and, and_false, and_self, ↓reduceIte] at *; omega)) ?_
                    have ev0 : c_per S w f mo b own = (S 0 4, sPn S w f mo b own) := by
                      unfold c_per
                      repeat' split
                      all_goals first | rfl | (exfalso; omega) | (refine Prod.ext ?_ ?_ <;> first | rfl | (show _ = _; omega))
                    rw [ev0] at hQ
                    dsimp only at hQ
                    have ok : okPn S w f mo b own := ⟨hw, by omega, by omega, dy, by omega, by omega, by omega⟩
                    show Q (.inl (some (aI (((m 41 28) + 1) - 1)))) ((mS (mS (mS (mS (mS (mS (mS m 56 (m 41 28) w) 57 (m 41 28) f) 58 (m 41 28) mo) 59 (m 41 28) b) 60 (m 41 28) 10000) 61 (m 41 28) own) 41 28 ((m 41 28) + 1)))
                    rw [show (((m 41 28) + 1) - 1) = S 0 4 by omega]
                    refine hQ _ ⟨h.pn ok (fun x j u v => by rw [mS_iff, if_neg (by omega), mS_iff, if_neg (by omega), mS_iff, if_neg (by omega), mS_iff, if_neg (by omega), mS_iff, if_neg (by omega), mS_iff, if_neg (by omega), mS_iff, if_neg (by omega)]) (by rw [mS_iff, if_pos ⟨rfl, rfl⟩]; omega) ?_, hr.up (by rw [mS_iff, if_neg (by omega), mS_iff, if_neg (by omega), mS_iff, if_neg (by omega), mS_iff, if_neg (by omega), mS_iff, if_neg (by omega), mS_iff, if_neg (by omega), mS_iff, if_neg (by omega)])⟩ (fun x j u => by rw [mS_iff, if_neg (by omega), mS_iff, if_neg (by omega), mS_iff, if_neg (by omega), mS_iff, if_neg (by omega), mS_iff, if_neg (by omega), mS_iff, if_neg (by omega), mS_iff, if_neg (by omega)])
                    rw [← q28]
                    simp only [mS_iff, eq_self, Int.reduceEq, true_and, and_true, false_and, and_false, and_self, ↓reduceIte]
                    done
                  · have ev0 : c_per S w f mo b own = ((-5), S) := by
                      unfold c_per
                      repeat' split
                      all_goals first | rfl | (exfalso; omega) | (refine Prod.ext ?_ ?_ <;> first | rfl | (show _ = _; omega))
                    rw [ev0] at hQ
                    dsimp only at hQ
                    exact hQ m (hz0.fr fr) fr.1
                · refine And.intro (rfl) ?_
                  refine And.intro (⟨rfl, by omega⟩) ?_
                  refine And.intro (fun h51 => ?_) (fun h51 => ?_)
                  · have ev0 : c_per S w f mo b own = ((-4), S) := by
                      unfold c_per
                      repeat' split
                      all_goals first | rfl | (exfalso; omega) | (refine Prod.ext ?_ ?_ <;> first | rfl | (show _ = _; omega))
                    rw [ev0] at hQ
                    dsimp only at hQ
                    exact hQ m (hz0.fr fr) fr.1
                  · refine And.intro (rfl) ?_
                    refine And.intro (⟨rfl, by omega⟩) ?_
                    refine And.intro (fun h52 => ?_) (fun h52 => ?_)
                    · refine And.intro (rfl) ?_
                      refine And.intro (fun h53 => ?_) (fun h53 => ?_)
                      · refine And.intro (rfl) ?_
                        refine And.intro (rfl) ?_
                        refine And.intro (⟨rfl, by first | omega | (simp only [mS_iff, eq_self, Int.reduceEq, true_and, and_true, false_and, and_false, and_self, ↓reduceIte]; omega) | (simp only [mS_iff, eq_self, Int.reduceEq, true_and, and_true, false_and, and_false, and_self, ↓reduceIte] at *; omega), by first | omega | (simp only [mS_iff, eq_self, Int.reduceEq, true_and, and_true, false_and, and_false, and_self, ↓reduceIte]; omega) | (simp only [mS_iff, eq_self, Int.reduceEq, true_and, and_true, false_and, and_false, and_self, ↓reduceIte] at *; omega)⟩) ?_
                        refine And.intro (rfl) ?_
                        refine And.intro (rfl) ?_
                        refine And.intro (⟨rfl, by first | omega | (simp only [mS_iff, eq_self, Int.reduceEq, true_and, and_true, false_and, and_false, and_self, ↓reduceIte]; omega) | (simp only [mS_iff, eq_self, Int.reduceEq, true_and, and_true, false_and, and_false, and_self, ↓reduceIte] at *; omega)⟩) ?_
                        refine And.intro (rfl) ?_
                        refine And.intro (rfl) ?_
                        refine And.intro (⟨rfl, by first | omega | (simp only [mS_iff, eq_self, Int.reduceEq, true_and, and_true, false_and, and_false, and_self, ↓reduceIte]; omega) | (simp only [mS_iff, eq_self, Int.reduceEq, true_and, and_true, false_and, and_false, and_self, ↓reduceIte] at *; omega)⟩) ?_
                        refine And.intro (rfl) ?_
                        refine And.intro (rfl) ?_
                        refine And.intro (⟨rfl, by first | omega | (simp only [mS_iff, eq_self, Int.reduceEq, true_and, and_true, false_and, and_false, and_self, ↓reduceIte]; omega) | (simp only [mS_iff, eq_self, Int.reduceEq, true_and, and_true, false_and, and_false, and_self, ↓reduceIte] at *; omega)⟩) ?_
                        refine And.intro (rfl) ?_
                        refine And.intro (rfl) ?_
                        refine And.intro (⟨rfl, by first | omega | (simp only [mS_iff, eq_self, Int.reduceEq, true_and, and_true, false_and, and_false, and_self, ↓reduceIte]; omega) | (simp only [mS_iff, eq_self, Int.reduceEq, true_and, and_true, false_and, and_false, and_self, ↓reduceIte] at *; omega)⟩) ?_
                        refine And.intro (rfl) ?_
                        refine And.intro (rfl) ?_
                        refine And.intro (⟨rfl, by first | omega | (simp only [mS_iff, eq_self, Int.reduceEq, true_and, and_true, false_and, and_false, and_self, ↓reduceIte]; omega) | (simp only [mS_iff, eq_self, Int.reduceEq, true_and, and_true, false_and, and_false, and_self, ↓reduceIte] at *; omega)⟩) ?_
                        refine And.intro (rfl) ?_
                        refine And.intro (show -2147483648 ≤ (m 41 28) + 1 ∧ (m 41 28) + 1 ≤ 2147483647 by first | omega | (simp only [mS_iff, eq_self, Int.reduceEq, true_and, and_true, false_and, and_false, and_self, ↓reduceIte]; omega) | (simp only [mS_iff, eq_self, Int.reduceEq, true_and, and_true, false_and, and_false, and_self, ↓reduceIte] at *; omega)) ?_
                        refine And.intro (rfl) ?_
                        refine And.intro (rfl) ?_
                        refine And.intro (show -2147483648 ≤ ((m 41 28) + 1) - 1 ∧ ((m 41 28) + 1) - 1 ≤ 2147483647 by first | omega | (simp only [mS_iff, eq_self, Int.reduceEq, true_and, and_true, false_and, and_false, and_self, ↓reduceIte]; omega) | (simp only [mS_iff, eq_self, Int.reduceEq, true_and, and_true, false_and, and_false, and_self, ↓reduceIte] at *; omega)) ?_
                        have ev0 : c_per S w f mo b own = (S 0 4, sPn S w f mo b own) := by
                          unfold c_per
                          repeat' split
                          all_goals first | rfl | (exfalso; omega) | (refine Prod.ext ?_ ?_ <;> first | rfl | (show _ = _; omega))
                        rw [ev0] at hQ
                        dsimp only at hQ
                        have ok : okPn S w f mo b own := ⟨hw, by omega, by omega, dy, by omega, by omega, by omega⟩
                        show Q (.inl (some (aI (((m 41 28) + 1) - 1)))) ((mS (mS (mS (mS (mS (mS (mS m 56 (m 41 28) w) 57 (m 41 28) f) 58 (m 41 28) mo) 59 (m 41 28) b) 60 (m 41 28) 10000) 61 (m 41 28) own) 41 28 ((m 41 28) + 1)))
                        rw [show (((m 41 28) + 1) - 1) = S 0 4 by omega]
                        refine hQ _ ⟨h.pn ok (fun x j u v => by rw [mS_iff, if_neg (by omega), mS_iff, if_neg (by omega), mS_iff, if_neg (by omega), mS_iff, if_neg (by omega), mS_iff, if_neg (by omega), mS_iff, if_neg (by omega), mS_iff, if_neg (by omega)]) (by rw [mS_iff, if_pos ⟨rfl, rfl⟩]; omega) ?_, hr.up (by rw [mS_iff, if_neg (by omega), mS_iff, if_neg (by omega), mS_iff, if_neg (by omega), mS_iff, if_neg (by omega), mS_iff, if_neg (by omega), mS_iff, if_neg (by omega), mS_iff, if_neg (by omega)])⟩ (fun x j u => by rw [mS_iff, if_neg (by omega), mS_iff, if_neg (by omega), mS_iff, if_neg (by omega), mS_iff, if_neg (by omega), mS_iff, if_neg (by omega), mS_iff, if_neg (by omega), mS_iff, if_neg (by omega)])
                        rw [← q28]
                        simp only [mS_iff, eq_self, Int.reduceEq, true_and, and_true, false_and, and_false, and_self, ↓reduceIte]
                        done
                      · have ev0 : c_per S w f mo b own = ((-5), S) := by
                          unfold c_per
                          repeat' split
                          all_goals first | rfl | (exfalso; omega) | (refine Prod.ext ?_ ?_ <;> first | rfl | (show _ = _; omega))
                        rw [ev0] at hQ
                        dsimp only at hQ
                        exact hQ m (hz0.fr fr) fr.1
                    · have ev0 : c_per S w f mo b own = ((-4), S) := by
                        unfold c_per
                        repeat' split
                        all_goals first | rfl | (exfalso; omega) | (refine Prod.ext ?_ ?_ <;> first | rfl | (show _ = _; omega))
                      rw [ev0] at hQ
                      dsimp only at hQ
                      exact hQ m (hz0.fr fr) fr.1
              · refine And.intro (rfl) ?_
                refine And.intro (⟨rfl, by omega⟩) ?_
                refine And.intro (fun h54 => ?_) (fun h54 => ?_)
                · have ev0 : c_per S w f mo b own = ((-4), S) := by
                    unfold c_per
                    repeat' split
                    all_goals first | rfl | (exfalso; omega) | (refine Prod.ext ?_ ?_ <;> first | rfl | (show _ = _; omega))
                  rw [ev0] at hQ
                  dsimp only at hQ
                  exact hQ m (hz0.fr fr) fr.1
                · refine And.intro (rfl) ?_
                  refine And.intro (⟨rfl, by omega⟩) ?_
                  refine And.intro (fun h55 => ?_) (fun h55 => ?_)
                  · have ev0 : c_per S w f mo b own = ((-4), S) := by
                      unfold c_per
                      repeat' split
                      all_goals first | rfl | (exfalso; omega) | (refine Prod.ext ?_ ?_ <;> first | rfl | (show _ = _; omega))
                    rw [ev0] at hQ
                    dsimp only at hQ
                    exact hQ m (hz0.fr fr) fr.1
                  · refine And.intro (fun h56 => ?_) (fun h56 => ?_)
                    · refine And.intro (rfl) ?_
                      refine And.intro (fun h57 => ?_) (fun h57 => ?_)
                      · refine And.intro (rfl) ?_
                        refine And.intro (rfl) ?_
                        refine And.intro (⟨rfl, by first | omega | (simp only [mS_iff, eq_self, Int.reduceEq, true_and, and_true, false_and, and_false, and_self, ↓reduceIte]; omega) | (simp only [mS_iff, eq_self, Int.reduceEq, true_and, and_true, false_and, and_false, and_self, ↓reduceIte] at *; omega), by first | omega | (simp only [mS_iff, eq_self, Int.reduceEq, true_and, and_true, false_and, and_false, and_self, ↓reduceIte]; omega) | (simp only [mS_iff, eq_self, Int.reduceEq, true_and, and_true, false_and, and_false, and_self, ↓reduceIte] at *; omega)⟩) ?_
                        refine And.intro (rfl) ?_
                        refine And.intro (rfl) ?_
                        refine And.intro (⟨rfl, by first | omega | (simp only [mS_iff, eq_self, Int.reduceEq, true_and, and_true, false_and, and_false, and_self, ↓reduceIte]; omega) | (simp only [mS_iff, eq_self, Int.reduceEq, true_and, and_true, false_and, and_false, and_self, ↓reduceIte] at *; omega)⟩) ?_
                        refine And.intro (rfl) ?_
                        refine And.intro (rfl) ?_
                        refine And.intro (⟨rfl, by first | omega | (simp only [mS_iff, eq_self, Int.reduceEq, true_and, and_true, false_and, and_false, and_self, ↓reduceIte]; omega) | (simp only [mS_iff, eq_self, Int.reduceEq, true_and, and_true, false_and, and_false, and_self, ↓reduceIte] at *; omega)⟩) ?_
                        refine And.intro (rfl) ?_
                        refine And.intro (rfl) ?_
                        refine And.intro (⟨rfl, by first | omega | (simp only [mS_iff, eq_self, Int.reduceEq, true_and, and_true, false_and, and_false, and_self, ↓reduceIte]; omega) | (simp only [mS_iff, eq_self, Int.reduceEq, true_and, and_true, false_and, and_false, and_self, ↓reduceIte] at *; omega)⟩) ?_
                        refine And.intro (rfl) ?_
                        refine And.intro (rfl) ?_
                        refine And.intro (⟨rfl, by first | omega | (simp only [mS_iff, eq_self, Int.reduceEq, true_and, and_true, false_and, and_false, and_self, ↓reduceIte]; omega) | (simp only [mS_iff, eq_self, Int.reduceEq, true_and, and_true, false_and, and_false, and_self, ↓reduceIte] at *; omega)⟩) ?_
                        refine And.intro (rfl) ?_
                        refine And.intro (rfl) ?_
                        refine And.intro (⟨rfl, by first | omega | (simp only [mS_iff, eq_self, Int.reduceEq, true_and, and_true, false_and, and_false, and_self, ↓reduceIte]; omega) | (simp only [mS_iff, eq_self, Int.reduceEq, true_and, and_true, false_and, and_false, and_self, ↓reduceIte] at *; omega)⟩) ?_
                        refine And.intro (rfl) ?_
                        refine And.intro (show -2147483648 ≤ (m 41 28) + 1 ∧ (m 41 28) + 1 ≤ 2147483647 by first | omega | (simp only [mS_iff, eq_self, Int.reduceEq, true_and, and_true, false_and, and_false, and_self, ↓reduceIte]; omega) | (simp only [mS_iff, eq_self, Int.reduceEq, true_and, and_true, false_and, and_false, and_self, ↓reduceIte] at *; omega)) ?_
                        refine And.intro (rfl) ?_
                        refine And.intro (rfl) ?_
                        refine And.intro (show -2147483648 ≤ ((m 41 28) + 1) - 1 ∧ ((m 41 28) + 1) - 1 ≤ 2147483647 by first | omega | (simp only [mS_iff, eq_self, Int.reduceEq, true_and, and_true, false_and, and_false, and_self, ↓reduceIte]; omega) | (simp only [mS_iff, eq_self, Int.reduceEq, true_and, and_true, false_and, and_false, and_self, ↓reduceIte] at *; omega)) ?_
                        have ev0 : c_per S w f mo b own = (S 0 4, sPn S w f mo b own) := by
                          unfold c_per
                          repeat' split
                          all_goals first | rfl | (exfalso; omega) | (refine Prod.ext ?_ ?_ <;> first | rfl | (show _ = _; omega))
                        rw [ev0] at hQ
                        dsimp only at hQ
                        have ok : okPn S w f mo b own := ⟨hw, by omega, by omega, dy, by omega, by omega, by omega⟩
                        show Q (.inl (some (aI (((m 41 28) + 1) - 1)))) ((mS (mS (mS (mS (mS (mS (mS m 56 (m 41 28) w) 57 (m 41 28) f) 58 (m 41 28) mo) 59 (m 41 28) b) 60 (m 41 28) 10000) 61 (m 41 28) own) 41 28 ((m 41 28) + 1)))
                        rw [show (((m 41 28) + 1) - 1) = S 0 4 by omega]
                        refine hQ _ ⟨h.pn ok (fun x j u v => by rw [mS_iff, if_neg (by omega), mS_iff, if_neg (by omega), mS_iff, if_neg (by omega), mS_iff, if_neg (by omega), mS_iff, if_neg (by omega), mS_iff, if_neg (by omega), mS_iff, if_neg (by omega)]) (by rw [mS_iff, if_pos ⟨rfl, rfl⟩]; omega) ?_, hr.up (by rw [mS_iff, if_neg (by omega), mS_iff, if_neg (by omega), mS_iff, if_neg (by omega), mS_iff, if_neg (by omega), mS_iff, if_neg (by omega), mS_iff, if_neg (by omega), mS_iff, if_neg (by omega)])⟩ (fun x j u => by rw [mS_iff, if_neg (by omega), mS_iff, if_neg (by omega), mS_iff, if_neg (by omega), mS_iff, if_neg (by omega), mS_iff, if_neg (by omega), mS_iff, if_neg (by omega), mS_iff, if_neg (by omega)])
                        rw [← q28]
                        simp only [mS_iff, eq_self, Int.reduceEq, true_and, and_true, false_and, and_false, and_self, ↓reduceIte]
                        done
                      · have ev0 : c_per S w f mo b own = ((-5), S) := by
                          unfold c_per
                          repeat' split
                          all_goals first | rfl | (exfalso; omega) | (refine Prod.ext ?_ ?_ <;> first | rfl | (show _ = _; omega))
                        rw [ev0] at hQ
                        dsimp only at hQ
                        exact hQ m (hz0.fr fr) fr.1
                    · refine And.intro (rfl) ?_
                      refine And.intro (⟨rfl, by omega⟩) ?_
                      refine And.intro (fun h58 => ?_) (fun h58 => ?_)
                      · have ev0 : c_per S w f mo b own = ((-4), S) := by
                          unfold c_per
                          repeat' split
                          all_goals first | rfl | (exfalso; omega) | (refine Prod.ext ?_ ?_ <;> first | rfl | (show _ = _; omega))
                        rw [ev0] at hQ
                        dsimp only at hQ
                        exact hQ m (hz0.fr fr) fr.1
                      · refine And.intro (rfl) ?_
                        refine And.intro (⟨rfl, by omega⟩) ?_
                        refine And.intro (fun h59 => ?_) (fun h59 => ?_)
                        · refine And.intro (rfl) ?_
                          refine And.intro (fun h60 => ?_) (fun h60 => ?_)
                          · refine And.intro (rfl) ?_
                            refine And.intro (rfl) ?_
                            refine And.intro (⟨rfl, by first | omega | (simp only [mS_iff, eq_self, Int.reduceEq, true_and, and_true, false_and, and_false, and_self, ↓reduceIte]; omega) | (simp only [mS_iff, eq_self, Int.reduceEq, true_and, and_true, false_and, and_false, and_self, ↓reduceIte] at *; omega), by first | omega | (simp only [mS_iff, eq_self, Int.reduceEq, true_and, and_true, false_and, and_false, and_self, ↓reduceIte]; omega) | (simp only [mS_iff, eq_self, Int.reduceEq, true_and, and_true, false_and, and_false, and_self, ↓reduceIte] at *; omega)⟩) ?_
                            refine And.intro (rfl) ?_
                            refine And.intro (rfl) ?_
                            refine And.intro (⟨rfl, by first | omega | (simp only [mS_iff, eq_self, Int.reduceEq, true_and, and_true, false_and, and_false, and_self, ↓reduceIte]; omega) | (simp only [mS_iff, eq_self, Int.reduceEq, true_and, and_true, false_and, and_false, and_self, ↓reduceIte] at *; omega)⟩) ?_
                            refine And.intro (rfl) ?_
                            refine And.intro (rfl) ?_
                            refine And.intro (⟨rfl, by first | omega | (simp only [mS_iff, eq_self, Int.reduceEq, true_and, and_true, false_and, and_false, and_self, ↓reduceIte]; omega) | (simp only [mS_iff, eq_self, Int.reduceEq, true_and, and_true, false_and, and_false, and_self, ↓reduceIte] at *; omega)⟩) ?_
                            refine And.intro (rfl) ?_
                            refine And.intro (rfl) ?_
                            refine And.intro (⟨rfl, by first | omega | (simp only [mS_iff, eq_self, Int.reduceEq, true_and, and_true, false_and, and_false, and_self, ↓reduceIte]; omega) | (simp only [mS_iff, eq_self, Int.reduceEq, true_and, and_true, false_and, and_false, and_self, ↓reduceIte] at *; omega)⟩) ?_
                            refine And.intro (rfl) ?_
                            refine And.intro (rfl) ?_
                            refine And.intro (⟨rfl, by first | omega | (simp only [mS_iff, eq_self, Int.reduceEq, true_and, and_true, false_and, and_false, and_self, ↓reduceIte]; omega) | (simp only [mS_iff, eq_self, Int.reduceEq, true_and, and_true, false_and, and_false, and_self, ↓reduceIte] at *; omega)⟩) ?_
                            refine And.intro (rfl) ?_
                            refine And.intro (rfl) ?_
                            refine And.intro (⟨rfl, by first | omega | (simp only [mS_iff, eq_self, Int.reduceEq, true_and, and_true, false_and, and_false, and_self, ↓reduceIte]; omega) | (simp only [mS_iff, eq_self, Int.reduceEq, true_and, and_true, false_and, and_false, and_self, ↓reduceIte] at *; omega)⟩) ?_
                            refine And.intro (rfl) ?_
                            refine And.intro (show -2147483648 ≤ (m 41 28) + 1 ∧ (m 41 28) + 1 ≤ 2147483647 by first | omega | (simp only [mS_iff, eq_self, Int.reduceEq, true_and, and_true, false_and, and_false, and_self, ↓reduceIte]; omega) | (simp only [mS_iff, eq_self, Int.reduceEq, true_and, and_true, false_and, and_false, and_self, ↓reduceIte] at *; omega)) ?_
                            refine And.intro (rfl) ?_
                            refine And.intro (rfl) ?_
                            refine And.intro (show -2147483648 ≤ ((m 41 28) + 1) - 1 ∧ ((m 41 28) + 1) - 1 ≤ 2147483647 by first | omega | (simp only [mS_iff, eq_self, Int.reduceEq, true_and, and_true, false_and, and_false, and_self, ↓reduceIte]; omega) | (simp only [mS_iff, eq_self, Int.reduceEq, true_and, and_true, false_and, and_false, and_self, ↓reduceIte] at *; omega)) ?_
                            have ev0 : c_per S w f mo b own = (S 0 4, sPn S w f mo b own) := by
                              unfold c_per
                              repeat' split
                              all_goals first | rfl | (exfalso; omega) | (refine Prod.ext ?_ ?_ <;> first | rfl | (show _ = _; omega))
                            rw [ev0] at hQ
                            dsimp only at hQ
                            have ok : okPn S w f mo b own := ⟨hw, by omega, by omega, dy, by omega, by omega, by omega⟩
                            show Q (.inl (some (aI (((m 41 28) + 1) - 1)))) ((mS (mS (mS (mS (mS (mS (mS m 56 (m 41 28) w) 57 (m 41 28) f) 58 (m 41 28) mo) 59 (m 41 28) b) 60 (m 41 28) 10000) 61 (m 41 28) own) 41 28 ((m 41 28) + 1)))
                            rw [show (((m 41 28) + 1) - 1) = S 0 4 by omega]
                            refine hQ _ ⟨h.pn ok (fun x j u v => by rw [mS_iff, if_neg (by omega), mS_iff, if_neg (by omega), mS_iff, if_neg (by omega), mS_iff, if_neg (by omega), mS_iff, if_neg (by omega), mS_iff, if_neg (by omega), mS_iff, if_neg (by omega)]) (by rw [mS_iff, if_pos ⟨rfl, rfl⟩]; omega) ?_, hr.up (by rw [mS_iff, if_neg (by omega), mS_iff, if_neg (by omega), mS_iff, if_neg (by omega), mS_iff, if_neg (by omega), mS_iff, if_neg (by omega), mS_iff, if_neg (by omega), mS_iff, if_neg (by omega)])⟩ (fun x j u => by rw [mS_iff, if_neg (by omega), mS_iff, if_neg (by omega), mS_iff, if_neg (by omega), mS_iff, if_neg (by omega), mS_iff, if_neg (by omega), mS_iff, if_neg (by omega), mS_iff, if_neg (by omega)])
                            rw [← q28]
                            simp only [mS_iff, eq_self, Int.reduceEq, true_and, and_true, false_and, and_false, and_self, ↓reduceIte]
                            done
                          · have ev0 : c_per S w f mo b own = ((-5), S) := by
                              unfold c_per
                              repeat' split
                              all_goals first | rfl | (exfalso; omega) | (refine Prod.ext ?_ ?_ <;> first | rfl | (show _ = _; omega))
                            rw [ev0] at hQ
                            dsimp only at hQ
                            exact hQ m (hz0.fr fr) fr.1
                        · have ev0 : c_per S w f mo b own = ((-4), S) := by
                            unfold c_per
                            repeat' split
                            all_goals first | rfl | (exfalso; omega) | (refine Prod.ext ?_ ?_ <;> first | rfl | (show _ = _; omega))
                          rw [ev0] at hQ
                          dsimp only at hQ
                          exact hQ m (hz0.fr fr) fr.1
            · have dn := h47
              refine And.intro (fun h => absurd h (by decide)) (fun _ => ?_)
              have ev0 : c_per S w f mo b own = ((-3), S) := by
                unfold c_per
                repeat' split
                all_goals first | rfl | (exfalso; omega) | (refine Prod.ext ?_ ?_ <;> first | rfl | (show _ = _; omega))
              rw [ev0] at hQ
              dsimp only at hQ
              exact hQ m (hz0.fr fr) fr.1
          · refine And.intro (fun h => absurd h (by decide)) (fun _ => ?_)
            have ev0 : c_per S w f mo b own = ((-2), S) := by
              unfold c_per
              repeat' split
              all_goals first | rfl | (exfalso; omega) | (refine Prod.ext ?_ ?_ <;> first | rfl | (show _ = _; omega))
            rw [ev0] at hQ
            dsimp only at hQ
            exact hQ m (hz0.fr fr) fr.1
      · refine And.intro (fun _ => ?_) (fun h => absurd h (by decide))
        have ev0 : c_per S w f mo b own = ((-2), S) := by
          unfold c_per
          repeat' split
          all_goals first | rfl | (exfalso; omega) | (refine Prod.ext ?_ ?_ <;> first | rfl | (show _ = _; omega))
        rw [ev0] at hQ
        dsimp only at hQ
        exact hQ m (hz0.fr fr) fr.1
  · refine And.intro (rfl) ?_
    refine ct_253 (by omega) h (fun tf => ?_) (fun tf => ?_)
    · obtain ⟨xf1, xf2, xf3, xf4, xf5, xf6⟩ := h.2.2.2.1.2.2 f tf.1 tf.2
      have yf := (h.2.2.2.1.1.2 f tf.1 tf.2).1
      refine And.intro (fun h => absurd h (by decide)) (fun _ => ?_)
      refine And.intro (fun h61 => ?_) (fun h61 => ?_)
      · refine And.intro (fun h62 => ?_) (fun h62 => ?_)
        · refine ct_254 (by omega) (fun h63 => ?_) (fun h63 => ?_)
          · have dy := h63
            refine And.intro (fun _ => ?_) (fun h => absurd h (by decide))
            refine And.intro (fun h64 => ?_) (fun h64 => ?_)
            · refine And.intro (fun h65 => ?_) (fun h65 => ?_)
              · refine And.intro (rfl) ?_
                refine And.intro (fun h66 => ?_) (fun h66 => ?_)
                · refine And.intro (rfl) ?_
                  refine And.intro (rfl) ?_
                  refine And.intro (⟨rfl, by first | omega | (simp only [mS_iff, eq_self, Int.reduceEq, true_and, and_true, false_and, and_false, and_self, ↓reduceIte]; omega) | (simp only [mS_iff, eq_self, Int.reduceEq, true_and, and_true, false_and, and_false, and_self, ↓reduceIte] at *; omega), by first | omega | (simp only [mS_iff, eq_self, Int.reduceEq, true_and, and_true, false_and, and_false, and_self, ↓reduceIte]; omega) | (simp only [mS_iff, eq_self, Int.reduceEq, true_and, and_true, false_and, and_false, and_self, ↓reduceIte] at *; omega)⟩) ?_
                  refine And.intro (rfl) ?_
                  refine And.intro (rfl) ?_
                  refine And.intro (⟨rfl, by first | omega | (simp only [mS_iff, eq_self, Int.reduceEq, true_and, and_true, false_and, and_false, and_self, ↓reduceIte]; omega) | (simp only [mS_iff, eq_self, Int.reduceEq, true_and, and_true, false_and, and_false, and_self, ↓reduceIte] at *; omega)⟩) ?_
                  refine And.intro (rfl) ?_
                  refine And.intro (rfl) ?_
                  refine And.intro (⟨rfl, by first | omega | (simp only [mS_iff, eq_self, Int.reduceEq, true_and, and_true, false_and, and_false, and_self, ↓reduceIte]; omega) | (simp only [mS_iff, eq_self, Int.reduceEq, true_and, and_true, false_and, and_false, and_self, ↓reduceIte] at *; omega)⟩) ?_
                  refine And.intro (rfl) ?_
                  refine And.intro (rfl) ?_
                  refine And.intro (⟨rfl, by first | omega | (simp only [mS_iff, eq_self, Int.reduceEq, true_and, and_true, false_and, and_false, and_self, ↓reduceIte]; omega) | (simp only [mS_iff, eq_self, Int.reduceEq, true_and, and_true, false_and, and_false, and_self, ↓reduceIte] at *; omega)⟩) ?_
                  refine And.intro (rfl) ?_
                  refine And.intro (rfl) ?_
                  refine And.intro (⟨rfl, by first | omega | (simp only [mS_iff, eq_self, Int.reduceEq, true_and, and_true, false_and, and_false, and_self, ↓reduceIte]; omega) | (simp only [mS_iff, eq_self, Int.reduceEq, true_and, and_true, false_and, and_false, and_self, ↓reduceIte] at *; omega)⟩) ?_
                  refine And.intro (rfl) ?_
                  refine And.intro (rfl) ?_
                  refine And.intro (⟨rfl, by first | omega | (simp only [mS_iff, eq_self, Int.reduceEq, true_and, and_true, false_and, and_false, and_self, ↓reduceIte]; omega) | (simp only [mS_iff, eq_self, Int.reduceEq, true_and, and_true, false_and, and_false, and_self, ↓reduceIte] at *; omega)⟩) ?_
                  refine And.intro (rfl) ?_
                  refine And.intro (show -2147483648 ≤ (m 41 28) + 1 ∧ (m 41 28) + 1 ≤ 2147483647 by first | omega | (simp only [mS_iff, eq_self, Int.reduceEq, true_and, and_true, false_and, and_false, and_self, ↓reduceIte]; omega) | (simp only [mS_iff, eq_self, Int.reduceEq, true_and, and_true, false_and, and_false, and_self, ↓reduceIte] at *; omega)) ?_
                  refine And.intro (rfl) ?_
                  refine And.intro (rfl) ?_
                  refine And.intro (show -2147483648 ≤ ((m 41 28) + 1) - 1 ∧ ((m 41 28) + 1) - 1 ≤ 2147483647 by first | omega | (simp only [mS_iff, eq_self, Int.reduceEq, true_and, and_true, false_and, and_false, and_self, ↓reduceIte]; omega) | (simp only [mS_iff, eq_self, Int.reduceEq, true_and, and_true, false_and, and_false, and_self, ↓reduceIte] at *; omega)) ?_
                  have ev0 : c_per S w f mo b own = (S 0 4, sPn S w f mo b own) := by
                    unfold c_per
                    repeat' split
                    all_goals first | rfl | (exfalso; omega) | (refine Prod.ext ?_ ?_ <;> first | rfl | (show _ = _; omega))
                  rw [ev0] at hQ
                  dsimp only at hQ
                  have ok : okPn S w f mo b own := ⟨hw, by omega, by omega, dy, by omega, by omega, by omega⟩
                  show Q (.inl (some (aI (((m 41 28) + 1) - 1)))) ((mS (mS (mS (mS (mS (mS (mS m 56 (m 41 28) w) 57 (m 41 28) f) 58 (m 41 28) mo) 59 (m 41 28) b) 60 (m 41 28) 10000) 61 (m 41 28) own) 41 28 ((m 41 28) + 1)))
                  rw [show (((m 41 28) + 1) - 1) = S 0 4 by omega]
                  refine hQ _ ⟨h.pn ok (fun x j u v => by rw [mS_iff, if_neg (by omega), mS_iff, if_neg (by omega), mS_iff, if_neg (by omega), mS_iff, if_neg (by omega), mS_iff, if_neg (by omega), mS_iff, if_neg (by omega), mS_iff, if_neg (by omega)]) (by rw [mS_iff, if_pos ⟨rfl, rfl⟩]; omega) ?_, hr.up (by rw [mS_iff, if_neg (by omega), mS_iff, if_neg (by omega), mS_iff, if_neg (by omega), mS_iff, if_neg (by omega), mS_iff, if_neg (by omega), mS_iff, if_neg (by omega), mS_iff, if_neg (by omega)])⟩ (fun x j u => by rw [mS_iff, if_neg (by omega), mS_iff, if_neg (by omega), mS_iff, if_neg (by omega), mS_iff, if_neg (by omega), mS_iff, if_neg (by omega), mS_iff, if_neg (by omega), mS_iff, if_neg (by omega)])
                  rw [← q28]
                  simp only [mS_iff, eq_self, Int.reduceEq, true_and, and_true, false_and, and_false, and_self, ↓reduceIte]
                  done
                · have ev0 : c_per S w f mo b own = ((-5), S) := by
                    unfold c_per
                    repeat' split
                    all_goals first | rfl | (exfalso; omega) | (refine Prod.ext ?_ ?_ <;> first | rfl | (show _ = _; omega))
                  rw [ev0] at hQ
                  dsimp only at hQ
                  exact hQ m (hz0.fr fr) fr.1
              · refine And.intro (rfl) ?_
                refine And.intro (⟨rfl, by omega⟩) ?_
                refine And.intro (fun h67 => ?_) (fun h67 => ?_)
                · have ev0 : c_per S w f mo b own = ((-4), S) := by
                    unfold c_per
                    repeat' split
                    all_goals first | rfl | (exfalso; omega) | (refine Prod.ext ?_ ?_ <;> first | rfl | (show _ = _; omega))
                  rw [ev0] at hQ
                  dsimp only at hQ
                  exact hQ m (hz0.fr fr) fr.1
                · refine And.intro (rfl) ?_
                  refine And.intro (⟨rfl, by omega⟩) ?_
                  refine And.intro (fun h68 => ?_) (fun h68 => ?_)
                  · refine And.intro (rfl) ?_
                    refine And.intro (fun h69 => ?_) (fun h69 => ?_)
                    · refine And.intro (rfl) ?_
                      refine And.intro (rfl) ?_
                      refine And.intro (⟨rfl, by first | omega | (simp only [mS_iff, eq_self, Int.reduceEq, true_and, and_true, false_and, and_false, and_self, ↓reduceIte]; omega) | (simp only [mS_iff, eq_self, Int.reduceEq, true_and, and_true, false_and, and_false, and_self, ↓reduceIte] at *; omega), by first | omega | (simp only [mS_iff, eq_self, Int.reduceEq, true_and, and_true, false_and, and_false, and_self, ↓reduceIte]; omega) | (simp only [mS_iff, eq_self, Int.reduceEq, true_and, and_true, false_and, and_false, and_self, ↓reduceIte] at *; omega)⟩) ?_
                      refine And.intro (rfl) ?_
                      refine And.intro (rfl) ?_
                      refine And.intro (⟨rfl, by first | omega | (simp only [mS_iff, eq_self, Int.reduceEq, true_and, and_true, false_and, and_false, and_self, ↓reduceIte]; omega) | (simp only [mS_iff, eq_self, Int.reduceEq, true_and, and_true, false_and, and_false, and_self, ↓reduceIte] at *; omega)⟩) ?_
                      refine And.intro (rfl) ?_
                      refine And.intro (rfl) ?_
                      refine And.intro (⟨rfl, by first | omega | (simp only [mS_iff, eq_self, Int.reduceEq, true_and, and_true, false_and, and_false, and_self, ↓reduceIte]; omega) | (simp only [mS_iff, eq_self, Int.reduceEq, true_and, and_true, false_and, and_false, and_self, ↓reduceIte] at *; omega)⟩) ?_
                      refine And.intro (rfl) ?_
                      refine And.intro (rfl) ?_
                      refine And.intro (⟨rfl, by first | omega | (simp only [mS_iff, eq_self, Int.reduceEq, true_and, and_true, false_and, and_false, and_self, ↓reduceIte]; omega) | (simp only [mS_iff, eq_self, Int.reduceEq, true_and, and_true, false_and, and_false, and_self, ↓reduceIte] at *; omega)⟩) ?_
                      refine And.intro (rfl) ?_
                      refine And.intro (rfl) ?_
                      refine And.intro (⟨rfl, by first | omega | (simp only [mS_iff, eq_self, Int.reduceEq, true_and, and_true, false_and, and_false, and_self, ↓reduceIte]; omega) | (simp only [mS_iff, eq_self, Int.reduceEq, true_and, and_true, false_and, and_false, and_self, ↓reduceIte] at *; omega)⟩) ?_
                      refine And.intro (rfl) ?_
                      refine And.intro (rfl) ?_
                      refine And.intro (⟨rfl, by first | omega | (simp only [mS_iff, eq_self, Int.reduceEq, true_and, and_true, false_and, and_false, and_self, ↓reduceIte]; omega) | (simp only [mS_iff, eq_self, Int.reduceEq, true_and, and_true, false_and, and_false, and_self, ↓reduceIte] at *; omega)⟩) ?_
                      refine And.intro (rfl) ?_
                      refine And.intro (show -2147483648 ≤ (m 41 28) + 1 ∧ (m 41 28) + 1 ≤ 2147483647 by first | omega | (simp only [mS_iff, eq_self, Int.reduceEq, true_and, and_true, false_and, and_false, and_self, ↓reduceIte]; omega) | (simp only [mS_iff, eq_self, Int.reduceEq, true_and, and_true, false_and, and_false, and_self, ↓reduceIte] at *; omega)) ?_
                      refine And.intro (rfl) ?_
                      refine And.intro (rfl) ?_
                      refine And.intro (show -2147483648 ≤ ((m 41 28) + 1) - 1 ∧ ((m 41 28) + 1) - 1 ≤ 2147483647 by first | omega | (simp only [mS_iff, eq_self, Int.reduceEq, true_and, and_true, false_and, and_false, and_self, ↓reduceIte]; omega) | (simp only [mS_iff, eq_self, Int.reduceEq, true_and, and_true, false_and, and_false, and_self, ↓reduceIte] at *; omega)) ?_
                      have ev0 : c_per S w f mo b own = (S 0 4, sPn S w f mo b own) := by
                        unfold c_per
                        repeat' split
                        all_goals first | rfl | (exfalso; omega) | (refine Prod.ext ?_ ?_ <;> first | rfl | (show _ = _; omega))
                      rw [ev0] at hQ
                      dsimp only at hQ
                      have ok : okPn S w f mo b own := ⟨hw, by omega, by omega, dy, by omega, by omega, by omega⟩
                      show Q (.inl (some (aI (((m 41 28) + 1) - 1)))) ((mS (mS (mS (mS (mS (mS (mS m 56 (m 41 28) w) 57 (m 41 28) f) 58 (m 41 28) mo) 59 (m 41 28) b) 60 (m 41 28) 10000) 61 (m 41 28) own) 41 28 ((m 41 28) + 1)))
                      rw [show (((m 41 28) + 1) - 1) = S 0 4 by omega]
                      refine hQ _ ⟨h.pn ok (fun x j u v => by rw [mS_iff, if_neg (by omega), mS_iff, if_neg (by omega), mS_iff, if_neg (by omega), mS_iff, if_neg (by omega), mS_iff, if_neg (by omega), mS_iff, if_neg (by omega), mS_iff, if_neg (by omega)]) (by rw [mS_iff, if_pos ⟨rfl, rfl⟩]; omega) ?_, hr.up (by rw [mS_iff, if_neg (by omega), mS_iff, if_neg (by omega), mS_iff, if_neg (by omega), mS_iff, if_neg (by omega), mS_iff, if_neg (by omega), mS_iff, if_neg (by omega), mS_iff, if_neg (by omega)])⟩ (fun x j u => by rw [mS_iff, if_neg (by omega), mS_iff, if_neg (by omega), mS_iff, if_neg (by omega), mS_iff, if_neg (by omega), mS_iff, if_neg (by omega), mS_iff, if_neg (by omega), mS_iff, if_neg (by omega)])
                      rw [← q28]
                      simp only [mS_iff, eq_self, Int.reduceEq, true_and, and_true, false_and, and_false, and_self, ↓reduceIte]
                      done
                    · have ev0 : c_per S w f mo b own = ((-5), S) := by
                        unfold c_per
                        repeat' split
                        all_goals first | rfl | (exfalso; omega) | (refine Prod.ext ?_ ?_ <;> first | rfl | (show _ = _; omega))
                      rw [ev0] at hQ
                      dsimp only at hQ
                      exact hQ m (hz0.fr fr) fr.1
                  · have ev0 : c_per S w f mo b own = ((-4), S) := by
                      unfold c_per
                      repeat' split
                      all_goals first | rfl | (exfalso; omega) | (refine Prod.ext ?_ ?_ <;> first | rfl | (show _ = _; omega))
                    rw [ev0] at hQ
                    dsimp only at hQ
                    exact hQ m (hz0.fr fr) fr.1
            · refine And.intro (rfl) ?_
              refine And.intro (⟨rfl, by omega⟩) ?_
              refine And.intro (fun h70 => ?_) (fun h70 => ?_)
              · have ev0 : c_per S w f mo b own = ((-4), S) := by
                  unfold c_per
                  repeat' split
                  all_goals first | rfl | (exfalso; omega) | (refine Prod.ext ?_ ?_ <;> first | rfl | (show _ = _; omega))
                rw [ev0] at hQ
                dsimp only at hQ
                exact hQ m (hz0.fr fr) fr.1
              · refine And.intro (rfl) ?_
                refine And.intro (⟨rfl, by omega⟩) ?_
                refine And.intro (fun h71 => ?_) (fun h71 => ?_)
                · have ev0 : c_per S w f mo b own = ((-4), S) := by
                    unfold c_per
                    repeat' split
                    all_goals first | rfl | (exfalso; omega) | (refine Prod.ext ?_ ?_ <;> first | rfl | (show _ = _; omega))
                  rw [ev0] at hQ
                  dsimp only at hQ
                  exact hQ m (hz0.fr fr) fr.1
                · refine And.intro (fun h72 => ?_) (fun h72 => ?_)
                  · refine And.intro (rfl) ?_
                    refine And.intro (fun h73 => ?_) (fun h73 => ?_)
                    · refine And.intro (rfl) ?_
                      refine And.intro (rfl) ?_
                      refine And.intro (⟨rfl, by first | omega | (simp only [mS_iff, eq_self, Int.reduceEq, true_and, and_true, false_and, and_false, and_self, ↓reduceIte]; omega) | (simp only [mS_iff, eq_self, Int.reduceEq, true_and, and_true, false_and, and_false, and_self, ↓reduceIte] at *; omega), by first | omega | (simp only [mS_iff, eq_self, Int.reduceEq, true_and, and_true, false_and, and_false, and_self, ↓reduceIte]; omega) | (simp only [mS_iff, eq_self, Int.reduceEq, true_and, and_true, false_and, and_false, and_self, ↓reduceIte] at *; omega)⟩) ?_
                      refine And.intro (rfl) ?_
                      refine And.intro (rfl) ?_
                      refine And.intro (⟨rfl, by first | omega | (simp only [mS_iff, eq_self, Int.reduceEq, true_and, and_true, false_and, and_false, and_self, ↓reduceIte]; omega) | (simp only [mS_iff, eq_self, Int.reduceEq, true_and, and_true, false_and, and_false, and_self, ↓reduceIte] at *; omega)⟩) ?_
                      refine And.intro (rfl) ?_
                      refine And.intro (rfl) ?_
                      refine And.intro (⟨rfl, by first | omega | (simp only [mS_iff, eq_self, Int.reduceEq, true_and, and_true, false_and, and_false, and_self, ↓reduceIte]; omega) | (simp only [mS_iff, eq_self, Int.reduceEq, true_and, and_true, false_and, and_false, and_self, ↓reduceIte] at *; omega)⟩) ?_
                      refine And.intro (rfl) ?_
                      refine And.intro (rfl) ?_
                      refine And.intro (⟨rfl, by first | omega | (simp only [mS_iff, eq_self, Int.reduceEq, true_and, and_true, false_and, and_false, and_self, ↓reduceIte]; omega) | (simp only [mS_iff, eq_self, Int.reduceEq, true_and, and_true, false_and, and_false, and_self, ↓reduceIte] at *; omega)⟩) ?_
                      refine And.intro (rfl) ?_
                      refine And.intro (rfl) ?_
                      refine And.intro (⟨rfl, by first | omega | (simp only [mS_iff, eq_self, Int.reduceEq, true_and, and_true, false_and, and_false, and_self, ↓reduceIte]; omega) | (simp only [mS_iff, eq_self, Int.reduceEq, true_and, and_true, false_and, and_false, and_self, ↓reduceIte] at *; omega)⟩) ?_
                      refine And.intro (rfl) ?_
                      refine And.intro (rfl) ?_
                      refine And.intro (⟨rfl, by first | omega | (simp only [mS_iff, eq_self, Int.reduceEq, true_and, and_true, false_and, and_false, and_self, ↓reduceIte]; omega) | (simp only [mS_iff, eq_self, Int.reduceEq, true_and, and_true, false_and, and_false, and_self, ↓reduceIte] at *; omega)⟩) ?_
                      refine And.intro (rfl) ?_
                      refine And.intro (show -2147483648 ≤ (m 41 28) + 1 ∧ (m 41 28) + 1 ≤ 2147483647 by first | omega | (simp only [mS_iff, eq_self, Int.reduceEq, true_and, and_true, false_and, and_false, and_self, ↓reduceIte]; omega) | (simp only [mS_iff, eq_self, Int.reduceEq, true_and, and_true, false_and, and_false, and_self, ↓reduceIte] at *; omega)) ?_
                      refine And.intro (rfl) ?_
                      refine And.intro (rfl) ?_
                      refine And.intro (show -2147483648 ≤ ((m 41 28) + 1) - 1 ∧ ((m 41 28) + 1) - 1 ≤ 2147483647 by first | omega | (simp only [mS_iff, eq_self, Int.reduceEq, true_and, and_true, false_and, and_false, and_self, ↓reduceIte]; omega) | (simp only [mS_iff, eq_self, Int.reduceEq, true_and, and_true, false_and, and_false, and_self, ↓reduceIte] at *; omega)) ?_
                      have ev0 : c_per S w f mo b own = (S 0 4, sPn S w f mo b own) := by
                        unfold c_per
                        repeat' split
                        all_goals first | rfl | (exfalso; omega) | (refine Prod.ext ?_ ?_ <;> first | rfl | (show _ = _; omega))
                      rw [ev0] at hQ
                      dsimp only at hQ
                      have ok : okPn S w f mo b own := ⟨hw, by omega, by omega, dy, by omega, by omega, by omega⟩
                      show Q (.inl (some (aI (((m 41 28) + 1) - 1)))) ((mS (mS (mS (mS (mS (mS (mS m 56 (m 41 28) w) 57 (m 41 28) f) 58 (m 41 28) mo) 59 (m 41 28) b) 60 (m 41 28) 10000) 61 (m 41 28) own) 41 28 ((m 41 28) + 1)))
                      rw [show (((m 41 28) + 1) - 1) = S 0 4 by omega]
                      refine hQ _ ⟨h.pn ok (fun x j u v => by rw [mS_iff, if_neg (by omega), mS_iff, if_neg (by omega), mS_iff, if_neg (by omega), mS_iff, if_neg (by omega), mS_iff, if_neg (by omega), mS_iff, if_neg (by omega), mS_iff, if_neg (by omega)]) (by rw [mS_iff, if_pos ⟨rfl, rfl⟩]; omega) ?_, hr.up (by rw [mS_iff, if_neg (by omega), mS_iff, if_neg (by omega), mS_iff, if_neg (by omega), mS_iff, if_neg (by omega), mS_iff, if_neg (by omega), mS_iff, if_neg (by omega), mS_iff, if_neg (by omega)])⟩ (fun x j u => by rw [mS_iff, if_neg (by omega), mS_iff, if_neg (by omega), mS_iff, if_neg (by omega), mS_iff, if_neg (by omega), mS_iff, if_neg (by omega), mS_iff, if_neg (by omega), mS_iff, if_neg (by omega)])
                      rw [← q28]
                      simp only [mS_iff, eq_self, Int.reduceEq, true_and, and_true, false_and, and_false, and_self, ↓reduceIte]
                      done
                    · have ev0 : c_per S w f mo b own = ((-5), S) := by
                        unfold c_per
                        repeat' split
                        all_goals first | rfl | (exfalso; omega) | (refine Prod.ext ?_ ?_ <;> first | rfl | (show _ = _; omega))
                      rw [ev0] at hQ
                      dsimp only at hQ
                      exact hQ m (hz0.fr fr) fr.1
                  · refine And.intro (rfl) ?_
                    refine And.intro (⟨rfl, by omega⟩) ?_
                    refine And.intro (fun h74 => ?_) (fun h74 => ?_)
                    · have ev0 : c_per S w f mo b own = ((-4), S) := by
                        unfold c_per
                        repeat' split
                        all_goals first | rfl | (exfalso; omega) | (refine Prod.ext ?_ ?_ <;> first | rfl | (show _ = _; omega))
                      rw [ev0] at hQ
                      dsimp only at hQ
                      exact hQ m (hz0.fr fr) fr.1
                    · refine And.intro (rfl) ?_
                      refine And.intro (⟨rfl, by omega⟩) ?_
                      refine And.intro (fun h75 => ?_) (fun h75 => ?_)
                      · refine And.intro (rfl) ?_
                        refine And.intro (fun h76 => ?_) (fun h76 => ?_)
                        · refine And.intro (rfl) ?_
                          refine And.intro (rfl) ?_
                          refine And.intro (⟨rfl, by first | omega | (simp only [mS_iff, eq_self, Int.reduceEq, true_and, and_true, false_and, and_false, and_self, ↓reduceIte]; omega) | (simp only [mS_iff, eq_self, Int.reduceEq, true_and, and_true, false_and, and_false, and_self, ↓reduceIte] at *; omega), by first | omega | (simp only [mS_iff, eq_self, Int.reduceEq, true_and, and_true, false_and, and_false, and_self, ↓reduceIte]; omega) | (simp only [mS_iff, eq_self, Int.reduceEq, true_and, and_true, false_and, and_false, and_self, ↓reduceIte] at *; omega)⟩) ?_
                          refine And.intro (rfl) ?_
                          refine And.intro (rfl) ?_
                          refine And.intro (⟨rfl, by first | omega | (simp only [mS_iff, eq_self, Int.reduceEq, true_and, and_true, false_and, and_false, and_self, ↓reduceIte]; omega) | (simp only [mS_iff, eq_self, Int.reduceEq, true_and, and_true, false_and, and_false, and_self, ↓reduceIte] at *; omega)⟩) ?_
                          refine And.intro (rfl) ?_
                          refine And.intro (rfl) ?_
                          refine And.intro (⟨rfl, by first | omega | (simp only [mS_iff, eq_self, Int.reduceEq, true_and, and_true, false_and, and_false, and_self, ↓reduceIte]; omega) | (simp only [mS_iff, eq_self, Int.reduceEq, true_and, and_true, false_and, and_false, and_self, ↓reduceIte] at *; omega)⟩) ?_
                          refine And.intro (rfl) ?_
                          refine And.intro (rfl) ?_
                          refine And.intro (⟨rfl, by first | omega | (simp only [mS_iff, eq_self, Int.reduceEq, true_and, and_true, false_and, and_false, and_self, ↓reduceIte]; omega) | (simp only [mS_iff, eq_self, Int.reduceEq, true_and, and_true, false_and, and_false, and_self, ↓reduceIte] at *; omega)⟩) ?_
                          refine And.intro (rfl) ?_
                          refine And.intro (rfl) ?_
                          refine And.intro (⟨rfl, by first | omega | (simp only [mS_iff, eq_self, Int.reduceEq, true_and, and_true, false_and, and_false, and_self, ↓reduceIte]; omega) | (simp only [mS_iff, eq_self, Int.reduceEq, true_and, and_true, false_and, and_false, and_self, ↓reduceIte] at *; omega)⟩) ?_
                          refine And.intro (rfl) ?_
                          refine And.intro (rfl) ?_
                          refine And.intro (⟨rfl, by first | omega | (simp only [mS_iff, eq_self, Int.reduceEq, true_and, and_true, false_and, and_false, and_self, ↓reduceIte]; omega) | (simp only [mS_iff, eq_self, Int.reduceEq, true_and, and_true, false_and, and_false, and_self, ↓reduceIte] at *; omega)⟩) ?_
                          refine And.intro (rfl) ?_
                          refine And.intro (show -2147483648 ≤ (m 41 28) + 1 ∧ (m 41 28) + 1 ≤ 2147483647 by first | omega | (simp only [mS_iff, eq_self, Int.reduceEq, true_and, and_true, false_and, and_false, and_self, ↓reduceIte]; omega) | (simp only [mS_iff, eq_self, Int.reduceEq, true_and, and_true, false_and, and_false, and_self, ↓reduceIte] at *; omega)) ?_
                          refine And.intro (rfl) ?_
                          refine And.intro (rfl) ?_
                          refine And.intro (show -2147483648 ≤ ((m 41 28) + 1) - 1 ∧ ((m 41 28) + 1) - 1 ≤ 2147483647 by first | omega | (simp only [mS_iff, eq_self, Int.reduceEq, true_and, and_true, false_and, and_false, and_self, ↓reduceIte]; omega) | (simp only [mS_iff, eq_self, Int.reduceEq, true_and, and_true, false_and, and_false, and_self, ↓reduceIte] at *; omega)) ?_
                          have ev0 : c_per S w f mo b own = (S 0 4, sPn S w f mo b own) := by
                            unfold c_per
                            repeat' split
                            all_goals first | rfl | (exfalso; omega) | (refine Prod.ext ?_ ?_ <;> first | rfl | (show _ = _; omega))
                          rw [ev0] at hQ
                          dsimp only at hQ
                          have ok : okPn S w f mo b own := ⟨hw, by omega, by omega, dy, by omega, by omega, by omega⟩
                          show Q (.inl (some (aI (((m 41 28) + 1) - 1)))) ((mS (mS (mS (mS (mS (mS (mS m 56 (m 41 28) w) 57 (m 41 28) f) 58 (m 41 28) mo) 59 (m 41 28) b) 60 (m 41 28) 10000) 61 (m 41 28) own) 41 28 ((m 41 28) + 1)))
                          rw [show (((m 41 28) + 1) - 1) = S 0 4 by omega]
                          refine hQ _ ⟨h.pn ok (fun x j u v => by rw [mS_iff, if_neg (by omega), mS_iff, if_neg (by omega), mS_iff, if_neg (by omega), mS_iff, if_neg (by omega), mS_iff, if_neg (by omega), mS_iff, if_neg (by omega), mS_iff, if_neg (by omega)]) (by rw [mS_iff, if_pos ⟨rfl, rfl⟩]; omega) ?_, hr.up (by rw [mS_iff, if_neg (by omega), mS_iff, if_neg (by omega), mS_iff, if_neg (by omega), mS_iff, if_neg (by omega), mS_iff, if_neg (by omega), mS_iff, if_neg (by omega), mS_iff, if_neg (by omega)])⟩ (fun x j u => by rw [mS_iff, if_neg (by omega), mS_iff, if_neg (by omega), mS_iff, if_neg (by omega), mS_iff, if_neg (by omega), mS_iff, if_neg (by omega), mS_iff, if_neg (by omega), mS_iff, if_neg (by omega)])
                          rw [← q28]
                          simp only [mS_iff, eq_self, Int.reduceEq, true_and, and_true, false_and, and_false, and_self, ↓reduceIte]
                          done
                        · have ev0 : c_per S w f mo b own = ((-5), S) := by
                            unfold c_per
                            repeat' split
                            all_goals first | rfl | (exfalso; omega) | (refine Prod.ext ?_ ?_ <;> first | rfl | (show _ = _; omega))
                          rw [ev0] at hQ
                          dsimp only at hQ
                          exact hQ m (hz0.fr fr) fr.1
                      · have ev0 : c_per S w f mo b own = ((-4), S) := by
                          unfold c_per
                          repeat' split
                          all_goals first | rfl | (exfalso; omega) | (refine Prod.ext ?_ ?_ <;> first | rfl | (show _ = _; omega))
                        rw [ev0] at hQ
                        dsimp only at hQ
                        exact hQ m (hz0.fr fr) fr.1
          · have dn := h63
            refine And.intro (fun h => absurd h (by decide)) (fun _ => ?_)
            have ev0 : c_per S w f mo b own = ((-3), S) := by
              unfold c_per
              repeat' split
              all_goals first | rfl | (exfalso; omega) | (refine Prod.ext ?_ ?_ <;> first | rfl | (show _ = _; omega))
            rw [ev0] at hQ
            dsimp only at hQ
            exact hQ m (hz0.fr fr) fr.1
        · refine And.intro (rfl) ?_
          refine ct_222 (by omega) h (fun t3 => ?_) (fun t3 => ?_)
          · have hA3 := (hS.2.2 own t3.1 t3.2).1
            have ok3 := (hS.2.2 own t3.1 t3.2).2
            refine And.intro (fun _ => ?_) (fun h => absurd h (by decide))
            refine ct_254 (by omega) (fun h77 => ?_) (fun h77 => ?_)
            · have dy := h77
              refine And.intro (fun _ => ?_) (fun h => absurd h (by decide))
              refine And.intro (fun h78 => ?_) (fun h78 => ?_)
              · refine And.intro (fun h79 => ?_) (fun h79 => ?_)
                · refine And.intro (rfl) ?_
                  refine And.intro (fun h80 => ?_) (fun h80 => ?_)
                  · refine And.intro (rfl) ?_
                    refine And.intro (rfl) ?_
                    refine And.intro (⟨rfl, by first | omega | (simp only [mS_iff, eq_self, Int.reduceEq, true_and, and_true, false_and, and_false, and_self, ↓reduceIte]; omega) | (simp only [mS_iff, eq_self, Int.reduceEq, true_and, and_true, false_and, and_false, and_self, ↓reduceIte] at *; omega), by first | omega | (simp only [mS_iff, eq_self, Int.reduceEq, true_and, and_true, false_and, and_false, and_self, ↓reduceIte]; omega) | (simp only [mS_iff, eq_self, Int.reduceEq, true_and, and_true, false_and, and_false, and_self, ↓reduceIte] at *; omega)⟩) ?_
                    refine And.intro (rfl) ?_
                    refine And.intro (rfl) ?_
                    refine And.intro (⟨rfl, by first | omega | (simp only [mS_iff, eq_self, Int.reduceEq, true_and, and_true, false_and, and_false, and_self, ↓reduceIte]; omega) | (simp only [mS_iff, eq_self, Int.reduceEq, true_and, and_true, false_and, and_false, and_self, ↓reduceIte] at *; omega)⟩) ?_
                    refine And.intro (rfl) ?_
                    refine And.intro (rfl) ?_
                    refine And.intro (⟨rfl, by first | omega | (simp only [mS_iff, eq_self, Int.reduceEq, true_and, and_true, false_and, and_false, and_self, ↓reduceIte]; omega) | (simp only [mS_iff, eq_self, Int.reduceEq, true_and, and_true, false_and, and_false, and_self, ↓reduceIte] at *; omega)⟩) ?_
                    refine And.intro (rfl) ?_
                    refine And.intro (rfl) ?_
                    refine And.intro (⟨rfl, by first | omega | (simp only [mS_iff, eq_self, Int.reduceEq, true_and, and_true, false_and, and_false, and_self, ↓reduceIte]; omega) | (simp only [mS_iff, eq_self, Int.reduceEq, true_and, and_true, false_and, and_false, and_self, ↓reduceIte] at *; omega)⟩) ?_
                    refine And.intro (rfl) ?_
                    refine And.intro (rfl) ?_
                    refine And.intro (⟨rfl, by first | omega | (simp only [mS_iff, eq_self, Int.reduceEq, true_and, and_true, false_and, and_false, and_self, ↓reduceIte]; omega) | (simp only [mS_iff, eq_self, Int.reduceEq, true_and, and_true, false_and, and_false, and_self, ↓reduceIte] at *; omega)⟩) ?_
                    refine And.intro (rfl) ?_
                    refine And.intro (rfl) ?_
                    refine And.intro (⟨rfl, by first | omega | (simp only [mS_iff, eq_self, Int.reduceEq, true_and, and_true, false_and, and_false, and_self, ↓reduceIte]; omega) | (simp only [mS_iff, eq_self, Int.reduceEq, true_and, and_true, false_and, and_false, and_self, ↓reduceIte] at *; omega)⟩) ?_
                    refine And.intro (rfl) ?_
                    refine And.intro (show -2147483648 ≤ (m 41 28) + 1 ∧ (m 41 28) + 1 ≤ 2147483647 by first | omega | (simp only [mS_iff, eq_self, Int.reduceEq, true_and, and_true, false_and, and_false, and_self, ↓reduceIte]; omega) | (simp only [mS_iff, eq_self, Int.reduceEq, true_and, and_true, false_and, and_false, and_self, ↓reduceIte] at *; omega)) ?_
                    refine And.intro (rfl) ?_
                    refine And.intro (rfl) ?_
                    refine And.intro (show -2147483648 ≤ ((m 41 28) + 1) - 1 ∧ ((m 41 28) + 1) - 1 ≤ 2147483647 by first | omega | (simp only [mS_iff, eq_self, Int.reduceEq, true_and, and_true, false_and, and_false, and_self, ↓reduceIte]; omega) | (simp only [mS_iff, eq_self, Int.reduceEq, true_and, and_true, false_and, and_false, and_self, ↓reduceIte] at *; omega)) ?_
                    have ev0 : c_per S w f mo b own = (S 0 4, sPn S w f mo b own) := by
                      unfold c_per
                      repeat' split
                      all_goals first | rfl | (exfalso; omega) | (refine Prod.ext ?_ ?_ <;> first | rfl | (show _ = _; omega))
                    rw [ev0] at hQ
                    dsimp only at hQ
                    have ok : okPn S w f mo b own := ⟨hw, by omega, by omega, dy, by omega, by omega, by omega⟩
                    show Q (.inl (some (aI (((m 41 28) + 1) - 1)))) ((mS (mS (mS (mS (mS (mS (mS m 56 (m 41 28) w) 57 (m 41 28) f) 58 (m 41 28) mo) 59 (m 41 28) b) 60 (m 41 28) 10000) 61 (m 41 28) own) 41 28 ((m 41 28) + 1)))
                    rw [show (((m 41 28) + 1) - 1) = S 0 4 by omega]
                    refine hQ _ ⟨h.pn ok (fun x j u v => by rw [mS_iff, if_neg (by omega), mS_iff, if_neg (by omega), mS_iff, if_neg (by omega), mS_iff, if_neg (by omega), mS_iff, if_neg (by omega), mS_iff, if_neg (by omega), mS_iff, if_neg (by omega)]) (by rw [mS_iff, if_pos ⟨rfl, rfl⟩]; omega) ?_, hr.up (by rw [mS_iff, if_neg (by omega), mS_iff, if_neg (by omega), mS_iff, if_neg (by omega), mS_iff, if_neg (by omega), mS_iff, if_neg (by omega), mS_iff, if_neg (by omega), mS_iff, if_neg (by omega)])⟩ (fun x j u => by rw [mS_iff, if_neg (by omega), mS_iff, if_neg (by omega), mS_iff, if_neg (by omega), mS_iff, if_neg (by omega), mS_iff, if_neg (by omega), mS_iff, if_neg (by omega), mS_iff, if_neg (by omega)])
                    rw [← q28]
                    simp only [mS_iff, eq_self, Int.reduceEq, true_and, and_true, false_and, and_false, and_self, ↓reduceIte]
                    done
                  · have ev0 : c_per S w f mo b own = ((-5), S) := by
                      unfold c_per
                      repeat' split
                      all_goals first | rfl | (exfalso; omega) | (refine Prod.ext ?_ ?_ <;> first | rfl | (show _ = _; omega))
                    rw [ev0] at hQ
                    dsimp only at hQ
                    exact hQ m (hz0.fr fr) fr.1
                · refine And.intro (rfl) ?_
                  refine And.intro (⟨rfl, by omega⟩) ?_
                  refine And.intro (fun h81 => ?_) (fun h81 => ?_)
                  · have ev0 : c_per S w f mo b own = ((-4), S) := by
                      unfold c_per
                      repeat' split
                      all_goals first | rfl | (exfalso; omega) | (refine Prod.ext ?_ ?_ <;> first | rfl | (show _ = _; omega))
                    rw [ev0] at hQ
                    dsimp only at hQ
                    exact hQ m (hz0.fr fr) fr.1
                  · refine And.intro (rfl) ?_
                    refine And.intro (⟨rfl, by omega⟩) ?_
                    refine And.intro (fun h82 => ?_) (fun h82 => ?_)
                    · refine And.intro (rfl) ?_
                      refine And.intro (fun h83 => ?_) (fun h83 => ?_)
                      · refine And.intro (rfl) ?_
                        refine And.intro (rfl) ?_
                        refine And.intro (⟨rfl, by first | omega | (simp only [mS_iff, eq_self, Int.reduceEq, true_and, and_true, false_and, and_false, and_self, ↓reduceIte]; omega) | (simp only [mS_iff, eq_self, Int.reduceEq, true_and, and_true, false_and, and_false, and_self, ↓reduceIte] at *; omega), by first | omega | (simp only [mS_iff, eq_self, Int.reduceEq, true_and, and_true, false_and, and_false, and_self, ↓reduceIte]; omega) | (simp only [mS_iff, eq_self, Int.reduceEq, true_and, and_true, false_and, and_false, and_self, ↓reduceIte] at *; omega)⟩) ?_
                        refine And.intro (rfl) ?_
                        refine And.intro (rfl) ?_
                        refine And.intro (⟨rfl, by first | omega | (simp only [mS_iff, eq_self, Int.reduceEq, true_and, and_true, false_and, and_false, and_self, ↓reduceIte]; omega) | (simp only [mS_iff, eq_self, Int.reduceEq, true_and, and_true, false_and, and_false, and_self, ↓reduceIte] at *; omega)⟩) ?_
                        refine And.intro (rfl) ?_
                        refine And.intro (rfl) ?_
                        refine And.intro (⟨rfl, by first | omega | (simp only [mS_iff, eq_self, Int.reduceEq, true_and, and_true, false_and, and_false, and_self, ↓reduceIte]; omega) | (simp only [mS_iff, eq_self, Int.reduceEq, true_and, and_true, false_and, and_false, and_self, ↓reduceIte] at *; omega)⟩) ?_
                        refine And.intro (rfl) ?_
                        refine And.intro (rfl) ?_
                        refine And.intro (⟨rfl, by first | omega | (simp only [mS_iff, eq_self, Int.reduceEq, true_and, and_true, false_and, and_false, and_self, ↓reduceIte]; omega) | (simp only [mS_iff, eq_self, Int.reduceEq, true_and, and_true, false_and, and_false, and_self, ↓reduceIte] at *; omega)⟩) ?_
                        refine And.intro (rfl) ?_
                        refine And.intro (rfl) ?_
                        refine And.intro (⟨rfl, by first | omega | (simp only [mS_iff, eq_self, Int.reduceEq, true_and, and_true, false_and, and_false, and_self, ↓reduceIte]; omega) | (simp only [mS_iff, eq_self, Int.reduceEq, true_and, and_true, false_and, and_false, and_self, ↓reduceIte] at *; omega)⟩) ?_
                        refine And.intro (rfl) ?_
                        refine And.intro (rfl) ?_
                        refine And.intro (⟨rfl, by first | omega | (simp only [mS_iff, eq_self, Int.reduceEq, true_and, and_true, false_and, and_false, and_self, ↓reduceIte]; omega) | (simp only [mS_iff, eq_self, Int.reduceEq, true_and, and_true, false_and, and_false, and_self, ↓reduceIte] at *; omega)⟩) ?_
                        refine And.intro (rfl) ?_
                        refine And.intro (show -2147483648 ≤ (m 41 28) + 1 ∧ (m 41 28) + 1 ≤ 2147483647 by first | omega | (simp only [mS_iff, eq_self, Int.reduceEq, true_and, and_true, false_and, and_false, and_self, ↓reduceIte]; omega) | (simp only [mS_iff, eq_self, Int.reduceEq, true_and, and_true, false_and, and_false, and_self, ↓reduceIte] at *; omega)) ?_
                        refine And.intro (rfl) ?_
                        refine And.intro (rfl) ?_
                        refine And.intro (show -2147483648 ≤ ((m 41 28) + 1) - 1 ∧ ((m 41 28) + 1) - 1 ≤ 2147483647 by first | omega | (simp only [mS_iff, eq_self, Int.reduceEq, true_and, and_true, false_and, and_false, and_self, ↓reduceIte]; omega) | (simp only [mS_iff, eq_self, Int.reduceEq, true_and, and_true, false_and, and_false, and_self, ↓reduceIte] at *; omega)) ?_
                        have ev0 : c_per S w f mo b own = (S 0 4, sPn S w f mo b own) := by
                          unfold c_per
                          repeat' split
                          all_goals first | rfl | (exfalso; omega) | (refine Prod.ext ?_ ?_ <;> first | rfl | (show _ = _; omega))
                        rw [ev0] at hQ
                        dsimp only at hQ
                        have ok : okPn S w f mo b own := ⟨hw, by omega, by omega, dy, by omega, by omega, by omega⟩
                        show Q (.inl (some (aI (((m 41 28) + 1) - 1)))) ((mS (mS (mS (mS (mS (mS (mS m 56 (m 41 28) w) 57 (m 41 28) f) 58 (m 41 28) mo) 59 (m 41 28) b) 60 (m 41 28) 10000) 61 (m 41 28) own) 41 28 ((m 41 28) + 1)))
                        rw [show (((m 41 28) + 1) - 1) = S 0 4 by omega]
                        refine hQ _ ⟨h.pn ok (fun x j u v => by rw [mS_iff, if_neg (by omega), mS_iff, if_neg (by omega), mS_iff, if_neg (by omega), mS_iff, if_neg (by omega), mS_iff, if_neg (by omega), mS_iff, if_neg (by omega), mS_iff, if_neg (by omega)]) (by rw [mS_iff, if_pos ⟨rfl, rfl⟩]; omega) ?_, hr.up (by rw [mS_iff, if_neg (by omega), mS_iff, if_neg (by omega), mS_iff, if_neg (by omega), mS_iff, if_neg (by omega), mS_iff, if_neg (by omega), mS_iff, if_neg (by omega), mS_iff, if_neg (by omega)])⟩ (fun x j u => by rw [mS_iff, if_neg (by omega), mS_iff, if_neg (by omega), mS_iff, if_neg (by omega), mS_iff, if_neg (by omega), mS_iff, if_neg (by omega), mS_iff, if_neg (by omega), mS_iff, if_neg (by omega)])
                        rw [← q28]
                        simp only [mS_iff, eq_self, Int.reduceEq, true_and, and_true, false_and, and_false, and_self, ↓reduceIte]
                        done
                      · have ev0 : c_per S w f mo b own = ((-5), S) := by
                          unfold c_per
                          repeat' split
                          all_goals first | rfl | (exfalso; omega) | (refine Prod.ext ?_ ?_ <;> first | rfl | (show _ = _; omega))
                        rw [ev0] at hQ
                        dsimp only at hQ
                        exact hQ m (hz0.fr fr) fr.1
                    · have ev0 : c_per S w f mo b own = ((-4), S) := by
                        unfold c_per
                        repeat' split
                        all_goals first | rfl | (exfalso; omega) | (refine Prod.ext ?_ ?_ <;> first | rfl | (show _ = _; omega))
                      rw [ev0] at hQ
                      dsimp only at hQ
                      exact hQ m (hz0.fr fr) fr.1
              · refine And.intro (rfl) ?_
                refine And.intro (⟨rfl, by omega⟩) ?_
                refine And.intro (fun h84 => ?_) (fun h84 => ?_)
                · have ev0 : c_per S w f mo b own = ((-4), S) := by
                    unfold c_per
                    repeat' split
                    all_goals first | rfl | (exfalso; omega) | (refine Prod.ext ?_ ?_ <;> first | rfl | (show _ = _; omega))
                  rw [ev0] at hQ
                  dsimp only at hQ
                  exact hQ m (hz0.fr fr) fr.1
                · refine And.intro (rfl) ?_
                  refine And.intro (⟨rfl, by omega⟩) ?_
                  refine And.intro (fun h85 => ?_) (fun h85 => ?_)
                  · have ev0 : c_per S w f mo b own = ((-4), S) := by
                      unfold c_per
                      repeat' split
                      all_goals first | rfl | (exfalso; omega) | (refine Prod.ext ?_ ?_ <;> first | rfl | (show _ = _; omega))
                    rw [ev0] at hQ
                    dsimp only at hQ
                    exact hQ m (hz0.fr fr) fr.1
                  · refine And.intro (fun h86 => ?_) (fun h86 => ?_)
                    · refine And.intro (rfl) ?_
                      refine And.intro (fun h87 => ?_) (fun h87 => ?_)
                      · refine And.intro (rfl) ?_
                        refine And.intro (rfl) ?_
                        refine And.intro (⟨rfl, by first | omega | (simp only [mS_iff, eq_self, Int.reduceEq, true_and, and_true, false_and, and_false, and_self, ↓reduceIte]; omega) | (simp only [mS_iff, eq_self, Int.reduceEq, true_and, and_true, false_and, and_false, and_self, ↓reduceIte] at *; omega), by first | omega | (simp only [mS_iff, eq_self, Int.reduceEq, true_and, and_true, false_and, and_false, and_self, ↓reduceIte]; omega) | (simp only [mS_iff, eq_self, Int.reduceEq, true_and, and_true, false_and, and_false, and_self, ↓reduceIte] at *; omega)⟩) ?_
                        refine And.intro (rfl) ?_
                        refine And.intro (rfl) ?_
                        refine And.intro (⟨rfl, by first | omega | (simp only [mS_iff, eq_self, Int.reduceEq, true_and, and_true, false_and, and_false, and_self, ↓reduceIte]; omega) | (simp only [mS_iff, eq_self, Int.reduceEq, true_and, and_true, false_and, and_false, and_self, ↓reduceIte] at *; omega)⟩) ?_
                        refine And.intro (rfl) ?_
                        refine And.intro (rfl) ?_
                        refine And.intro (⟨rfl, by first | omega | (simp only [mS_iff, eq_self, Int.reduceEq, true_and, and_true, false_and, and_false, and_self, ↓reduceIte]; omega) | (simp only [mS_iff, eq_self, Int.reduceEq, true_and, and_true, false_and, and_false, and_self, ↓reduceIte] at *; omega)⟩) ?_
                        refine And.intro (rfl) ?_
                        refine And.intro (rfl) ?_
                        refine And.intro (⟨rfl, by first | omega | (simp only [mS_iff, eq_self, Int.reduceEq, true_and, and_true, false_and, and_false, and_self, ↓reduceIte]; omega) | (simp only [mS_iff, eq_self, Int.reduceEq, true_and, and_true, false_and, and_false, and_self, ↓reduceIte] at *; omega)⟩) ?_
                        refine And.intro (rfl) ?_
                        refine And.intro (rfl) ?_
                        refine And.intro (⟨rfl, by first | omega | (simp only [mS_iff, eq_self, Int.reduceEq, true_and, and_true, false_and, and_false, and_self, ↓reduceIte]; omega) | (simp only [mS_iff, eq_self, Int.reduceEq, true_and, and_true, false_and, and_false, and_self, ↓reduceIte] at *; omega)⟩) ?_
                        refine And.intro (rfl) ?_
                        refine And.intro (rfl) ?_
                        refine And.intro (⟨rfl, by first | omega | (simp only [mS_iff, eq_self, Int.reduceEq, true_and, and_true, false_and, and_false, and_self, ↓reduceIte]; omega) | (simp only [mS_iff, eq_self, Int.reduceEq, true_and, and_true, false_and, and_false, and_self, ↓reduceIte] at *; omega)⟩) ?_
                        refine And.intro (rfl) ?_
                        refine And.intro (show -2147483648 ≤ (m 41 28) + 1 ∧ (m 41 28) + 1 ≤ 2147483647 by first | omega | (simp only [mS_iff, eq_self, Int.reduceEq, true_and, and_true, false_and, and_false, and_self, ↓reduceIte]; omega) | (simp only [mS_iff, eq_self, Int.reduceEq, true_and, and_true, false_and, and_false, and_self, ↓reduceIte] at *; omega)) ?_
                        refine And.intro (rfl) ?_
                        refine And.intro (rfl) ?_
                        refine And.intro (show -2147483648 ≤ ((m 41 28) + 1) - 1 ∧ ((m 41 28) + 1) - 1 ≤ 2147483647 by first | omega | (simp only [mS_iff, eq_self, Int.reduceEq, true_and, and_true, false_and, and_false, and_self, ↓reduceIte]; omega) | (simp only [mS_iff, eq_self, Int.reduceEq, true_and, and_true, false_and, and_false, and_self, ↓reduceIte] at *; omega)) ?_
                        have ev0 : c_per S w f mo b own = (S 0 4, sPn S w f mo b own) := by
                          unfold c_per
                          repeat' split
                          all_goals first | rfl | (exfalso; omega) | (refine Prod.ext ?_ ?_ <;> first | rfl | (show _ = _; omega))
                        rw [ev0] at hQ
                        dsimp only at hQ
                        have ok : okPn S w f mo b own := ⟨hw, by omega, by omega, dy, by omega, by omega, by omega⟩
                        show Q (.inl (some (aI (((m 41 28) + 1) - 1)))) ((mS (mS (mS (mS (mS (mS (mS m 56 (m 41 28) w) 57 (m 41 28) f) 58 (m 41 28) mo) 59 (m 41 28) b) 60 (m 41 28) 10000) 61 (m 41 28) own) 41 28 ((m 41 28) + 1)))
                        rw [show (((m 41 28) + 1) - 1) = S 0 4 by omega]
                        refine hQ _ ⟨h.pn ok (fun x j u v => by rw [mS_iff, if_neg (by omega), mS_iff, if_neg (by omega), mS_iff, if_neg (by omega), mS_iff, if_neg (by omega), mS_iff, if_neg (by omega), mS_iff, if_neg (by omega), mS_iff, if_neg (by omega)]) (by rw [mS_iff, if_pos ⟨rfl, rfl⟩]; omega) ?_, hr.up (by rw [mS_iff, if_neg (by omega), mS_iff, if_neg (by omega), mS_iff, if_neg (by omega), mS_iff, if_neg (by omega), mS_iff, if_neg (by omega), mS_iff, if_neg (by omega), mS_iff, if_neg (by omega)])⟩ (fun x j u => by rw [mS_iff, if_neg (by omega), mS_iff, if_neg (by omega), mS_iff, if_neg (by omega), mS_iff, if_neg (by omega), mS_iff, if_neg (by omega), mS_iff, if_neg (by omega), mS_iff, if_neg (by omega)])
                        rw [← q28]
                        simp only [mS_iff, eq_self, Int.reduceEq, true_and, and_true, false_and, and_false, and_self, ↓reduceIte]
                        done
                      · have ev0 : c_per S w f mo b own = ((-5), S) := by
                          unfold c_per
                          repeat' split
                          all_goals first | rfl | (exfalso; omega) | (refine Prod.ext ?_ ?_ <;> first | rfl | (show _ = _; omega))
                        rw [ev0] at hQ
                        dsimp only at hQ
                        exact hQ m (hz0.fr fr) fr.1
                    · refine And.intro (rfl) ?_
                      refine And.intro (⟨rfl, by omega⟩) ?_
                      refine And.intro (fun h88 => ?_) (fun h88 => ?_)
                      · have ev0 : c_per S w f mo b own = ((-4), S) := by
                          unfold c_per
                          repeat' split
                          all_goals first | rfl | (exfalso; omega) | (refine Prod.ext ?_ ?_ <;> first | rfl | (show _ = _; omega))
                        rw [ev0] at hQ
                        dsimp only at hQ
                        exact hQ m (hz0.fr fr) fr.1
                      · refine And.intro (rfl) ?_
                        refine And.intro (⟨rfl, by omega⟩) ?_
                        refine And.intro (fun h89 => ?_) (fun h89 => ?_)
                        · refine And.intro (rfl) ?_
                          refine And.intro (fun h90 => ?_) (fun h90 => ?_)
                          · refine And.intro (rfl) ?_
                            refine And.intro (rfl) ?_
                            refine And.intro (⟨rfl, by first | omega | (simp only [mS_iff, eq_self, Int.reduceEq, true_and, and_true, false_and, and_false, and_self, ↓reduceIte]; omega) | (simp only [mS_iff, eq_self, Int.reduceEq, true_and, and_true, false_and, and_false, and_self, ↓reduceIte] at *; omega), by first | omega | (simp only [mS_iff, eq_self, Int.reduceEq, true_and, and_true, false_and, and_false, and_self, ↓reduceIte]; omega) | (simp only [mS_iff, eq_self, Int.reduceEq, true_and, and_true, false_and, and_false, and_self, ↓reduceIte] at *; omega)⟩) ?_
                            refine And.intro (rfl) ?_
                            refine And.intro (rfl) ?_
                            refine And.intro (⟨rfl, by first | omega | (simp only [mS_iff, eq_self, Int.reduceEq, true_and, and_true, false_and, and_false, and_self, ↓reduceIte]; omega) | (simp only [mS_iff, eq_self, Int.reduceEq, true_and, and_true, false_and, and_false, and_self, ↓reduceIte] at *; omega)⟩) ?_
                            refine And.intro (rfl) ?_
                            refine And.intro (rfl) ?_
                            refine And.intro (⟨rfl, by first | omega | (simp only [mS_iff, eq_self, Int.reduceEq, true_and, and_true, false_and, and_false, and_self, ↓reduceIte]; omega) | (simp only [mS_iff, eq_self, Int.reduceEq, true_and, and_true, false_and, and_false, and_self, ↓reduceIte] at *; omega)⟩) ?_
                            refine And.intro (rfl) ?_
                            refine And.intro (rfl) ?_
                            refine And.intro (⟨rfl, by first | omega | (simp only [mS_iff, eq_self, Int.reduceEq, true_and, and_true, false_and, and_false, and_self, ↓reduceIte]; omega) | (simp only [mS_iff, eq_self, Int.reduceEq, true_and, and_true, false_and, and_false, and_self, ↓reduceIte] at *; omega)⟩) ?_
                            refine And.intro (rfl) ?_
                            refine And.intro (rfl) ?_
                            refine And.intro (⟨rfl, by first | omega | (simp only [mS_iff, eq_self, Int.reduceEq, true_and, and_true, false_and, and_false, and_self, ↓reduceIte]; omega) | (simp only [mS_iff, eq_self, Int.reduceEq, true_and, and_true, false_and, and_false, and_self, ↓reduceIte] at *; omega)⟩) ?_
                            refine And.intro (rfl) ?_
                            refine And.intro (rfl) ?_
                            refine And.intro (⟨rfl, by first | omega | (simp only [mS_iff, eq_self, Int.reduceEq, true_and, and_true, false_and, and_false, and_self, ↓reduceIte]; omega) | (simp only [mS_iff, eq_self, Int.reduceEq, true_and, and_true, false_and, and_false, and_self, ↓reduceIte] at *; omega)⟩) ?_
                            refine And.intro (rfl) ?_
                            refine And.intro (show -2147483648 ≤ (m 41 28) + 1 ∧ (m 41 28) + 1 ≤ 2147483647 by first | omega | (simp only [mS_iff, eq_self, Int.reduceEq, true_and, and_true, false_and, and_false, and_self, ↓reduceIte]; omega) | (simp only [mS_iff, eq_self, Int.reduceEq, true_and, and_true, false_and, and_false, and_self, ↓reduceIte] at *; omega)) ?_
                            refine And.intro (rfl) ?_
                            refine And.intro (rfl) ?_
                            refine And.intro (show -2147483648 ≤ ((m 41 28) + 1) - 1 ∧ ((m 41 28) + 1) - 1 ≤ 2147483647 by first | omega | (simp only [mS_iff, eq_self, Int.reduceEq, true_and, and_true, false_and, and_false, and_self, ↓reduceIte]; omega) | (simp only [mS_iff, eq_self, Int.reduceEq, true_and, and_true, false_and, and_false, and_self, ↓reduceIte] at *; omega)) ?_
                            have ev0 : c_per S w f mo b own = (S 0 4, sPn S w f mo b own) := by
                              unfold c_per
                              repeat' split
                              all_goals first | rfl | (exfalso; omega) | (refine Prod.ext ?_ ?_ <;> first | rfl | (show _ = _; omega))
                            rw [ev0] at hQ
                            dsimp only at hQ
                            have ok : okPn S w f mo b own := ⟨hw, by omega, by omega, dy, by omega, by omega, by omega⟩
                            show Q (.inl (some (aI (((m 41 28) + 1) - 1)))) ((mS (mS (mS (mS (mS (mS (mS m 56 (m 41 28) w) 57 (m 41 28) f) 58 (m 41 28) mo) 59 (m 41 28) b) 60 (m 41 28) 10000) 61 (m 41 28) own) 41 28 ((m 41 28) + 1)))
                            rw [show (((m 41 28) + 1) - 1) = S 0 4 by omega]
                            refine hQ _ ⟨h.pn ok (fun x j u v => by rw [mS_iff, if_neg (by omega), mS_iff, if_neg (by omega), mS_iff, if_neg (by omega), mS_iff, if_neg (by omega), mS_iff, if_neg (by omega), mS_iff, if_neg (by omega), mS_iff, if_neg (by omega)]) (by rw [mS_iff, if_pos ⟨rfl, rfl⟩]; omega) ?_, hr.up (by rw [mS_iff, if_neg (by omega), mS_iff, if_neg (by omega), mS_iff, if_neg (by omega), mS_iff, if_neg (by omega), mS_iff, if_neg (by omega), mS_iff, if_neg (by omega), mS_iff, if_neg (by omega)])⟩ (fun x j u => by rw [mS_iff, if_neg (by omega), mS_iff, if_neg (by omega), mS_iff, if_neg (by omega), mS_iff, if_neg (by omega), mS_iff, if_neg (by omega), mS_iff, if_neg (by omega), mS_iff, if_neg (by omega)])
                            rw [← q28]
                            simp only [mS_iff, eq_self, Int.reduceEq, true_and, and_true, false_and, and_false, and_self, ↓reduceIte]
                            done
                          · have ev0 : c_per S w f mo b own = ((-5), S) := by
                              unfold c_per
                              repeat' split
                              all_goals first | rfl | (exfalso; omega) | (refine Prod.ext ?_ ?_ <;> first | rfl | (show _ = _; omega))
                            rw [ev0] at hQ
                            dsimp only at hQ
                            exact hQ m (hz0.fr fr) fr.1
                        · have ev0 : c_per S w f mo b own = ((-4), S) := by
                            unfold c_per
                            repeat' split
                            all_goals first | rfl | (exfalso; omega) | (refine Prod.ext ?_ ?_ <;> first | rfl | (show _ = _; omega))
                          rw [ev0] at hQ
                          dsimp only at hQ
                          exact hQ m (hz0.fr fr) fr.1
            · have dn := h77
              refine And.intro (fun h => absurd h (by decide)) (fun _ => ?_)
              have ev0 : c_per S w f mo b own = ((-3), S) := by
                unfold c_per
                repeat' split
                all_goals first | rfl | (exfalso; omega) | (refine Prod.ext ?_ ?_ <;> first | rfl | (show _ = _; omega))
              rw [ev0] at hQ
              dsimp only at hQ
              exact hQ m (hz0.fr fr) fr.1
          · refine And.intro (fun h => absurd h (by decide)) (fun _ => ?_)
            have ev0 : c_per S w f mo b own = ((-2), S) := by
              unfold c_per
              repeat' split
              all_goals first | rfl | (exfalso; omega) | (refine Prod.ext ?_ ?_ <;> first | rfl | (show _ = _; omega))
            rw [ev0] at hQ
            dsimp only at hQ
            exact hQ m (hz0.fr fr) fr.1
      · refine And.intro (rfl) ?_
        refine ct_253 (by omega) h (fun tmo => ?_) (fun tmo => ?_)
        · obtain ⟨xmo1, xmo2, xmo3, xmo4, xmo5, xmo6⟩ := h.2.2.2.1.2.2 mo tmo.1 tmo.2
          have ymo := (h.2.2.2.1.1.2 mo tmo.1 tmo.2).1
          refine And.intro (fun h => absurd h (by decide)) (fun _ => ?_)
          refine And.intro (fun h91 => ?_) (fun h91 => ?_)
          · refine ct_254 (by omega) (fun h92 => ?_) (fun h92 => ?_)
            · have dy := h92
              refine And.intro (fun _ => ?_) (fun h => absurd h (by decide))
              refine And.intro (fun h93 => ?_) (fun h93 => ?_)
              · refine And.intro (fun h94 => ?_) (fun h94 => ?_)
                · refine And.intro (rfl) ?_
                  refine And.intro (fun h95 => ?_) (fun h95 => ?_)
                  · refine And.intro (rfl) ?_
                    refine And.intro (rfl) ?_
                    refine And.intro (⟨rfl, by first | omega | (simp only [mS_iff, eq_self, Int.reduceEq, true_and, and_true, false_and, and_false, and_self, ↓reduceIte]; omega) | (simp only [mS_iff, eq_self, Int.reduceEq, true_and, and_true, false_and, and_false, and_self, ↓reduceIte] at *; omega), by first | omega | (simp only [mS_iff, eq_self, Int.reduceEq, true_and, and_true, false_and, and_false, and_self, ↓reduceIte]; omega) | (simp only [mS_iff, eq_self, Int.reduceEq, true_and, and_true, false_and, and_false, and_self, ↓reduceIte] at *; omega)⟩) ?_
                    refine And.intro (rfl) ?_
                    refine And.intro (rfl) ?_
                    refine And.intro (⟨rfl, by first | omega | (simp only [mS_iff, eq_self, Int.reduceEq, true_and, and_true, false_and, and_false, and_self, ↓reduceIte]; omega) | (simp only [mS_iff, eq_self, Int.reduceEq, true_and, and_true, false_and, and_false, and_self, ↓reduceIte] at *; omega)⟩) ?_
                    refine And.intro (rfl) ?_
                    refine And.intro (rfl) ?_
                    refine And.intro (⟨rfl, by first | omega | (simp only [mS_iff, eq_self, Int.reduceEq, true_and, and_true, false_and, and_false, and_self, ↓reduceIte]; omega) | (simp only [mS_iff, eq_self, Int.reduceEq, true_and, and_true, false_and, and_false, and_self, ↓reduceIte] at *; omega)⟩) ?_
                    refine And.intro (rfl) ?_
                    refine And.intro (rfl) ?_
                    refine And.intro (⟨rfl, by first | omega | (simp only [mS_iff, eq_self, Int.reduceEq, true_and, and_true, false_and, and_false, and_self, ↓reduceIte]; omega) | (simp only [mS_iff, eq_self, Int.reduceEq, true_and, and_true, false_and, and_false, and_self, ↓reduceIte] at *; omega)⟩) ?_
                    refine And.intro (rfl) ?_
                    refine And.intro (rfl) ?_
                    refine And.intro (⟨rfl, by first | omega | (simp only [mS_iff, eq_self, Int.reduceEq, true_and, and_true, false_and, and_false, and_self, ↓reduceIte]; omega) | (simp only [mS_iff, eq_self, Int.reduceEq, true_and, and_true, false_and, and_false, and_self, ↓reduceIte] at *; omega)⟩) ?_
                    refine And.intro (rfl) ?_
                    refine And.intro (rfl) ?_
                    refine And.intro (⟨rfl, by first | omega | (simp only [mS_iff, eq_self, Int.reduceEq, true_and, and_true, false_and, and_false, and_self, ↓reduceIte]; omega) | (simp only [mS_iff, eq_self, Int.reduceEq, true_and, and_true, false_and, and_false, and_self, ↓reduceIte] at *; omega)⟩) ?_
                    refine And.intro (rfl) ?_
                    refine And.intro (show -2147483648 ≤ (m 41 28) + 1 ∧ (m 41 28) + 1 ≤ 2147483647 by first | omega | (simp only [mS_iff, eq_self, Int.reduceEq, true_and, and_true, false_and, and_false, and_self, ↓reduceIte]; omega) | (simp only [mS_iff, eq_self, Int.reduceEq, true_and, and_true, false_and, and_false, and_self, ↓reduceIte] at *; omega)) ?_
                    refine And.intro (rfl) ?_
                    refine And.intro (rfl) ?_
                    refine And.intro (show -2147483648 ≤ ((m 41 28) + 1) - 1 ∧ ((m 41 28) + 1) - 1 ≤ 2147483647 by first | omega | (simp only [mS_iff, eq_self, Int.reduceEq, true_and, and_true, false_and, and_false, and_self, ↓reduceIte]; omega) | (simp only [mS_iff, eq_self, Int.reduceEq, true_and, and_true, false_and, and_false, and_self, ↓reduceIte] at *; omega)) ?_
                    have ev0 : c_per S w f mo b own = (S 0 4, sPn S w f mo b own) := by
                      unfold c_per
                      repeat' split
                      all_goals first | rfl | (exfalso; omega) | (refine Prod.ext ?_ ?_ <;> first | rfl | (show _ = _; omega))
                    rw [ev0] at hQ
                    dsimp only at hQ
                    have ok : okPn S w f mo b own := ⟨hw, by omega, by omega, dy, by omega, by omega, by omega⟩
                    show Q (.inl (some (aI (((m 41 28) + 1) - 1)))) ((mS (mS (mS (mS (mS (mS (mS m 56 (m 41 28) w) 57 (m 41 28) f) 58 (m 41 28) mo) 59 (m 41 28) b) 60 (m 41 28) 10000) 61 (m 41 28) own) 41 28 ((m 41 28) + 1)))
                    rw [show (((m 41 28) + 1) - 1) = S 0 4 by omega]
                    refine hQ _ ⟨h.pn ok (fun x j u v => by rw [mS_iff, if_neg (by omega), mS_iff, if_neg (by omega), mS_iff, if_neg (by omega), mS_iff, if_neg (by omega), mS_iff, if_neg (by omega), mS_iff, if_neg (by omega), mS_iff, if_neg (by omega)]) (by rw [mS_iff, if_pos ⟨rfl, rfl⟩]; omega) ?_, hr.up (by rw [mS_iff, if_neg (by omega), mS_iff, if_neg (by omega), mS_iff, if_neg (by omega), mS_iff, if_neg (by omega), mS_iff, if_neg (by omega), mS_iff, if_neg (by omega), mS_iff, if_neg (by omega)])⟩ (fun x j u => by rw [mS_iff, if_neg (by omega), mS_iff, if_neg (by omega), mS_iff, if_neg (by omega), mS_iff, if_neg (by omega), mS_iff, if_neg (by omega), mS_iff, if_neg (by omega), mS_iff, if_neg (by omega)])
                    rw [← q28]
                    simp only [mS_iff, eq_self, Int.reduceEq, true_and, and_true, false_and, and_false, and_self, ↓reduceIte]
                    done
                  · have ev0 : c_per S w f mo b own = ((-5), S) := by
                      unfold c_per
                      repeat' split
                      all_goals first | rfl | (exfalso; omega) | (refine Prod.ext ?_ ?_ <;> first | rfl | (show _ = _; omega))
                    rw [ev0] at hQ
                    dsimp only at hQ
                    exact hQ m (hz0.fr fr) fr.1
                · refine And.intro (rfl) ?_
                  refine And.intro (⟨rfl, by omega⟩) ?_
                  refine And.intro (fun h96 => ?_) (fun h96 => ?_)
                  · have ev0 : c_per S w f mo b own = ((-4), S) := by
                      unfold c_per
                      repeat' split
                      all_goals first | rfl | (exfalso; omega) | (refine Prod.ext ?_ ?_ <;> first | rfl | (show _ = _; omega))
                    rw [ev0] at hQ
                    dsimp only at hQ
                    exact hQ m (hz0.fr fr) fr.1
                  · refine And.intro (rfl) ?_
                    refine And.intro (⟨rfl, by omega⟩) ?_
                    refine And.intro (fun h97 => ?_) (fun h97 => ?_)
                    · refine And.intro (rfl) ?_
                      refine And.intro (fun h98 => ?_) (fun h98 => ?_)
                      · refine And.intro (rfl) ?_
                        refine And.intro (rfl) ?_
                        refine And.intro (⟨rfl, by first | omega | (simp only [mS_iff, eq_self, Int.reduceEq, true_and, and_true, false_and, and_false, and_self, ↓reduceIte]; omega) | (simp only [mS_iff, eq_self, Int.reduceEq, true_and, and_true, false_and, and_false, and_self, ↓reduceIte] at *; omega), by first | omega | (simp only [mS_iff, eq_self, Int.reduceEq, true_and, and_true, false_and, and_false, and_self, ↓reduceIte]; omega) | (simp only [mS_iff, eq_self, Int.reduceEq, true_and, and_true, false_and, and_false, and_self, ↓reduceIte] at *; omega)⟩) ?_
                        refine And.intro (rfl) ?_
                        refine And.intro (rfl) ?_
                        refine And.intro (⟨rfl, by first | omega | (simp only [mS_iff, eq_self, Int.reduceEq, true_and, and_true, false_and, and_false, and_self, ↓reduceIte]; omega) | (simp only [mS_iff, eq_self, Int.reduceEq, true_and, and_true, false_and, and_false, and_self, ↓reduceIte] at *; omega)⟩) ?_
                        refine And.intro (rfl) ?_
                        refine And.intro (rfl) ?_
                        refine And.intro (⟨rfl, by first | omega | (simp only [mS_iff, eq_self, Int.reduceEq, true_and, and_true, false_and, and_false, and_self, ↓reduceIte]; omega) | (simp only [mS_iff, eq_self, Int.reduceEq, true_and, and_true, false_and, and_false, and_self, ↓reduceIte] at *; omega)⟩) ?_
                        refine And.intro (rfl) ?_
                        refine And.intro (rfl) ?_
                        refine And.intro (⟨rfl, by first | omega | (simp only [mS_iff, eq_self, Int.reduceEq, true_and, and_true, false_and, and_false, and_self, ↓reduceIte]; omega) | (simp only [mS_iff, eq_self, Int.reduceEq, true_and, and_true, false_and, and_false, and_self, ↓reduceIte] at *; omega)⟩) ?_
                        refine And.intro (rfl) ?_
                        refine And.intro (rfl) ?_
                        refine And.intro (⟨rfl, by first | omega | (simp only [mS_iff, eq_self, Int.reduceEq, true_and, and_true, false_and, and_false, and_self, ↓reduceIte]; omega) | (simp only [mS_iff, eq_self, Int.reduceEq, true_and, and_true, false_and, and_false, and_self, ↓reduceIte] at *; omega)⟩) ?_
                        refine And.intro (rfl) ?_
                        refine And.intro (rfl) ?_
                        refine And.intro (⟨rfl, by first | omega | (simp only [mS_iff, eq_self, Int.reduceEq, true_and, and_true, false_and, and_false, and_self, ↓reduceIte]; omega) | (simp only [mS_iff, eq_self, Int.reduceEq, true_and, and_true, false_and, and_false, and_self, ↓reduceIte] at *; omega)⟩) ?_
                        refine And.intro (rfl) ?_
                        refine And.intro (show -2147483648 ≤ (m 41 28) + 1 ∧ (m 41 28) + 1 ≤ 2147483647 by first | omega | (simp only [mS_iff, eq_self, Int.reduceEq, true_and, and_true, false_and, and_false, and_self, ↓reduceIte]; omega) | (simp only [mS_iff, eq_self, Int.reduceEq, true_and, and_true, false_and, and_false, and_self, ↓reduceIte] at *; omega)) ?_
                        refine And.intro (rfl) ?_
                        refine And.intro (rfl) ?_
                        refine And.intro (show -2147483648 ≤ ((m 41 28) + 1) - 1 ∧ ((m 41 28) + 1) - 1 ≤ 2147483647 by first | omega | (simp only [mS_iff, eq_self, Int.reduceEq, true_and, and_true, false_and, and_false, and_self, ↓reduceIte]; omega) | (simp only [mS_iff, eq_self, Int.reduceEq, true_and, and_true, false_and, and_false, and_self, ↓reduceIte] at *; omega)) ?_
                        have ev0 : c_per S w f mo b own = (S 0 4, sPn S w f mo b own) := by
                          unfold c_per
                          repeat' split
                          all_goals first | rfl | (exfalso; omega) | (refine Prod.ext ?_ ?_ <;> first | rfl | (show _ = _; omega))
                        rw [ev0] at hQ
                        dsimp only at hQ
                        have ok : okPn S w f mo b own := ⟨hw, by omega, by omega, dy, by omega, by omega, by omega⟩
                        show Q (.inl (some (aI (((m 41 28) + 1) - 1)))) ((mS (mS (mS (mS (mS (mS (mS m 56 (m 41 28) w) 57 (m 41 28) f) 58 (m 41 28) mo) 59 (m 41 28) b) 60 (m 41 28) 10000) 61 (m 41 28) own) 41 28 ((m 41 28) + 1)))
                        rw [show (((m 41 28) + 1) - 1) = S 0 4 by omega]
                        refine hQ _ ⟨h.pn ok (fun x j u v => by rw [mS_iff, if_neg (by omega), mS_iff, if_neg (by omega), mS_iff, if_neg (by omega), mS_iff, if_neg (by omega), mS_iff, if_neg (by omega), mS_iff, if_neg (by omega), mS_iff, if_neg (by omega)]) (by rw [mS_iff, if_pos ⟨rfl, rfl⟩]; omega) ?_, hr.up (by rw [mS_iff, if_neg (by omega), mS_iff, if_neg (by omega), mS_iff, if_neg (by omega), mS_iff, if_neg (by omega), mS_iff, if_neg (by omega), mS_iff, if_neg (by omega), mS_iff, if_neg (by omega)])⟩ (fun x j u => by rw [mS_iff, if_neg (by omega), mS_iff, if_neg (by omega), mS_iff, if_neg (by omega), mS_iff, if_neg (by omega), mS_iff, if_neg (by omega), mS_iff, if_neg (by omega), mS_iff, if_neg (by omega)])
                        rw [← q28]
                        simp only [mS_iff, eq_self, Int.reduceEq, true_and, and_true, false_and, and_false, and_self, ↓reduceIte]
                        done
                      · have ev0 : c_per S w f mo b own = ((-5), S) := by
                          unfold c_per
                          repeat' split
                          all_goals first | rfl | (exfalso; omega) | (refine Prod.ext ?_ ?_ <;> first | rfl | (show _ = _; omega))
                        rw [ev0] at hQ
                        dsimp only at hQ
                        exact hQ m (hz0.fr fr) fr.1
                    · have ev0 : c_per S w f mo b own = ((-4), S) := by
                        unfold c_per
                        repeat' split
                        all_goals first | rfl | (exfalso; omega) | (refine Prod.ext ?_ ?_ <;> first | rfl | (show _ = _; omega))
                      rw [ev0] at hQ
                      dsimp only at hQ
                      exact hQ m (hz0.fr fr) fr.1
              · refine And.intro (rfl) ?_
                refine And.intro (⟨rfl, by omega⟩) ?_
                refine And.intro (fun h99 => ?_) (fun h99 => ?_)
                · have ev0 : c_per S w f mo b own = ((-4), S) := by
                    unfold c_per
                    repeat' split
                    all_goals first | rfl | (exfalso; omega) | (refine Prod.ext ?_ ?_ <;> first | rfl | (show _ = _; omega))
                  rw [ev0] at hQ
                  dsimp only at hQ
                  exact hQ m (hz0.fr fr) fr.1
                · refine And.intro (rfl) ?_
                  refine And.intro (⟨rfl, by omega⟩) ?_
                  refine And.intro (fun h100 => ?_) (fun h100 => ?_)
                  · have ev0 : c_per S w f mo b own = ((-4), S) := by
                      unfold c_per
                      repeat' split
                      all_goals first | rfl | (exfalso; omega) | (refine Prod.ext ?_ ?_ <;> first | rfl | (show _ = _; omega))
                    rw [ev0] at hQ
                    dsimp only at hQ
                    exact hQ m (hz0.fr fr) fr.1
                  · refine And.intro (fun h101 => ?_) (fun h101 => ?_)
                    · refine And.intro (rfl) ?_
                      refine And.intro (fun h102 => ?_) (fun h102 => ?_)
                      · refine And.intro (rfl) ?_
                        refine And.intro (rfl) ?_
                        refine And.intro (⟨rfl, by first | omega | (simp only [mS_iff, eq_self, Int.reduceEq, true_and, and_true, false_and, and_false, and_self, ↓reduceIte]; omega) | (simp only [mS_iff, eq_self, Int.reduceEq, true_and, and_true, false_and, and_false, and_self, ↓reduceIte] at *; omega), by first | omega | (simp only [mS_iff, eq_self, Int.reduceEq, true_and, and_true, false_and, and_false, and_self, ↓reduceIte]; omega) | (simp only [mS_iff, eq_self, Int.reduceEq, true_and, and_true, false_and, and_false, and_self, ↓reduceIte] at *; omega)⟩) ?_
                        refine And.intro (rfl) ?_
                        refine And.intro (rfl) ?_
                        refine And.intro (⟨rfl, by first | omega | (simp only [mS_iff, eq_self, Int.reduceEq, true_and, and_true, false_and, and_false, and_self, ↓reduceIte]; omega) | (simp only [mS_iff, eq_self, Int.reduceEq, true_and, and_true, false_and, and_false, and_self, ↓reduceIte] at *; omega)⟩) ?_
                        refine And.intro (rfl) ?_
                        refine And.intro (rfl) ?_
                        refine And.intro (⟨rfl, by first | omega | (simp only [mS_iff, eq_self, Int.reduceEq, true_and, and_true, false_and, and_false, and_self, ↓reduceIte]; omega) | (simp only [mS_iff, eq_self, Int.reduceEq, true_and, and_true, false_and, and_false, and_self, ↓reduceIte] at *; omega)⟩) ?_
                        refine And.intro (rfl) ?_
                        refine And.intro (rfl) ?_
                        refine And.intro (⟨rfl, by first | omega | (simp only [mS_iff, eq_self, Int.reduceEq, true_and, and_true, false_and, and_false, and_self, ↓reduceIte]; omega) | (simp only [mS_iff, eq_self, Int.reduceEq, true_and, and_true, false_and, and_false, and_self, ↓reduceIte] at *; omega)⟩) ?_
                        refine And.intro (rfl) ?_
                        refine And.intro (rfl) ?_
                        refine And.intro (⟨rfl, by first | omega | (simp only [mS_iff, eq_self, Int.reduceEq, true_and, and_true, false_and, and_false, and_self, ↓reduceIte]; omega) | (simp only [mS_iff, eq_self, Int.reduceEq, true_and, and_true, false_and, and_false, and_self, ↓reduceIte] at *; omega)⟩) ?_
                        refine And.intro (rfl) ?_
                        refine And.intro (rfl) ?_
                        refine And.intro (⟨rfl, by first | omega | (simp only [mS_iff, eq_self, Int.reduceEq, true_and, and_true, false_and, and_false, and_self, ↓reduceIte]; omega) | (simp only [mS_iff, eq_self, Int.reduceEq, true_and, and_true, false_and, and_false, and_self, ↓reduceIte] at *; omega)⟩) ?_
                        refine And.intro (rfl) ?_
                        refine And.intro (show -2147483648 ≤ (m 41 28) + 1 ∧ (m 41 28) + 1 ≤ 2147483647 by first | omega | (simp only [mS_iff, eq_self, Int.reduceEq, true_and, and_true, false_and, and_false, and_self, ↓reduceIte]; omega) | (simp only [mS_iff, eq_self, Int.reduceEq, true_and, and_true, false_and, and_false, and_self, ↓reduceIte] at *; omega)) ?_
                        refine And.intro (rfl) ?_
                        refine And.intro (rfl) ?_
                        refine And.intro (show -2147483648 ≤ ((m 41 28) + 1) - 1 ∧ ((m 41 28) + 1) - 1 ≤ 2147483647 by first | omega | (simp only [mS_iff, eq_self, Int.reduceEq, true_and, and_true, false_and, and_false, and_self, ↓reduceIte]; omega) | (simp only [mS_iff, eq_self, Int.reduceEq, true_and, and_true, false_and, and_false, and_self, ↓reduceIte] at *; omega)) ?_
                        have ev0 : c_per S w f mo b own = (S 0 4, sPn S w f mo b own) := by
                          unfold c_per
                          repeat' split
                          all_goals first | rfl | (exfalso; omega) | (refine Prod.ext ?_ ?_ <;> first | rfl | (show _ = _; omega))
                        rw [ev0] at hQ
                        dsimp only at hQ
                        have ok : okPn S w f mo b own := ⟨hw, by omega, by omega, dy, by omega, by omega, by omega⟩
                        show Q (.inl (some (aI (((m 41 28) + 1) - 1)))) ((mS (mS (mS (mS (mS (mS (mS m 56 (m 41 28) w) 57 (m 41 28) f) 58 (m 41 28) mo) 59 (m 41 28) b) 60 (m 41 28) 10000) 61 (m 41 28) own) 41 28 ((m 41 28) + 1)))
                        rw [show (((m 41 28) + 1) - 1) = S 0 4 by omega]
                        refine hQ _ ⟨h.pn ok (fun x j u v => by rw [mS_iff, if_neg (by omega), mS_iff, if_neg (by omega), mS_iff, if_neg (by omega), mS_iff, if_neg (by omega), mS_iff, if_neg (by omega), mS_iff, if_neg (by omega), mS_iff, if_neg (by omega)]) (by rw [mS_iff, if_pos ⟨rfl, rfl⟩]; omega) ?_, hr.up (by rw [mS_iff, if_neg (by omega), mS_iff, if_neg (by omega), mS_iff, if_neg (by omega), mS_iff, if_neg (by omega), mS_iff, if_neg (by omega), mS_iff, if_neg (by omega), mS_iff, if_neg (by omega)])⟩ (fun x j u => by rw [mS_iff, if_neg (by omega), mS_iff, if_neg (by omega), mS_iff, if_neg (by omega), mS_iff, if_neg (by omega), mS_iff, if_neg (by omega), mS_iff, if_neg (by omega), mS_iff, if_neg (by omega)])
                        rw [← q28]
                        simp only [mS_iff, eq_self, Int.reduceEq, true_and, and_true, false_and, and_false, and_self, ↓reduceIte]
                        done
                      · have ev0 : c_per S w f mo b own = ((-5), S) := by
                          unfold c_per
                          repeat' split
                          all_goals first | rfl | (exfalso; omega) | (refine Prod.ext ?_ ?_ <;> first | rfl | (show _ = _; omega))
                        rw [ev0] at hQ
                        dsimp only at hQ
                        exact hQ m (hz0.fr fr) fr.1
                    · refine And.intro (rfl) ?_
                      refine And.intro (⟨rfl, by omega⟩) ?_
                      refine And.intro (fun h103 => ?_) (fun h103 => ?_)
                      · have ev0 : c_per S w f mo b own = ((-4), S) := by
                          unfold c_per
                          repeat' split
                          all_goals first | rfl | (exfalso; omega) | (refine Prod.ext ?_ ?_ <;> first | rfl | (show _ = _; omega))
                        rw [ev0] at hQ
                        dsimp only at hQ
                        exact hQ m (hz0.fr fr) fr.1
                      · refine And.intro (rfl) ?_
                        refine And.intro (⟨rfl, by omega⟩) ?_
                        refine And.intro (fun h104 => ?_) (fun h104 => ?_)
                        · refine And.intro (rfl) ?_
                          refine And.intro (fun h105 => ?_) (fun h105 => ?_)
                          · refine And.intro (rfl) ?_
                            refine And.intro (rfl) ?_
                            refine And.intro (⟨rfl, by first | omega | (simp only [mS_iff, eq_self, Int.reduceEq, true_and, and_true, false_and, and_false, and_self, ↓reduceIte]; omega) | (simp only [mS_iff, eq_self, Int.reduceEq, true_and, and_true, false_and, and_false, and_self, ↓reduceIte] at *; omega), by first | omega | (simp only [mS_iff, eq_self, Int.reduceEq, true_and, and_true, false_and, and_false, and_self, ↓reduceIte]; omega) | (simp only [mS_iff, eq_self, Int.reduceEq, true_and, and_true, false_and, and_false, and_self, ↓reduceIte] at *; omega)⟩) ?_
                            refine And.intro (rfl) ?_
                            refine And.intro (rfl) ?_
                            refine And.intro (⟨rfl, by first | omega | (simp only [mS_iff, eq_self, Int.reduceEq, true_and, and_true, false_and, and_false, and_self, ↓reduceIte]; omega) | (simp only [mS_iff, eq_self, Int.reduceEq, true_and, and_true, false_and, and_false, and_self, ↓reduceIte] at *; omega)⟩) ?_
                            refine And.intro (rfl) ?_
                            refine And.intro (rfl) ?_
                            refine And.intro (⟨rfl, by first | omega | (simp only [mS_iff, eq_self, Int.reduceEq, true_and, and_true, false_and, and_false, and_self, ↓reduceIte]; omega) | (simp only [mS_iff, eq_self, Int.reduceEq, true_and, and_true, false_and, and_false, and_self, ↓reduceIte] at *; omega)⟩) ?_
                            refine And.intro (rfl) ?_
                            refine And.intro (rfl) ?_
                            refine And.intro (⟨rfl, by first | omega | (simp only [mS_iff, eq_self, Int.reduceEq, true_and, and_true, false_and, and_false, and_self, ↓reduceIte]; omega) | (simp only [mS_iff, eq_self, Int.reduceEq, true_and, and_true, false_and, and_false, and_self, ↓reduceIte] at *; omega)⟩) ?_
                            refine And.intro (rfl) ?_
                            refine And.intro (rfl) ?_
                            refine And.intro (⟨rfl, by first | omega | (simp only [mS_iff, eq_self, Int.reduceEq, true_and, and_true, false_and, and_false, and_self, ↓reduceIte]; omega) | (simp only [mS_iff, eq_self, Int.reduceEq, true_and, and_true, false_and, and_false, and_self, ↓reduceIte] at *; omega)⟩) ?_
                            refine And.intro (rfl) ?_
                            refine And.intro (rfl) ?_
                            refine And.intro (⟨rfl, by first | omega | (simp only [mS_iff, eq_self, Int.reduceEq, true_and, and_true, false_and, and_false, and_self, ↓reduceIte]; omega) | (simp only [mS_iff, eq_self, Int.reduceEq, true_and, and_true, false_and, and_false, and_self, ↓reduceIte] at *; omega)⟩) ?_
                            refine And.intro (rfl) ?_
                            refine And.intro (show -2147483648 ≤ (m 41 28) + 1 ∧ (m 41 28) + 1 ≤ 2147483647 by first | omega | (simp only [mS_iff, eq_self, Int.reduceEq, true_and, and_true, false_and, and_false, and_self, ↓reduceIte]; omega) | (simp only [mS_iff, eq_self, Int.reduceEq, true_and, and_true, false_and, and_false, and_self, ↓reduceIte] at *; omega)) ?_
                            refine And.intro (rfl) ?_
                            refine And.intro (rfl) ?_
                            refine And.intro (show -2147483648 ≤ ((m 41 28) + 1) - 1 ∧ ((m 41 28) + 1) - 1 ≤ 2147483647 by first | omega | (simp only [mS_iff, eq_self, Int.reduceEq, true_and, and_true, false_and, and_false, and_self, ↓reduceIte]; omega) | (simp only [mS_iff, eq_self, Int.reduceEq, true_and, and_true, false_and, and_false, and_self, ↓reduceIte] at *; omega)) ?_
                            have ev0 : c_per S w f mo b own = (S 0 4, sPn S w f mo b own) := by
                              unfold c_per
                              repeat' split
                              all_goals first | rfl | (exfalso; omega) | (refine Prod.ext ?_ ?_ <;> first | rfl | (show _ = _; omega))
                            rw [ev0] at hQ
                            dsimp only at hQ
                            have ok : okPn S w f mo b own := ⟨hw, by omega, by omega, dy, by omega, by omega, by omega⟩
                            show Q (.inl (some (aI (((m 41 28) + 1) - 1)))) ((mS (mS (mS (mS (mS (mS (mS m 56 (m 41 28) w) 57 (m 41 28) f) 58 (m 41 28) mo) 59 (m 41 28) b) 60 (m 41 28) 10000) 61 (m 41 28) own) 41 28 ((m 41 28) + 1)))
                            rw [show (((m 41 28) + 1) - 1) = S 0 4 by omega]
                            refine hQ _ ⟨h.pn ok (fun x j u v => by rw [mS_iff, if_neg (by omega), mS_iff, if_neg (by omega), mS_iff, if_neg (by omega), mS_iff, if_neg (by omega), mS_iff, if_neg (by omega), mS_iff, if_neg (by omega), mS_iff, if_neg (by omega)]) (by rw [mS_iff, if_pos ⟨rfl, rfl⟩]; omega) ?_, hr.up (by rw [mS_iff, if_neg (by omega), mS_iff, if_neg (by omega), mS_iff, if_neg (by omega), mS_iff, if_neg (by omega), mS_iff, if_neg (by omega), mS_iff, if_neg (by omega), mS_iff, if_neg (by omega)])⟩ (fun x j u => by rw [mS_iff, if_neg (by omega), mS_iff, if_neg (by omega), mS_iff, if_neg (by omega), mS_iff, if_neg (by omega), mS_iff, if_neg (by omega), mS_iff, if_neg (by omega), mS_iff, if_neg (by omega)])
                            rw [← q28]
                            simp only [mS_iff, eq_self, Int.reduceEq, true_and, and_true, false_and, and_false, and_self, ↓reduceIte]
                            done
                          · have ev0 : c_per S w f mo b own = ((-5), S) := by
                              unfold c_per
                              repeat' split
                              all_goals first | rfl | (exfalso; omega) | (refine Prod.ext ?_ ?_ <;> first | rfl | (show _ = _; omega))
                            rw [ev0] at hQ
                            dsimp only at hQ
                            exact hQ m (hz0.fr fr) fr.1
                        · have ev0 : c_per S w f mo b own = ((-4), S) := by
                            unfold c_per
                            repeat' split
                            all_goals first | rfl | (exfalso; omega) | (refine Prod.ext ?_ ?_ <;> first | rfl | (show _ = _; omega))
                          rw [ev0] at hQ
                          dsimp only at hQ
                          exact hQ m (hz0.fr fr) fr.1
            · have dn := h92
              refine And.intro (fun h => absurd h (by decide)) (fun _ => ?_)
              have ev0 : c_per S w f mo b own = ((-3), S) := by
                unfold c_per
                repeat' split
                all_goals first | rfl | (exfalso; omega) | (refine Prod.ext ?_ ?_ <;> first | rfl | (show _ = _; omega))
              rw [ev0] at hQ
              dsimp only at hQ
              exact hQ m (hz0.fr fr) fr.1
          · refine And.intro (rfl) ?_
            refine ct_222 (by omega) h (fun t3 => ?_) (fun t3 => ?_)
            · have hA3 := (hS.2.2 own t3.1 t3.2).1
              have ok3 := (hS.2.2 own t3.1 t3.2).2
              refine And.intro (fun _ => ?_) (fun h => absurd h (by decide))
              refine ct_254 (by omega) (fun h106 => ?_) (fun h106 => ?_)
              · have dy := h106
                refine And.intro (fun _ => ?_) (fun h => absurd h (by decide))
                refine And.intro (fun h107 => ?_) (fun h107 => ?_)
                · refine And.intro (fun h108 => ?_) (fun h108 => ?_)
                  · refine And.intro (rfl) ?_
                    refine And.intro (fun h109 => ?_) (fun h109 => ?_)
                    · refine And.intro (rfl) ?_
                      refine And.intro (rfl) ?_
                      refine And.intro (⟨rfl, by first | omega | (simp only [mS_iff, eq_self, Int.reduceEq, true_and, and_true, false_and, and_false, and_self, ↓reduceIte]; omega) | (simp only [mS_iff, eq_self, Int.reduceEq, true_and, and_true, false_and, and_false, and_self, ↓reduceIte] at *; omega), by first | omega | (simp only [mS_iff, eq_self, Int.reduceEq, true_and, and_true, false_and, and_false, and_self, ↓reduceIte]; omega) | (simp only [mS_iff, eq_self, Int.reduceEq, true_and, and_true, false_and, and_false, and_self, ↓reduceIte] at *; omega)⟩) ?_
                      refine And.intro (rfl) ?_
                      refine And.intro (rfl) ?_
                      refine And.intro (⟨rfl, by first | omega | (simp only [mS_iff, eq_self, Int.reduceEq, true_and, and_true, false_and, and_false, and_self, ↓reduceIte]; omega) | (simp only [mS_iff, eq_self, Int.reduceEq, true_and, and_true, false_and, and_false, and_self, ↓reduceIte] at *; omega)⟩) ?_
                      refine And.intro (rfl) ?_
                      refine And.intro (rfl) ?_
                      refine And.intro (⟨rfl, by first | omega | (simp only [mS_iff, eq_self, Int.reduceEq, true_and, and_true, false_and, and_false, and_self, ↓reduceIte]; omega) | (simp only [mS_iff, eq_self, Int.reduceEq, true_and, and_true, false_and, and_false, and_self, ↓reduceIte] at *; omega)⟩) ?_
                      refine And.intro (rfl) ?_
                      refine And.intro (rfl) ?_
                      refine And.intro (⟨rfl, by first | omega | (simp only [mS_iff, eq_self, Int.reduceEq, true_and, and_true, false_and, and_false, and_self, ↓reduceIte]; omega) | (simp only [mS_iff, eq_self, Int.reduceEq, true_and, and_true, false_and, and_false, and_self, ↓reduceIte] at *; omega)⟩) ?_
                      refine And.intro (rfl) ?_
                      refine And.intro (rfl) ?_
                      refine And.intro (⟨rfl, by first | omega | (simp only [mS_iff, eq_self, Int.reduceEq, true_and, and_true, false_and, and_false, and_self, ↓reduceIte]; omega) | (simp only [mS_iff, eq_self, Int.reduceEq, true_and, and_true, false_and, and_false, and_self, ↓reduceIte] at *; omega)⟩) ?_
                      refine And.intro (rfl) ?_
                      refine And.intro (rfl) ?_
                      refine And.intro (⟨rfl, by first | omega | (simp only [mS_iff, eq_self, Int.reduceEq, true_and, and_true, false_and, and_false, and_self, ↓reduceIte]; omega) | (simp only [mS_iff, eq_self, Int.reduceEq, true_and, and_true, false_and, and_false, and_self, ↓reduceIte] at *; omega)⟩) ?_
                      refine And.intro (rfl) ?_
                      refine And.intro (show -2147483648 ≤ (m 41 28) + 1 ∧ (m 41 28) + 1 ≤ 2147483647 by first | omega | (simp only [mS_iff, eq_self, Int.reduceEq, true_and, and_true, false_and, and_false, and_self, ↓reduceIte]; omega) | (simp only [mS_iff, eq_self, Int.reduceEq, true_and, and_true, false_and, and_false, and_self, ↓reduceIte] at *; omega)) ?_
                      refine And.intro (rfl) ?_
                      refine And.intro (rfl) ?_
                      refine And.intro (show -2147483648 ≤ ((m 41 28) + 1) - 1 ∧ ((m 41 28) + 1) - 1 ≤ 2147483647 by first | omega | (simp only [mS_iff, eq_self, Int.reduceEq, true_and, and_true, false_and, and_false, and_self, ↓reduceIte]; omega) | (simp only [mS_iff, eq_self, Int.reduceEq, true_and, and_true, false_and, and_false, and_self, ↓reduceIte] at *; omega)) ?_
                      have ev0 : c_per S w f mo b own = (S 0 4, sPn S w f mo b own) := by
                        unfold c_per
                        repeat' split
                        all_goals first | rfl | (exfalso; omega) | (refine Prod.ext ?_ ?_ <;> first | rfl | (show _ = _; omega))
                      rw [ev0] at hQ
                      dsimp only at hQ
                      have ok : okPn S w f mo b own := ⟨hw, by omega, by omega, dy, by omega, by omega, by omega⟩
                      show Q (.inl (some (aI (((m 41 28) + 1) - 1)))) ((mS (mS (mS (mS (mS (mS (mS m 56 (m 41 28) w) 57 (m 41 28) f) 58 (m 41 28) mo) 59 (m 41 28) b) 60 (m 41 28) 10000) 61 (m 41 28) own) 41 28 ((m 41 28) + 1)))
                      rw [show (((m 41 28) + 1) - 1) = S 0 4 by omega]
                      refine hQ _ ⟨h.pn ok (fun x j u v => by rw [mS_iff, if_neg (by omega), mS_iff, if_neg (by omega), mS_iff, if_neg (by omega), mS_iff, if_neg (by omega), mS_iff, if_neg (by omega), mS_iff, if_neg (by omega), mS_iff, if_neg (by omega)]) (by rw [mS_iff, if_pos ⟨rfl, rfl⟩]; omega) ?_, hr.up (by rw [mS_iff, if_neg (by omega), mS_iff, if_neg (by omega), mS_iff, if_neg (by omega), mS_iff, if_neg (by omega), mS_iff, if_neg (by omega), mS_iff, if_neg (by omega), mS_iff, if_neg (by omega)])⟩ (fun x j u => by rw [mS_iff, if_neg (by omega), mS_iff, if_neg (by omega), mS_iff, if_neg (by omega), mS_iff, if_neg (by omega), mS_iff, if_neg (by omega), mS_iff, if_neg (by omega), mS_iff, if_neg (by omega)])
                      rw [← q28]
                      simp only [mS_iff, eq_self, Int.reduceEq, true_and, and_true, false_and, and_false, and_self, ↓reduceIte]
                      done
                    · have ev0 : c_per S w f mo b own = ((-5), S) := by
                        unfold c_per
                        repeat' split
                        all_goals first | rfl | (exfalso; omega) | (refine Prod.ext ?_ ?_ <;> first | rfl | (show _ = _; omega))
                      rw [ev0] at hQ
                      dsimp only at hQ
                      exact hQ m (hz0.fr fr) fr.1
                  · refine And.intro (rfl) ?_
                    refine And.intro (⟨rfl, by omega⟩) ?_
                    refine And.intro (fun h110 => ?_) (fun h110 => ?_)
                    · have ev0 : c_per S w f mo b own = ((-4), S) := by
                        unfold c_per
                        repeat' split
                        all_goals first | rfl | (exfalso; omega) | (refine Prod.ext ?_ ?_ <;> first | rfl | (show _ = _; omega))
                      rw [ev0] at hQ
                      dsimp only at hQ
                      exact hQ m (hz0.fr fr) fr.1
                    · refine And.intro (rfl) ?_
                      refine And.intro (⟨rfl, by omega⟩) ?_
                      refine And.intro (fun h111 => ?_) (fun h111 => ?_)
                      · refine And.intro (rfl) ?_
                        refine And.intro (fun h112 => ?_) (fun h112 => ?_)
                        · refine And.intro (rfl) ?_
                          refine And.intro (rfl) ?_
                          refine And.intro (⟨rfl, by first | omega | (simp only [mS_iff, eq_self, Int.reduceEq, true_and, and_true, false_and, and_false, and_self, ↓reduceIte]; omega) | (simp only [mS_iff, eq_self, Int.reduceEq, true_and, and_true, false_and, and_false, and_self, ↓reduceIte] at *; omega), by first | omega | (simp only [mS_iff, eq_self, Int.reduceEq, true_and, and_true, false_and, and_false, and_self, ↓reduceIte]; omega) | (simp only [mS_iff, eq_self, Int.reduceEq, true_and, and_true, false_and, and_false, and_self, ↓reduceIte] at *; omega)⟩) ?_
                          refine And.intro (rfl) ?_
                          refine And.intro (rfl) ?_
                          refine And.intro (⟨rfl, by first | omega | (simp only [mS_iff, eq_self, Int.reduceEq, true_and, and_true, false_and, and_false, and_self, ↓reduceIte]; omega) | (simp only [mS_iff, eq_self, Int.reduceEq, true_and, and_true, false_and, and_false, and_self, ↓reduceIte] at *; omega)⟩) ?_
                          refine And.intro (rfl) ?_
                          refine And.intro (rfl) ?_
                          refine And.intro (⟨rfl, by first | omega | (simp only [mS_iff, eq_self, Int.reduceEq, true_and, and_true, false_and, and_false, and_self, ↓reduceIte]; omega) | (simp only [mS_iff, eq_self, Int.reduceEq, true_and, and_true, false_and, and_false, and_self, ↓reduceIte] at *; omega)⟩) ?_
                          refine And.intro (rfl) ?_
                          refine And.intro (rfl) ?_
                          refine And.intro (⟨rfl, by first | omega | (simp only [mS_iff, eq_self, Int.reduceEq, true_and, and_true, false_and, and_false, and_self, ↓reduceIte]; omega) | (simp only [mS_iff, eq_self, Int.reduceEq, true_and, and_true, false_and, and_false, and_self, ↓reduceIte] at *; omega)⟩) ?_
                          refine And.intro (rfl) ?_
                          refine And.intro (rfl) ?_
                          refine And.intro (⟨rfl, by first | omega | (simp only [mS_iff, eq_self, Int.reduceEq, true_and, and_true, false_and, and_false, and_self, ↓reduceIte]; omega) | (simp only [mS_iff, eq_self, Int.reduceEq, true_and, and_true, false_and, and_false, and_self, ↓reduceIte] at *; omega)⟩) ?_
                          refine And.intro (rfl) ?_
                          refine And.intro (rfl) ?_
                          refine And.intro (⟨rfl, by first | omega | (simp only [mS_iff, eq_self, Int.reduceEq, true_and, and_true, false_and, and_false, and_self, ↓reduceIte]; omega) | (simp only [mS_iff, eq_self, Int.reduceEq, true_and, and_true, false_and, and_false, and_self, ↓reduceIte] at *; omega)⟩) ?_
                          refine And.intro (rfl) ?_
                          refine And.intro (show -2147483648 ≤ (m 41 28) + 1 ∧ (m 41 28) + 1 ≤ 2147483647 by first | omega | (simp only [mS_iff, eq_self, Int.reduceEq, true_and, and_true, false_and, and_false, and_self, ↓reduceIte]; omega) | (simp only [mS_iff, eq_self, Int.reduceEq, true_and, and_true, false_and, and_false, and_self, ↓reduceIte] at *; omega)) ?_
                          refine And.intro (rfl) ?_
                          refine And.intro (rfl) ?_
                          refine And.intro (show -2147483648 ≤ ((m 41 28) + 1) - 1 ∧ ((m 41 28) + 1) - 1 ≤ 2147483647 by first | omega | (simp only [mS_iff, eq_self, Int.reduceEq, true_and, and_true, false_and, and_false, and_self, ↓reduceIte]; omega) | (simp only [mS_iff, eq_self, Int.reduceEq, true_and, and_true, false_and, and_false, and_self, ↓reduceIte] at *; omega)) ?_
                          have ev0 : c_per S w f mo b own = (S 0 4, sPn S w f mo b own) := by
                            unfold c_per
                            repeat' split
                            all_goals first | rfl | (exfalso; omega) | (refine Prod.ext ?_ ?_ <;> first | rfl | (show _ = _; omega))
                          rw [ev0] at hQ
                          dsimp only at hQ
                          have ok : okPn S w f mo b own := ⟨hw, by omega, by omega, dy, by omega, by omega, by omega⟩
                          show Q (.inl (some (aI (((m 41 28) + 1) - 1)))) ((mS (mS (mS (mS (mS (mS (mS m 56 (m 41 28) w) 57 (m 41 28) f) 58 (m 41 28) mo) 59 (m 41 28) b) 60 (m 41 28) 10000) 61 (m 41 28) own) 41 28 ((m 41 28) + 1)))
                          rw [show (((m 41 28) + 1) - 1) = S 0 4 by omega]
                          refine hQ _ ⟨h.pn ok (fun x j u v => by rw [mS_iff, if_neg (by omega), mS_iff, if_neg (by omega), mS_iff, if_neg (by omega), mS_iff, if_neg (by omega), mS_iff, if_neg (by omega), mS_iff, if_neg (by omega), mS_iff, if_neg (by omega)]) (by rw [mS_iff, if_pos ⟨rfl, rfl⟩]; omega) ?_, hr.up (by rw [mS_iff, if_neg (by omega), mS_iff, if_neg (by omega), mS_iff, if_neg (by omega), mS_iff, if_neg (by omega), mS_iff, if_neg (by omega), mS_iff, if_neg (by omega), mS_iff, if_neg (by omega)])⟩ (fun x j u => by rw [mS_iff, if_neg (by omega), mS_iff, if_neg (by omega), mS_iff, if_neg (by omega), mS_iff, if_neg (by omega), mS_iff, if_neg (by omega), mS_iff, if_neg (by omega), mS_iff, if_neg (by omega)])
                          rw [← q28]
                          simp only [mS_iff, eq_self, Int.reduceEq, true_and, and_true, false_and, and_false, and_self, ↓reduceIte]
                          done
                        · have ev0 : c_per S w f mo b own = ((-5), S) := by
                            unfold c_per
                            repeat' split
                            all_goals first | rfl | (exfalso; omega) | (refine Prod.ext ?_ ?_ <;> first | rfl | (show _ = _; omega))
                          rw [ev0] at hQ
                          dsimp only at hQ
                          exact hQ m (hz0.fr fr) fr.1
                      · have ev0 : c_per S w f mo b own = ((-4), S) := by
                          unfold c_per
                          repeat' split
                          all_goals first | rfl | (exfalso; omega) | (refine Prod.ext ?_ ?_ <;> first | rfl | (show _ = _; omega))
                        rw [ev0] at hQ
                        dsimp only at hQ
                        exact hQ m (hz0.fr fr) fr.1
                · refine And.intro (rfl) ?_
                  refine And.intro (⟨rfl, by omega⟩) ?_
                  refine And.intro (fun h113 => ?_) (fun h113 => ?_)
                  · have ev0 : c_per S w f mo b own = ((-4), S) := by
                      unfold c_per
                      repeat' split
                      all_goals first | rfl | (exfalso; omega) | (refine Prod.ext ?_ ?_ <;> first | rfl | (show _ = _; omega))
                    rw [ev0] at hQ
                    dsimp only at hQ
                    exact hQ m (hz0.fr fr) fr.1
                  · refine And.intro (rfl) ?_
                    refine And.intro (⟨rfl, by omega⟩) ?_
                    refine And.intro (fun h114 => ?_) (fun h114 => ?_)
                    · have ev0 : c_per S w f mo b own = ((-4), S) := by
                        unfold c_per
                        repeat' split
                        all_goals first | rfl | (exfalso; omega) | (refine Prod.ext ?_ ?_ <;> first | rfl | (show _ = _; omega))
                      rw [ev0] at hQ
                      dsimp only at hQ
                      exact hQ m (hz0.fr fr) fr.1
                    · refine And.intro (fun h115 => ?_) (fun h115 => ?_)
                      · refine And.intro (rfl) ?_
                        refine And.intro (fun h116 => ?_) (fun h116 => ?_)
                        · refine And.intro (rfl) ?_
                          refine And.intro (rfl) ?_
                          refine And.intro (⟨rfl, by first | omega | (simp only [mS_iff, eq_self, Int.reduceEq, true_and, and_true, false_and, and_false, and_self, ↓reduceIte]; omega) | (simp only [mS_iff, eq_self, Int.reduceEq, true_and, and_true, false_and, and_false, and_self, ↓reduceIte] at *; omega), by first | omega | (simp only [mS_iff, eq_self, Int.reduceEq, true_and, and_true, false_and, and_false, and_self, ↓reduceIte]; omega) | (simp only [mS_iff, eq_self, Int.reduceEq, true_and, and_true, false_and, and_false, and_self, ↓reduceIte] at *; omega)⟩) ?_
                          refine And.intro (rfl) ?_
                          refine And.intro (rfl) ?_
                          refine And.intro (⟨rfl, by first | omega | (simp only [mS_iff, eq_self, Int.reduceEq, true_and, and_true, false_and, and_false, and_self, ↓reduceIte]; omega) | (simp only [mS_iff, eq_self, Int.reduceEq, true_and, and_true, false_and, and_false, and_self, ↓reduceIte] at *; omega)⟩) ?_
                          refine And.intro (rfl) ?_
                          refine And.intro (rfl) ?_
                          refine And.intro (⟨rfl, by first | omega | (simp only [mS_iff, eq_self, Int.reduceEq, true_and, and_true, false_and, and_false, and_self, ↓reduceIte]; omega) | (simp only [mS_iff, eq_self, Int.reduceEq, true_and, and_true, false_and, and_false, and_self, ↓reduceIte] at *; omega)⟩) ?_
                          refine And.intro (rfl) ?_
                          refine And.intro (rfl) ?_
                          refine And.intro (⟨rfl, by first | omega | (simp only [mS_iff, eq_self, Int.reduceEq, true_and, and_true, false_and, and_false, and_self, ↓reduceIte]; omega) | (simp only [mS_iff, eq_self, Int.reduceEq, true_and, and_true, false_and, and_false, and_self, ↓reduceIte] at *; omega)⟩) ?_
                          refine And.intro (rfl) ?_
                          refine And.intro (rfl) ?_
                          refine And.intro (⟨rfl, by first | omega | (simp only [mS_iff, eq_self, Int.reduceEq, true_and, and_true, false_and, and_false, and_self, ↓reduceIte]; omega) | (simp only [mS_iff, eq_self, Int.reduceEq, true_and, and_true, false_and, and_false, and_self, ↓reduceIte] at *; omega)⟩) ?_
                          refine And.intro (rfl) ?_
                          refine And.intro (rfl) ?_
                          refine And.intro (⟨rfl, by first | omega | (simp only [mS_iff, eq_self, Int.reduceEq, true_and, and_true, false_and, and_false, and_self, ↓reduceIte]; omega) | (simp only [mS_iff, eq_self, Int.reduceEq, true_and, and_true, false_and, and_false, and_self, ↓reduceIte] at *; omega)⟩) ?_
                          refine And.intro (rfl) ?_
                          refine And.intro (show -2147483648 ≤ (m 41 28) + 1 ∧ (m 41 28) + 1 ≤ 2147483647 by first | omega | (simp only [mS_iff, eq_self, Int.reduceEq, true_and, and_true, false_and, and_false, and_self, ↓reduceIte]; omega) | (simp only [mS_iff, eq_self, Int.reduceEq, true_and, and_true, false_and, and_false, and_self, ↓reduceIte] at *; omega)) ?_
                          refine And.intro (rfl) ?_
                          refine And.intro (rfl) ?_
                          refine And.intro (show -2147483648 ≤ ((m 41 28) + 1) - 1 ∧ ((m 41 28) + 1) - 1 ≤ 2147483647 by first | omega | (simp only [mS_iff, eq_self, Int.reduceEq, true_and, and_true, false_and, and_false, and_self, ↓reduceIte]; omega) | (simp only [mS_iff, eq_self, Int.reduceEq, true_and, and_true, false_and, and_false, and_self, ↓reduceIte] at *; omega)) ?_
                          have ev0 : c_per S w f mo b own = (S 0 4, sPn S w f mo b own) := by
                            unfold c_per
                            repeat' split
                            all_goals first | rfl | (exfalso; omega) | (refine Prod.ext ?_ ?_ <;> first | rfl | (show _ = _; omega))
                          rw [ev0] at hQ
                          dsimp only at hQ
                          have ok : okPn S w f mo b own := ⟨hw, by omega, by omega, dy, by omega, by omega, by omega⟩
                          show Q (.inl (some (aI (((m 41 28) + 1) - 1)))) ((mS (mS (mS (mS (mS (mS (mS m 56 (m 41 28) w) 57 (m 41 28) f) 58 (m 41 28) mo) 59 (m 41 28) b) 60 (m 41 28) 10000) 61 (m 41 28) own) 41 28 ((m 41 28) + 1)))
                          rw [show (((m 41 28) + 1) - 1) = S 0 4 by omega]
                          refine hQ _ ⟨h.pn ok (fun x j u v => by rw [mS_iff, if_neg (by omega), mS_iff, if_neg (by omega), mS_iff, if_neg (by omega), mS_iff, if_neg (by omega), mS_iff, if_neg (by omega), mS_iff, if_neg (by omega), mS_iff, if_neg (by omega)]) (by rw [mS_iff, if_pos ⟨rfl, rfl⟩]; omega) ?_, hr.up (by rw [mS_iff, if_neg (by omega), mS_iff, if_neg (by omega), mS_iff, if_neg (by omega), mS_iff, if_neg (by omega), mS_iff, if_neg (by omega), mS_iff, if_neg (by omega), mS_iff, if_neg (by omega)])⟩ (fun x j u => by rw [mS_iff, if_neg (by omega), mS_iff, if_neg (by omega), mS_iff, if_neg (by omega), mS_iff, if_neg (by omega), mS_iff, if_neg (by omega), mS_iff, if_neg (by omega), mS_iff, if_neg (by omega)])
                          rw [← q28]
                          simp only [mS_iff, eq_self, Int.reduceEq, true_and, and_true, false_and, and_false, and_self, ↓reduceIte]
                          done
                        · have ev0 : c_per S w f mo b own = ((-5), S) := by
                            unfold c_per
                            repeat' split
                            all_goals first | rfl | (exfalso; omega) | (refine Prod.ext ?_ ?_ <;> first | rfl | (show _ = _; omega))
                          rw [ev0] at hQ
                          dsimp only at hQ
                          exact hQ m (hz0.fr fr) fr.1
                      · refine And.intro (rfl) ?_
                        refine And.intro (⟨rfl, by omega⟩) ?_
                        refine And.intro (fun h117 => ?_) (fun h117 => ?_)
                        · have ev0 : c_per S w f mo b own = ((-4), S) := by
                            unfold c_per
                            repeat' split
                            all_goals first | rfl | (exfalso; omega) | (refine Prod.ext ?_ ?_ <;> first | rfl | (show _ = _; omega))
                          rw [ev0] at hQ
                          dsimp only at hQ
                          exact hQ m (hz0.fr fr) fr.1
                        · refine And.intro (rfl) ?_
                          refine And.intro (⟨rfl, by omega⟩) ?_
                          refine And.intro (fun h118 => ?_) (fun h118 => ?_)
                          · refine And.intro (rfl) ?_
                            refine And.intro (fun h119 => ?_) (fun h119 => ?_)
                            · refine And.intro (rfl) ?_
                              refine And.intro (rfl) ?_
                              refine And.intro (⟨rfl, by first | omega | (simp only [mS_iff, eq_self, Int.reduceEq, true_and, and_true, false_and, and_false, and_self, ↓reduceIte]; omega) | (simp only [mS_iff, eq_self, Int.reduceEq, true_and, and_true, false_and, and_false, and_self, ↓reduceIte] at *; omega), by first | omega | (simp only [mS_iff, eq_self, Int.reduceEq, true_and, and_true, false_and, and_false, and_self, ↓reduceIte]; omega) | (simp only [mS_iff, eq_self, Int.reduceEq, true_and, and_true, false_and, and_false, and_self, ↓reduceIte] at *; omega)⟩) ?_
                              refine And.intro (rfl) ?_
                              refine And.intro (rfl) ?_
                              refine And.intro (⟨rfl, by first | omega | (simp only [mS_iff, eq_self, Int.reduceEq, true_and, and_true, false_and, and_false, and_self, ↓reduceIte]; omega) | (simp only [mS_iff, eq_self, Int.reduceEq, true_and, and_true, false_and, and_false, and_self, ↓reduceIte] at *; omega)⟩) ?_
                              refine And.intro (rfl) ?_
                              refine And.intro (rfl) ?_
                              refine And.intro (⟨rfl, by first | omega | (simp only [mS_iff, eq_self, Int.reduceEq, true_and, and_true, false_and, and_false, and_self, ↓reduceIte]; omega) | (simp only [mS_iff, eq_self, Int.reduceEq, true_and, and_true, false_and, and_false, and_self, ↓reduceIte] at *; omega)⟩) ?_
                              refine And.intro (rfl) ?_
                              refine And.intro (rfl) ?_
                              refine And.intro (⟨rfl, by first | omega | (simp only [mS_iff, eq_self, Int.reduceEq, true_and, and_true, false_and, and_false, and_self, ↓reduceIte]; omega) | (simp only [mS_iff, eq_self, Int.reduceEq, true_and, and_true, false_and, and_false, and_self, ↓reduceIte] at *; omega)⟩) ?_
                              refine And.intro (rfl) ?_
                              refine And.intro (rfl) ?_
                              refine And.intro (⟨rfl, by first | omega | (simp only [mS_iff, eq_self, Int.reduceEq, true_and, and_true, false_and, and_false, and_self, ↓reduceIte]; omega) | (simp only [mS_iff, eq_self, Int.reduceEq, true_and, and_true, false_and, and_false, and_self, ↓reduceIte] at *; omega)⟩) ?_
                              refine And.intro (rfl) ?_
                              refine And.intro (rfl) ?_
                              refine And.intro (⟨rfl, by first | omega | (simp only [mS_iff, eq_self, Int.reduceEq, true_and, and_true, false_and, and_false, and_self, ↓reduceIte]; omega) | (simp only [mS_iff, eq_self, Int.reduceEq, true_and, and_true, false_and, and_false, and_self, ↓reduceIte] at *; omega)⟩) ?_
                              refine And.intro (rfl) ?_
                              refine And.intro (show -2147483648 ≤ (m 41 28) + 1 ∧ (m 41 28) + 1 ≤ 2147483647 by first | omega | (simp only [mS_iff, eq_self, Int.reduceEq, true_and, and_true, false_and, and_false, and_self, ↓reduceIte]; omega) | (simp only [mS_iff, eq_self, Int.reduceEq, true_and, and_true, false_and, and_false, and_self, ↓reduceIte] at *; omega)) ?_
                              refine And.intro (rfl) ?_
                              refine And.intro (rfl) ?_
                              refine And.intro (show -2147483648 ≤ ((m 41 28) + 1) - 1 ∧ ((m 41 28) + 1) - 1 ≤ 2147483647 by first | omega | (simp only [mS_iff, eq_self, Int.reduceEq, true_and, and_true, false_and, and_false, and_self, ↓reduceIte]; omega) | (simp only [mS_iff, eq_self, Int.reduceEq, true_and, and_true, false_and, and_false, and_self, ↓reduceIte] at *; omega)) ?_
                              have ev0 : c_per S w f mo b own = (S 0 4, sPn S w f mo b own) := by
                                unfold c_per
                                repeat' split
                                all_goals first | rfl | (exfalso; omega) | (refine Prod.ext ?_ ?_ <;> first | rfl | (show _ = _; omega))
                              rw [ev0] at hQ
                              dsimp only at hQ
                              have ok : okPn S w f mo b own := ⟨hw, by omega, by omega, dy, by omega, by omega, by omega⟩
                              show Q (.inl (some (aI (((m 41 28) + 1) - 1)))) ((mS (mS (mS (mS (mS (mS (mS m 56 (m 41 28) w) 57 (m 41 28) f) 58 (m 41 28) mo) 59 (m 41 28) b) 60 (m 41 28) 10000) 61 (m 41 28) own) 41 28 ((m 41 28) + 1)))
                              rw [show (((m 41 28) + 1) - 1) = S 0 4 by omega]
                              refine hQ _ ⟨h.pn ok (fun x j u v => by rw [mS_iff, if_neg (by omega), mS_iff, if_neg (by omega), mS_iff, if_neg (by omega), mS_iff, if_neg (by omega), mS_iff, if_neg (by omega), mS_iff, if_neg (by omega), mS_iff, if_neg (by omega)]) (by rw [mS_iff, if_pos ⟨rfl, rfl⟩]; omega) ?_, hr.up (by rw [mS_iff, if_neg (by omega), mS_iff, if_neg (by omega), mS_iff, if_neg (by omega), mS_iff, if_neg (by omega), mS_iff, if_neg (by omega), mS_iff, if_neg (by omega), mS_iff, if_neg (by omega)])⟩ (fun x j u => by rw [mS_iff, if_neg (by omega), mS_iff, if_neg (by omega), mS_iff, if_neg (by omega), mS_iff, if_neg (by omega), mS_iff, if_neg (by omega), mS_iff, if_neg (by omega), mS_iff, if_neg (by omega)])
                              rw [← q28]
                              simp only [mS_iff, eq_self, Int.reduceEq, true_and, and_true, false_and, and_false, and_self, ↓reduceIte]
                              done
                            · have ev0 : c_per S w f mo b own = ((-5), S) := by
                                unfold c_per
                                repeat' split
                                all_goals first | rfl | (exfalso; omega) | (refine Prod.ext ?_ ?_ <;> first | rfl | (show _ = _; omega))
                              rw [ev0] at hQ
                              dsimp only at hQ
                              exact hQ m (hz0.fr fr) fr.1
                          · have ev0 : c_per S w f mo b own = ((-4), S) := by
                              unfold c_per
                              repeat' split
                              all_goals first | rfl | (exfalso; omega) | (refine Prod.ext ?_ ?_ <;> first | rfl | (show _ = _; omega))
                            rw [ev0] at hQ
                            dsimp only at hQ
                            exact hQ m (hz0.fr fr) fr.1
              · have dn := h106
                refine And.intro (fun h => absurd h (by decide)) (fun _ => ?_)
                have ev0 : c_per S w f mo b own = ((-3), S) := by
                  unfold c_per
                  repeat' split
                  all_goals first | rfl | (exfalso; omega) | (refine Prod.ext ?_ ?_ <;> first | rfl | (show _ = _; omega))
                rw [ev0] at hQ
                dsimp only at hQ
                exact hQ m (hz0.fr fr) fr.1
            · refine And.intro (fun h => absurd h (by decide)) (fun _ => ?_)
              have ev0 : c_per S w f mo b own = ((-2), S) := by
                unfold c_per
                repeat' split
                all_goals first | rfl | (exfalso; omega) | (refine Prod.ext ?_ ?_ <;> first | rfl | (show _ = _; omega))
              rw [ev0] at hQ
              dsimp only at hQ
              exact hQ m (hz0.fr fr) fr.1
        · refine And.intro (fun _ => ?_) (fun h => absurd h (by decide))
          have ev0 : c_per S w f mo b own = ((-2), S) := by
            unfold c_per
            repeat' split
            all_goals first | rfl | (exfalso; omega) | (refine Prod.ext ?_ ?_ <;> first | rfl | (show _ = _; omega))
          rw [ev0] at hQ
          dsimp only at hQ
          exact hQ m (hz0.fr fr) fr.1
    · refine And.intro (fun _ => ?_) (fun h => absurd h (by decide))
      have ev0 : c_per S w f mo b own = ((-2), S) := by
        unfold c_per
        repeat' split
        all_goals first | rfl | (exfalso; omega) | (refine Prod.ext ?_ ?_ <;> first | rfl | (show _ = _; omega))
      rw [ev0] at hQ
      dsimp only at hQ
      exact hQ m (hz0.fr fr) fr.1
