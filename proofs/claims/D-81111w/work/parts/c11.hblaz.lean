/-! needs: c09 c10p -/
/-! CALLS: blazon, house; by tools/genc11.py -/
set_option maxRecDepth 100000
set_option maxHeartbeats 8000000
/-- the tape was taken; arms more -/
def sTk (S : aM) (c : Int) : aM := mS (mS S 0 0 0) 0 2 c
def sAn (S : aM) (w : Int → Int) : aM := fun x j => if x = 0 ∧ j = 0 then 0 else if x = 0 ∧ j = 2 then 0 else if x = 0 ∧ j = 3 then S 0 3 + 1 else if x = 100 + S 0 3 then w j else S x j
noncomputable def c_blz (K A V : Int → Int) (S : aM) : Int × aM := if S 0 3 = 50 then (-5, mS S 0 0 0) else match p_read K A V 1201 with
  | .inl (c, q) => (-10 - q, sTk S c)
  | .inr (_, (w, ls)) => (S 0 3, sAn S (p_row w (p_set ls)))
theorem c_blz_5 {K A V : Int → Int} {S : aM} (h : S 0 3 = 50) : c_blz K A V S = (-5, mS S 0 0 0) := if_pos h
theorem c_blz_e {K A V : Int → Int} {S : aM} {c q : Int} (h : S 0 3 ≠ 50) (e : p_read K A V 1201 = .inl (c, q)) : c_blz K A V S = (-10 - q, sTk S c) := by unfold c_blz; rw [if_neg h, e]
theorem c_blz_o {K A V : Int → Int} {S : aM} {q : Int} {w : Int → Int} {ls : List (Int → Int)} (h : S 0 3 ≠ 50) (e : p_read K A V 1201 = .inr (q, (w, ls))) : c_blz K A V S = (S 0 3, sAn S (p_row w (p_set ls))) := by unfold c_blz; rw [if_neg h, e]
theorem sAn_0 {S : aM} {w : Int → Int} {j : Int} (h : j ≠ 0 ∧ j ≠ 2 ∧ j ≠ 3) (h3 : 0 ≤ S 0 3) : sAn S w 0 j = S 0 j := by unfold sAn; rw [if_neg (by omega), if_neg (by omega), if_neg (by omega), if_neg (by omega)]
theorem sAn_00 {S : aM} {w : Int → Int} : sAn S w 0 0 = 0 := by unfold sAn; rw [if_pos ⟨rfl, rfl⟩]
theorem sAn_02 {S : aM} {w : Int → Int} : sAn S w 0 2 = 0 := by unfold sAn; rw [if_neg (by omega), if_pos ⟨rfl, rfl⟩]
theorem sAn_03 {S : aM} {w : Int → Int} : sAn S w 0 3 = S 0 3 + 1 := by unfold sAn; rw [if_neg (by omega), if_neg (by omega), if_pos ⟨rfl, rfl⟩]
theorem sAn_n {S : aM} {w : Int → Int} (h3 : 0 ≤ S 0 3) : sAn S w (100 + S 0 3) = w := funext fun j => by unfold sAn; rw [if_neg (by omega), if_neg (by omega), if_neg (by omega), if_pos rfl]
theorem sAn_r {S : aM} {w : Int → Int} {x : Int} (h : x ≠ 0) (g : x ≠ 100 + S 0 3) : sAn S w x = S x := funext fun j => by unfold sAn; rw [if_neg (by omega), if_neg (by omega), if_neg (by omega), if_neg (by omega)]
/-- the memory behind a blazon that was read: r the new arms -/
def hNa (m m' : aM) (n r : Int) : Prop := (m 0 0 ≤ m' 0 0 ∧ m' 0 0 ≤ m 0 0 + 45) ∧ (m 0 1 ≤ m' 0 1 ∧ m' 0 1 ≤ m 0 1 + 700) ∧ (∀ j, j ≠ 0 → j ≠ 1 → m' 0 j = m 0 j) ∧ (∀ x j, x ≠ 0 → x ≤ m 0 0 → (x < 13 ∨ 17 < x ∨ j < 0) → (x ≠ 3 ∨ j < 0) → (x ≠ 19 ∨ j ≠ n) → (x ≠ 1 ∨ (j ≠ 17 ∧ j ≠ 18 ∧ j ≠ 20)) → m' x j = m x j) ∧ m' 19 n = r ∧ m' 1 20 = n + 1 ∧ m' 1 17 = 0 ∧ m' 1 18 = 0
theorem hI.an {S : aM} {F : Int → aD} {lo hi cl ch : Int → Int} {m m' : aM} {r : Int} {w : Int → Int} (h : hI S F lo hi cl ch m) (h5 : S 0 3 ≠ 50) (g : hNa m m' (S 0 3) r) (hA : hArms m' (m 0 0 + 1) (m' 0 0) r w) : hI (sAn S w) F (fun i => if i = S 0 3 then m 0 0 + 1 else lo i) (fun i => if i = S 0 3 then m' 0 0 else hi i) cl ch m' := by
  obtain ⟨i1, i2, i3, i4, i5, i6, i7, i8, i9, ia, ib, ic, id⟩ := h
  obtain ⟨g1, g2, g3, g4, g5, g6, g7, g8⟩ := g
  obtain ⟨a1, a2, a3, a4, a5⟩ := i4
  have E : ∀ x, x ≠ 0 → x ≤ m 0 0 → (x < 13 ∨ 17 < x) → x ≠ 3 → x ≠ 19 → x ≠ 1 → m' x = m x := fun x a b c d e f => funext fun j => g4 x j a b (by omega) (by omega) (by omega) (by omega)
  have e1 : ∀ j, j ≠ 17 → j ≠ 18 → j ≠ 20 → m' 1 j = m 1 j := fun j u v z => g4 1 j (by omega) (by omega) (by omega) (by omega) (by omega) (by omega)
  have e19 : ∀ j, j ≠ S 0 3 → m' 19 j = m 19 j := fun j u => g4 19 j (by omega) (by omega) (by omega) (by omega) (by omega) (by omega)
  have K : hK m m' := ⟨by omega, fun r a b c => by rw [E r (by omega) (by omega) (by omega) (by omega) (by omega) (by omega)]; exact ⟨rfl, fun _ => rfl⟩⟩
  have rb := hA.basic
  have SR : ∀ x, x ≠ 0 → x ≠ 100 + S 0 3 → sAn S w x = S x := fun x a b => sAn_r a b
  have S0 : ∀ j, (j ≠ 0 ∧ j ≠ 2 ∧ j ≠ 3) → sAn S w 0 j = S 0 j := fun j u => sAn_0 u a1.1
  refine ⟨by omega, by rw [g3 2 (by omega) (by omega), g3 3 (by omega) (by omega)]; exact i2, ?_, ?_, ?_, ?_, ?_, ?_, ?_, ?_, ?_, ?_, ?_⟩
  · obtain ⟨n1, n2, n3, n4, n5, n6, n7, n8, n9⟩ := i3
    unfold hNm
    rw [g7, g8, sAn_00, sAn_02, e1 3 (by omega) (by omega) (by omega), e1 38 (by omega) (by omega) (by omega), e1 41 (by omega) (by omega) (by omega), e1 46 (by omega) (by omega) (by omega), e1 39 (by omega) (by omega) (by omega), E 4 (by omega) (by omega) (by omega) (by omega) (by omega) (by omega), S0 1 (by omega), S0 7 (by omega), S0 8 (by omega), S0 9 (by omega), SR 2 (by omega) (by omega)]
    exact ⟨rfl, fun i a b => by omega, n3, n4, rfl, n6, n7, n8, n9⟩
  · unfold hAs
    rw [sAn_03]
    refine ⟨by omega, g6, fun i u v => ?_, fun i u v => by rw [e19 i (by omega)]; exact a4 i (by omega) v, fun i j u v x y n => ?_⟩
    · dsimp only
      by_cases k : i = S 0 3
      · subst k
        rw [if_pos rfl, if_pos rfl, g5, sAn_n a1.1]
        exact hA
      · rw [if_neg k, if_neg k, e19 i k, SR (100 + i) (by omega) (by omega)]
        exact K.arms (a3 i u (by omega))
    · dsimp only
      by_cases k : i = S 0 3
      · rw [if_pos k, if_pos k, if_neg (by omega), if_neg (by omega)]
        have := (a3 j x (by omega)).1
        omega
      · rw [if_neg k, if_neg k]
        by_cases k2 : j = S 0 3
        · rw [if_pos k2, if_pos k2]
          have := (a3 i u (by omega)).1
          omega
        · rw [if_neg k2, if_neg k2]
          exact a5 i j u (by omega) x (by omega) n
  · obtain ⟨⟨s1, s2⟩, s3, s4⟩ := i5
    unfold hEs sEs
    rw [S0 5 (by omega), sAn_03, SR 16 (by omega) (by omega), SR 17 (by omega) (by omega), SR 18 (by omega) (by omega), e1 29 (by omega) (by omega) (by omega), E 23 (by omega) (by omega) (by omega) (by omega) (by omega) (by omega), E 24 (by omega) (by omega) (by omega) (by omega) (by omega) (by omega), E 25 (by omega) (by omega) (by omega) (by omega) (by omega) (by omega)]
    refine ⟨⟨s1, fun e u v => by have := s2 e u v; omega⟩, s3, fun e u v => ?_⟩
    rw [e19 (S 16 e) (by have := s2 e u v; omega)]
    exact s4 e u v
  · have i6 := i6.K K (e1 22 (by omega) (by omega) (by omega)) (E 20 (by omega) (by omega) (by omega) (by omega) (by omega) (by omega))
    obtain ⟨⟨s1, s2⟩, s3⟩ := i6
    unfold hPs sPs
    rw [S0 4 (by omega), sAn_03, SR 10 (by omega) (by omega), SR 11 (by omega) (by omega), SR 12 (by omega) (by omega), SR 13 (by omega) (by omega), SR 14 (by omega) (by omega), SR 15 (by omega) (by omega)]
    exact ⟨⟨s1, fun p u v => by have := s2 p u v; omega⟩, s3⟩
  · have i7 := i7.K K (e1 37 (by omega) (by omega) (by omega)) (E 27 (by omega) (by omega) (by omega) (by omega) (by omega) (by omega)) (E 28 (by omega) (by omega) (by omega) (by omega) (by omega) (by omega))
    unfold hCs
    rw [S0 6 (by omega), SR 20 (by omega) (by omega)]
    exact i7
  · intro i j u v x y
    rw [S0 6 (by omega)] at v
    rw [sAn_03] at y
    dsimp only
    by_cases k : j = S 0 3
    · rw [if_pos k, if_pos k]
      have := (i7.2.2 i u v).1
      omega
    · rw [if_neg k, if_neg k]
      exact i8 i j u v x (by omega)
  · unfold hDn hDr
    rw [sAn_03, e1 13 (by omega) (by omega) (by omega), E 6 (by omega) (by omega) (by omega) (by omega) (by omega) (by omega), E 10 (by omega) (by omega) (by omega) (by omega) (by omega) (by omega)]
    refine ⟨by have := i9.1; omega, fun i u v z => ?_⟩
    by_cases k : i = S 0 3
    · subst k
      rw [g5] at z
      have := i9.1
      omega
    · rw [e19 i k] at z
      rw [SR (100 + i) (by omega) (by omega)]
      exact i9.2 i u (by omega) z
  · unfold hTk
    rw [E 9 (by omega) (by omega) (by omega) (by omega) (by omega) (by omega), e1 14 (by omega) (by omega) (by omega)]
    exact ia
  · unfold hOn hWd hCst
    rw [E 26 (by omega) (by omega) (by omega) (by omega) (by omega) (by omega), g4 3 (-1) (by omega) (by omega) (by omega) (by omega) (by omega) (by omega), g4 3 (-2) (by omega) (by omega) (by omega) (by omega) (by omega) (by omega), g4 14 (-1) (by omega) (by omega) (by omega) (by omega) (by omega) (by omega), g4 14 (-2) (by omega) (by omega) (by omega) (by omega) (by omega) (by omega), E 18 (by omega) (by omega) (by omega) (by omega) (by omega) (by omega), E 2 (by omega) (by omega) (by omega) (by omega) (by omega) (by omega), E (-4) (by omega) (by omega) (by omega) (by omega) (by omega) (by omega)]
    exact ⟨⟨fun r q => (E r (by omega) (by omega) (by omega) (by omega) (by omega) (by omega)).trans (ib.1.1 r q), ib.1.2⟩, ib.2⟩
  · intro i u v
    rw [sAn_03] at v
    dsimp only
    split
    · omega
    · exact ic i u (by omega)
  · intro p u v
    rw [S0 4 (by omega)] at v
    rw [S0 6 (by omega), sAn_03, E 20 (by omega) (by omega) (by omega) (by omega) (by omega) (by omega)]
    refine ⟨fun i x y => ?_, (id p u v).2⟩
    dsimp only
    by_cases k : i = S 0 3
    · rw [if_pos k, if_pos k]
      have := (i6.2.2.1 p u v).1
      omega
    · rw [if_neg k, if_neg k]
      exact (id p u v).1 i x (by omega)
theorem fr_X.H {m m' : aM} (h : fr_X m m') (h9 : m' 13 9 = m 13 9) (hj : ∀ r, 13 ≤ r → r ≤ 17 → ∀ j, j < 0 → m' r j = m r j) : hFr 0 m m' := hFr.of (fun r j => r < 13 ∨ 17 < r ∨ j < 0 ∨ (r = 13 ∧ j = 9)) (fun x j p => by
  by_cases k : x < 13 ∨ 17 < x
  · exact h x j k
  · by_cases k2 : j < 0
    · exact hj x (by omega) (by omega) j k2
    · rw [show x = 13 by omega, show j = 9 by omega]; exact h9) (fun j => by omega) (fun x j a b => by omega) (fun x j a b c => by unfold hKpt at c; omega)
theorem fr_R.H {m m' : aM} {c s : Int} (h : fr_R c s m m') (h0 : 77 ≤ m 0 0) (hs : s ≤ 1000 * c) : hFr c m m' := by
  obtain ⟨h1, h2, h3, h4⟩ := h
  exact ⟨h1, by omega, h4, ⟨h1.1, fun r a b c => ⟨h3 r (-1) (by omega) c (by omega) (by omega), fun _ => funext fun j => h3 r j (by omega) c (by omega) (by omega)⟩⟩, fun x j a b c => h3 x j a (by omega) (by unfold hKpt at c; omega) (by unfold hKpt at c; omega)⟩
/-- the tape is taken: tokens K A V, the state with an empty tape -/
theorem hNm.t {S m : aM} (h : hNm S m) : hNm (mS S 0 0 0) (mS m 1 17 0) := by
  obtain ⟨n1, n2, n3, n4, n5, n6, n7, n8, n9⟩ := h
  have S0 : ∀ j, j ≠ 0 → mS S 0 0 0 0 j = S 0 j := fun j u => by rw [mS_iff, if_neg (by omega)]
  have S1 : mS S 0 0 0 1 = S 1 := funext fun j => by rw [mS_iff, if_neg (by omega)]
  have S2 : mS S 0 0 0 2 = S 2 := funext fun j => by rw [mS_iff, if_neg (by omega)]
  have E : ∀ j, j ≠ 17 → mS m 1 17 0 1 j = m 1 j := fun j u => by rw [mS_iff, if_neg (by omega)]
  unfold hNm
  rw [S1, S2, S0 1 (by omega), S0 2 (by omega), S0 7 (by omega), S0 8 (by omega), S0 9 (by omega), E 3 (by omega), E 18 (by omega), E 38 (by omega), E 41 (by omega), E 46 (by omega), E 39 (by omega), show mS S 0 0 0 0 0 = 0 by rw [mS_iff, if_pos ⟨rfl, rfl⟩]]
  exact ⟨by rw [mS_iff, if_pos ⟨rfl, rfl⟩], fun i a b => by omega, n3, fun i a b => by rw [mS_iff, if_neg (by omega)]; exact n4 i a b, n5, n6, n7, n8, n9⟩
theorem hI.t {S : aM} {F : Int → aD} {lo hi cl ch : Int → Int} {m : aM} (h : hI S F lo hi cl ch m) : hI (mS S 0 0 0) F lo hi cl ch (mS m 1 17 0) := by
  have s : ∀ x, x ≠ 0 → mS S 0 0 0 x = S x := fun x u => funext fun j => by rw [mS_iff, if_neg (by omega)]
  have s0 : ∀ j, j ≠ 0 → mS S 0 0 0 0 j = S 0 j := fun j u => by rw [mS_iff, if_neg (by omega)]
  have e : ∀ x j, (x ≠ 1 ∨ j ≠ 17) → mS m 1 17 0 x j = m x j := fun x j u => by rw [mS_iff, if_neg (by omega)]
  exact h.up (fun x j u => e x j (by omega)) h.2.2.1.t ((h.2.2.2.2.1.keep (e 1 29 (by omega)) (fun x u => funext fun j => e x j (by omega))).cg (s0 5 (by omega)) (s0 3 (by omega)) (fun x a b => s x (by omega))) (fun j u => e 1 j (by omega)) (fun x u => funext fun j => e x j (by omega)) ⟨e 18 _ (by omega), e 18 _ (by omega)⟩ (s0 3 (by omega)) (s0 4 (by omega)) (s0 6 (by omega)) (fun x u => s x (by omega))
/-- a fault is told -/
theorem hI.f {S : aM} {F : Int → aD} {lo hi cl ch : Int → Int} {m : aM} {c : Int} (h : hI S F lo hi cl ch m) : hI (mS S 0 2 c) F lo hi cl ch (mS m 1 18 c) := by
  have s : ∀ x, x ≠ 0 → mS S 0 2 c x = S x := fun x u => funext fun j => by rw [mS_iff, if_neg (by omega)]
  have s0 : ∀ j, j ≠ 2 → mS S 0 2 c 0 j = S 0 j := fun j u => by rw [mS_iff, if_neg (by omega)]
  have e : ∀ x j, (x ≠ 1 ∨ j ≠ 18) → mS m 1 18 c x j = m x j := fun x j u => by rw [mS_iff, if_neg (by omega)]
  have hn : hNm (mS S 0 2 c) (mS m 1 18 c) := by
    obtain ⟨n1, n2, n3, n4, n5, n6, n7, n8, n9⟩ := h.2.2.1
    unfold hNm
    rw [s 1 (by omega), s 2 (by omega), s0 0 (by omega), s0 1 (by omega), s0 7 (by omega), s0 8 (by omega), s0 9 (by omega), e 1 17 (by omega), e 1 3 (by omega), e 1 38 (by omega), e 1 41 (by omega), e 1 46 (by omega), e 1 39 (by omega)]
    exact ⟨n1, fun i a b => by rw [e 18 i (by omega)]; exact n2 i a b, n3, fun i a b => by rw [e 4 i (by omega)]; exact n4 i a b, by rw [mS_iff, if_pos ⟨rfl, rfl⟩, mS_iff, if_pos ⟨rfl, rfl⟩], n6, n7, n8, n9⟩
  exact h.up (fun x j u => e x j (by omega)) hn ((h.2.2.2.2.1.keep (e 1 29 (by omega)) (fun x u => funext fun j => e x j (by omega))).cg (s0 5 (by omega)) (s0 3 (by omega)) (fun x a b => s x (by omega))) (fun j u => e 1 j (by omega)) (fun x u => funext fun j => e x j (by omega)) ⟨e 18 _ (by omega), e 18 _ (by omega)⟩ (s0 3 (by omega)) (s0 4 (by omega)) (s0 6 (by omega)) (fun x u => s x (by omega))
theorem ct_44 {d : Nat} {m : aM} {Q : aO → aM → Prop} {S : aM} {F : Int → aD} {lo hi cl ch : Int → Int} (hd : 8 ≤ d) (h : hI S F lo hi cl ch m) (si : sI S F) (hQ : ∀ m' E N, (∀ x j, (x < 13 ∨ 17 < x ∨ j < 0) → (x ≠ 1 ∨ j ≠ 17) → m' x j = m x j) → x_lx (S 1) (S 0 0) (m' 15) (m' 16) (m' 17) E N → N ≤ 1201 → hTx m' (m' 15) (m' 16) (m' 17) N 0 0 0 → m' 1 17 = 0 → hI (mS S 0 0 0) F lo hi cl ch m' → Q (.inl none) m') : am_wpc am_G am_T d 44 [aR 1] m Q := by
  obtain ⟨n1, n2, n3, n4, n5, n6, n7, n8, n9⟩ := id h.2.2.1
  have hO := h.2.2.2.2.2.2.2.2.2.2.1
  have s10 := si.1
  refine am_in rfl hd (fun d hd => ?_)
  refine am_go 400 [] (am_wpc_cm _ _ _) wf_44 ?_
  refine And.intro (rfl) ?_
  refine And.intro (rfl) ?_
  refine And.intro (rfl) ?_
  refine And.intro (rfl) ?_
  refine ct_148 (by omega) hO.1 (by omega) hO.2.2.2.1 (fun k a b => by rw [n2 k a (by omega)]; exact si.2.1 k a (by omega)) (fun mc E N fx fe lx nb c5 c6 cj c9 => ?_)
  refine And.intro (rfl) ?_
  have lx2 : x_lx (S 1) (S 0 0) (mc 15) (mc 16) (mc 17) E N := by
    rw [n1] at lx fe
    exact x_lx_c s10.1 (fun k a b => (fe k a b).trans (n2 k a b)) lx
  have N1 := (lx2.T s10 nb).1
  have EE : ∀ x, x ≠ 1 → mS mc 1 17 0 x = mc x := fun x u => funext fun j => by rw [mS_iff, if_neg (by omega)]
  refine hQ _ E N (fun x j u v => ?_) ?_ nb ?_ (by rw [mS_iff, if_pos ⟨rfl, rfl⟩]) ((h.fr (fx.H c9 cj)).t)
  · rw [mS_iff, if_neg (by omega)]
    by_cases k : x < 13 ∨ 17 < x
    · exact fx x j k
    · exact cj x (by omega) (by omega) j (by omega)
  · rw [EE 15 (by omega), EE 16 (by omega), EE 17 (by omega)]
    exact lx2
  · rw [EE 15 (by omega), EE 16 (by omega), EE 17 (by omega)]
    exact ⟨fun i a b => by rw [EE 15 (by omega), EE 16 (by omega), EE 17 (by omega)]; exact ⟨rfl, rfl, rfl⟩, by rw [EE 13 (by omega)]; exact c5, by omega, by rw [EE 13 (by omega)]; exact c6, by omega, fun n => absurd rfl n⟩
theorem hs_43 {d : Nat} {m : aM} {Q : aO → aM → Prop} {S : aM} {F : Int → aD} {lo hi cl ch : Int → Int} {k : Int} (hd : 60 ≤ d) (hk : 0 ≤ k) (hz0 : hZ (k + 1) S F lo hi cl ch m) (si : sI S F) (hQ : ∀ K A V E N m' lo' hi', x_lx (S 1) (S 0 0) K A V E N → N ≤ 1201 → (S 0 3 ≠ 50 → ∀ q w ls, p_read K A V 1201 = .inr (q, (w, ls)) → okRow (p_row w (p_set ls))) → hZ k (c_blz K A V S).2 F lo' hi' cl ch m' → (∀ x j, 29 ≤ x → x ≤ 76 → m' x j = m x j) → Q (.inl (some (aI (c_blz K A V S).1))) m') : am_wpc am_G am_T d 43 [aR 1] m Q := by
  have h := hz0.1
  have hr := hz0.2
  have fr := hFr.rfl m
  obtain ⟨r1, r2, r3, r4, r5⟩ := id hr
  have hS := h.2.2.2.1
  have h0 := h.1
  have s1 := hS.1
  obtain ⟨r1, r2, r3, r4, r5⟩ := id hr
  have c20 := hS.2.1
  obtain ⟨dk, hdk⟩ : ∃ k, d = k + 1 := ⟨d - 1, by omega⟩
  refine am_in (k := dk) rfl (by omega) (fun d hd => ?_)
  refine am_go 400 [] (am_wpc_cm _ _ _) wf_43 ?_
  refine And.intro (rfl) ?_
  refine ct_44 (by omega) h si (fun mk E N fk lx nb hx k17 hk2 => ?_)
  have k20 : mk 1 20 = S 0 3 := by rw [fk 1 20 (by omega) (by omega)]; exact c20
  have k00 := fk 0 0 (by omega) (by omega)
  have k01 := fk 0 1 (by omega) (by omega)
  have k14 := fk 1 14 (by omega) (by omega)
  have hT := lx.T si.1 nb
  have k3 := hk2.2.2.2.2.2.2.2.2.2.2.1.2.2.1
  refine And.intro (rfl) ?_
  refine And.intro (fun h1 => ?_) (fun h1 => ?_)
  · refine And.intro (rfl) ?_
    refine And.intro (rfl) ?_
    refine ct_45 (n0 := 1201) (by omega) hT hx (by omega) (by omega) k3 (fun me q f p fr9 hx2 nz er => ?_) (fun me r q w ls fr9 er hA => ?_)
    · refine And.intro (by decide) ?_
      refine And.intro (fun h => absurd h (by decide)) (fun _ => ?_)
      refine And.intro (rfl) ?_
      refine am_in (k := 0) rfl (by omega) (fun d hd => ?_)
      refine am_go 400 [] (am_wpc_cm _ _ _) wf_55 ?_
      have h7 : me 13 7 = p := hx2.2.2.2.2.2 nz
      have pb := p_read_b hT er
      refine And.intro (rfl) ?_
      refine And.intro (rfl) ?_
      refine And.intro (rfl) ?_
      refine And.intro (rfl) ?_
      refine And.intro (rfl) ?_
      refine And.intro (show -2147483648 ≤ (-10) - (me 13 7) ∧ (-10) - (me 13 7) ≤ 2147483647 by first | omega | (simp only [mS_iff, eq_self, Int.reduceEq, true_and, and_true, false_and, and_false, and_self, ↓reduceIte]; omega) | (simp only [mS_iff, eq_self, Int.reduceEq, true_and, and_true, false_and, and_false, and_self, ↓reduceIte] at *; omega)) ?_
      have h6 : me 13 6 = f := hx2.2.2.2.1
      have h7 : me 13 7 = p := hx2.2.2.2.2.2 nz
      have g00 := fr9.1
      have g01 := fr9.2.1
      have g14 := fr9.2.2.1 1 14 (by omega) (by omega) (by omega) (by omega)
      have e0 := c_blz_e (S := S) (by omega) er
      have hi2 := (hk2.fr (fr9.H (by omega) (by omega))).f (c := f)
      have MM : mS me 1 18 f = mS me 1 18 (me 13 6) := by rw [h6]
      have hz := hQ (mk 15) (mk 16) (mk 17) E N (mS me 1 18 f) lo hi lx nb (fun _ q w ls z => by rw [er] at z; cases z) (by rw [e0]; exact ⟨hi2, by rw [mS_iff, if_neg (by omega)]; omega, by rw [mS_iff, if_neg (by omega)]; omega, by rw [mS_iff, if_neg (by omega)]; omega, by rw [mS_iff, if_neg (by omega)]; omega, by rw [mS_iff, if_neg (by omega)]; omega⟩) (fun x j u v => by rw [mS_iff, if_neg (by omega), fr9.2.2.1 x j (by omega) (by omega) (by omega) (by omega)]; exact fk x j (by omega) (by omega))
      rw [e0] at hz
      show Q (.inl (some (aI (-10 - me 13 7)))) (mS me 1 18 (me 13 6))
      rw [← MM, h7]
      exact hz
    · have rb := hA.basic
      refine And.intro (show r ≠ -9 by first | omega | (simp only [mS_iff, eq_self, Int.reduceEq, true_and, and_true, false_and, and_false, and_self, ↓reduceIte]; omega) | (simp only [mS_iff, eq_self, Int.reduceEq, true_and, and_true, false_and, and_false, and_self, ↓reduceIte] at *; omega)) ?_
      refine And.intro (fun _ => ?_) (fun h => absurd h (by omega))
      refine And.intro (rfl) ?_
      have g20 : me 1 20 = S 0 3 := by rw [fr9.2.2.1 1 20 (by omega) (by omega) (by omega) (by omega)]; exact k20
      refine And.intro (rfl) ?_
      refine am_in (k := 0) rfl (by omega) (fun d hd => ?_)
      refine am_go 400 [] (am_wpc_cm _ _ _) wf_56 ?_
      refine And.intro (rfl) ?_
      refine And.intro (rfl) ?_
      refine And.intro (⟨rfl, by first | omega | (simp only [mS_iff, eq_self, Int.reduceEq, true_and, and_true, false_and, and_false, and_self, ↓reduceIte]; omega), by first | omega | (simp only [mS_iff, eq_self, Int.reduceEq, true_and, and_true, false_and, and_false, and_self, ↓reduceIte]; omega), Or.inr ⟨by omega, by simp only [mS_iff, eq_self, Int.reduceEq, true_and, and_true, false_and, and_false, and_self, ↓reduceIte]; exact rb.2.2.2.2.1⟩⟩) ?_
      refine And.intro (rfl) ?_
      refine And.intro (show -2147483648 ≤ (me 1 20) + 1 ∧ (me 1 20) + 1 ≤ 2147483647 by first | omega | (simp only [mS_iff, eq_self, Int.reduceEq, true_and, and_true, false_and, and_false, and_self, ↓reduceIte]; omega) | (simp only [mS_iff, eq_self, Int.reduceEq, true_and, and_true, false_and, and_false, and_self, ↓reduceIte] at *; omega)) ?_
      refine And.intro (rfl) ?_
      refine And.intro (rfl) ?_
      refine And.intro (show -2147483648 ≤ ((me 1 20) + 1) - 1 ∧ ((me 1 20) + 1) - 1 ≤ 2147483647 by first | omega | (simp only [mS_iff, eq_self, Int.reduceEq, true_and, and_true, false_and, and_false, and_self, ↓reduceIte]; omega) | (simp only [mS_iff, eq_self, Int.reduceEq, true_and, and_true, false_and, and_false, and_self, ↓reduceIte] at *; omega)) ?_
      have g00 := fr9.1
      have g01 := fr9.2.1
      have g20 : me 1 20 = S 0 3 := by rw [fr9.2.2.1 1 20 (by omega) (by omega) (by omega) (by omega)]; exact k20
      have g14 := fr9.2.2.1 1 14 (by omega) (by omega) (by omega) (by omega)
      have g17 := fr9.2.2.1 1 17 (by omega) (by omega) (by omega) (by omega)
      have e0 := c_blz_o (S := S) (by omega) er
      have NA : hNa m ((mS (mS (mS me 1 18 0) 19 (me 1 20) r) 1 20 ((me 1 20) + 1))) (S 0 3) r := by
        refine ⟨by rw [mS_iff, if_neg (by omega), mS_iff, if_neg (by omega), mS_iff, if_neg (by omega)]; omega, by rw [mS_iff, if_neg (by omega), mS_iff, if_neg (by omega), mS_iff, if_neg (by omega)]; omega, fun j u v => by rw [mS_iff, if_neg (by omega), mS_iff, if_neg (by omega), mS_iff, if_neg (by omega)]; exact (fr9.2.2.2 j u v).trans (fk 0 j (by omega) (by omega)), fun x j u v a b c e => by rw [mS_iff, if_neg (by omega), mS_iff, if_neg (by omega), mS_iff, if_neg (by omega)]; exact (fr9.2.2.1 x j u (by omega) (by omega) b).trans (fk x j (by omega) (by omega)), ?_, ?_, ?_, ?_⟩
        · rw [← g20]
          simp only [mS_iff, eq_self, Int.reduceEq, true_and, and_true, false_and, and_false, and_self, ↓reduceIte]
        · simp only [mS_iff, eq_self, Int.reduceEq, true_and, and_true, false_and, and_false, and_self, ↓reduceIte]
          omega
        · rw [mS_iff, if_neg (by omega), mS_iff, if_neg (by omega), mS_iff, if_neg (by omega)]
          exact g17.trans k17
        · simp only [mS_iff, eq_self, Int.reduceEq, true_and, and_true, false_and, and_false, and_self, ↓reduceIte]
      have hA2 : hArms ((mS (mS (mS me 1 18 0) 19 (me 1 20) r) 1 20 ((me 1 20) + 1))) (m 0 0 + 1) (((mS (mS (mS me 1 18 0) 19 (me 1 20) r) 1 20 ((me 1 20) + 1))) 0 0) r (p_row w (p_set ls)) := by
        rw [show ((mS (mS (mS me 1 18 0) 19 (me 1 20) r) 1 20 ((me 1 20) + 1))) 0 0 = me 0 0 by rw [mS_iff, if_neg (by omega), mS_iff, if_neg (by omega), mS_iff, if_neg (by omega)], ← k00]
        exact hA.keep (fun q u v => by rw [show ((mS (mS (mS me 1 18 0) 19 (me 1 20) r) 1 20 ((me 1 20) + 1))) q = me q from funext fun j => by rw [mS_iff, if_neg (by omega), mS_iff, if_neg (by omega), mS_iff, if_neg (by omega)]]; exact ⟨rfl, fun _ => rfl⟩) (by rw [mS_iff, if_neg (by omega), mS_iff, if_neg (by omega), mS_iff, if_neg (by omega)]; omega)
      have hz := hQ (mk 15) (mk 16) (mk 17) E N ((mS (mS (mS me 1 18 0) 19 (me 1 20) r) 1 20 ((me 1 20) + 1))) _ _ lx nb (fun _ q2 w2 ls2 z => by rw [er] at z; injection z with z; injection z with z1 z2; injection z2 with z3 z4; rw [← z3, ← z4]; exact hA.row) (by rw [e0]; exact ⟨h.an (by omega) NA hA2, by have := NA.1; omega, by have := NA.2.1; omega, by have := NA.2.1; omega, by rw [NA.2.2.2.1 1 14 (by omega) (by omega) (by omega) (by omega) (by omega) (by omega)]; omega, by rw [NA.2.2.2.1 1 14 (by omega) (by omega) (by omega) (by omega) (by omega) (by omega)]; omega⟩) (fun x j u v => NA.2.2.2.1 x j (by omega) (by omega) (by omega) (by omega) (by omega) (by omega))
      rw [e0] at hz
      show Q (.inl (some (aI (((me 1 20) + 1) - 1)))) ((mS (mS (mS me 1 18 0) 19 (me 1 20) r) 1 20 ((me 1 20) + 1)))
      rw [show (((me 1 20) + 1) - 1) = S 0 3 by omega]
      exact hz
  · have e0 := c_blz_5 (K := mk 15) (A := mk 16) (V := mk 17) (S := S) (by omega)
    have hz := hQ (mk 15) (mk 16) (mk 17) E N mk lo hi lx nb (fun z => absurd (show S 0 3 = 50 by omega) z) (by rw [e0]; exact ⟨hk2, by omega, by omega, by omega, by omega, by omega⟩) (fun x j u v => fk x j (by omega) (by omega))
    rw [e0] at hz
    exact hz
