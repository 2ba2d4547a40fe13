/-! needs: c11 -/
/-! CALLS: blazon, reference; by tools/genc12.py -/
set_option maxRecDepth 100000
set_option maxHeartbeats 8000000
theorem p_in {α : Type} {q q2 : Int} {a b : α} (h : (Sum.inr (q, a) : xP α) = .inr (q2, b)) : a = b := by injection h with h; injection h
theorem p_part_9 {K A : Int → Int} {q q2 p : Int} (h : p_part K A q = .inr (q2, p)) : p ≤ 4 := by
  unfold p_part at h
  split at h
  · split at h
    · have := p_in h; omega
    · obtain ⟨q3, s, h1, h2⟩ := p_bd_i h
      unfold p_want at h1
      split at h1
      · have a := p_in h1
        have b := p_in h2
        omega
      · cases h1
  · have := p_in h; omega
theorem p_lay1_9 {K A V : Int → Int} {c b v q q2 : Int} {l : Int → Int} (h : p_lay1 K A V c b v q = .inr (q2, l)) : l 9 ≤ 4 := by
  unfold p_lay1 at h
  have Z : ∀ {v h p : Int} {o g : Int → Int}, l_mk v h p o g 9 = p := fun {v h p o g} => by unfold l_mk; simp
  split at h
  · obtain ⟨_, _, _, h⟩ := p_bd_i h
    obtain ⟨_, _, _, h⟩ := p_bd_i h
    obtain ⟨_, _, _, h⟩ := p_bd_i h
    rw [← p_in h, Z]; omega
  · split at h
    · obtain ⟨_, _, _, h⟩ := p_bd_i h
      split at h
      · obtain ⟨_, _, _, h⟩ := p_bd_i h
        rw [← p_in h, Z]; omega
      · rw [← p_in h, Z]; omega
    · split at h
      · obtain ⟨_, _, _, h⟩ := p_bd_i h
        obtain ⟨_, _, h1, h⟩ := p_bd_i h
        rw [← p_in h, Z]
        exact p_part_9 h1
      · cases h
theorem p_lay_9 {K A V : Int → Int} {c b q q2 : Int} {l : Int → Int} (h : p_lay K A V c b q = .inr (q2, l)) : l 9 ≤ 4 := by
  unfold p_lay at h
  split at h
  · exact p_lay1_9 h
  · exact p_lay1_9 h
theorem p_lays_9 {K A V : Int → Int} : ∀ (n : Nat) (ls : List (Int → Int)) (c b q : Int), (∀ l ∈ ls, l 9 ≤ 4) → ∀ q2 ls2, p_lays K A V n ls c b q = .inr (q2, ls2) → ∀ l ∈ ls2, l 9 ≤ 4 := by
  intro n
  induction n with
  | zero => intro ls c b q _ q2 ls2 h; cases h
  | succ n ih =>
    intro ls c b q hl q2 ls2 h
    unfold p_lays at h
    split at h
    · rw [← p_in h]; exact hl
    · split at h
      · cases h
      · split at h
        · cases h
        · split at h
          · cases h
          · obtain ⟨q3, l, h1, h2⟩ := p_bd_i h
            refine ih _ _ _ _ ?_ _ _ h2
            intro x hx
            rcases List.mem_append.mp hx with hx | hx
            · exact hl x hx
            · rw [List.mem_singleton.mp hx]; exact p_lay_9 h1
theorem p_read_9 {K A V : Int → Int} {n : Nat} {q : Int} {w : Int → Int} {ls : List (Int → Int)} (h : p_read K A V n = .inr (q, (w, ls))) : ∀ l ∈ p_z ls, e_kl l ≤ 4 := by
  unfold p_read at h
  obtain ⟨q1, f, h1, h2⟩ := p_bd_i h
  obtain ⟨q3, l3, h3, h4⟩ := p_bd_i h2
  have e := p_in h4
  injection e with e1 e2
  rw [e2] at h3
  have A := p_lays_9 n [] 0 0 q1 (fun l z => by cases z) _ _ h3
  have key : ∀ l : Int → Int, l 9 ≤ 4 → e_kl l ≤ 4 := fun l z => by unfold e_kl; split <;> omega
  intro l hl
  cases ls with
  | nil => cases hl
  | cons x xs =>
    rcases List.mem_cons.mp hl with hl | hl
    · rw [hl]
      exact key _ (by show (if (9 : Int) = 0 then 0 else x 9) ≤ 4; rw [if_neg (by omega)]; exact A x (List.mem_cons_self ..))
    · exact key l (A l (List.mem_cons_of_mem _ hl))
theorem mI.an {S : aM} {F : Int → aD} {m m' : aM} {w : Int → Int} (h : mI S F m) (h5 : S 0 3 ≠ 50) (g : ∀ x j, (x ≠ 41 ∨ ((j < 12 ∨ 20 < j) ∧ j ≠ 1 ∧ j ≠ 3)) → (x ≠ 42 ∨ j < 66 * S 0 3) → m' x j = m x j) (g1 : m' 41 1 = S 0 3 + 1) (g3 : m' 41 3 = 0) (g7 : m' 41 17 = 0) (hr : mRow m' (S 0 3) w) (ok : okRow w) : mI (sAn S w) F m' := by
  obtain ⟨i1, i2, i3, i4, i5, i6, i7, i8⟩ := h
  have a1 := i2.1
  have SR : ∀ x, x ≠ 0 → x ≠ 100 + S 0 3 → sAn S w x = S x := fun x a b => sAn_r a b
  have S0 : ∀ j, (j ≠ 0 ∧ j ≠ 2 ∧ j ≠ 3) → sAn S w 0 j = S 0 j := fun j u => sAn_0 u a1.1
  have E : ∀ x, x ≠ 41 → x ≠ 42 → m' x = m x := fun x a b => funext fun j => g x j (by omega) (by omega)
  have e1 : ∀ j, (j < 12 ∨ 20 < j) → j ≠ 1 → j ≠ 3 → m' 41 j = m 41 j := fun j a b c => g 41 j (by omega) (by omega)
  refine ⟨?_, ?_, ?_, ?_, ?_, ?_, ?_, ?_⟩
  · obtain ⟨n1, n2, n3, n4, n5, n6, n7, n8⟩ := i1
    unfold mNm
    rw [g3, g7, sAn_00, sAn_02, e1 5 (by omega) (by omega) (by omega), e1 62 (by omega) (by omega) (by omega), e1 63 (by omega) (by omega) (by omega), e1 67 (by omega) (by omega) (by omega), E 44 (by omega) (by omega), S0 1 (by omega), S0 7 (by omega), S0 8 (by omega), S0 9 (by omega), SR 2 (by omega) (by omega)]
    exact ⟨rfl, fun i a b => by omega, n3, n4, rfl, n6, n7, n8⟩
  · unfold mAs
    rw [sAn_03]
    refine ⟨by omega, g1, fun i u v => ?_⟩
    by_cases k : i = S 0 3
    · subst k
      rw [sAn_n a1.1]
      exact ⟨hr, ok⟩
    · rw [SR (100 + i) (by omega) (by omega)]
      have q := i2.2.2 i u (by omega)
      exact ⟨⟨q.1.1, q.1.2.1, fun k x y => by rw [g 42 _ (by omega) (by omega)]; exact q.1.2.2 k x y⟩, q.2⟩
  · obtain ⟨⟨s1, s2⟩, s3, s4⟩ := i3
    unfold mEs sEs
    rw [S0 5 (by omega), sAn_03, SR 16 (by omega) (by omega), SR 17 (by omega) (by omega), SR 18 (by omega) (by omega), e1 40 (by omega) (by omega) (by omega), E 65 (by omega) (by omega), E 66 (by omega) (by omega), E 67 (by omega) (by omega)]
    exact ⟨⟨s1, fun e u v => by have := s2 e u v; omega⟩, s3, s4⟩
  · obtain ⟨⟨s1, s2⟩, s3⟩ := i4
    unfold mPs sPs
    rw [S0 4 (by omega), sAn_03, SR 10 (by omega) (by omega), SR 11 (by omega) (by omega), SR 12 (by omega) (by omega), SR 13 (by omega) (by omega), SR 14 (by omega) (by omega), SR 15 (by omega) (by omega), e1 28 (by omega) (by omega) (by omega), E 56 (by omega) (by omega), E 57 (by omega) (by omega), E 58 (by omega) (by omega), E 59 (by omega) (by omega), E 60 (by omega) (by omega), E 61 (by omega) (by omega)]
    exact ⟨⟨s1, fun p u v => by have := s2 p u v; omega⟩, s3⟩
  · unfold mCs
    rw [S0 6 (by omega), SR 20 (by omega) (by omega), e1 46 (by omega) (by omega) (by omega), E 70 (by omega) (by omega), E 69 (by omega) (by omega)]
    refine ⟨i5.1, i5.2.1, fun i a b => ?_⟩
    obtain ⟨⟨q, hi, c1, c2, c3⟩, c4⟩ := i5.2.2 i a b
    exact ⟨⟨q, hi, c1, c2, c3.keep (fun x j u v _ _ => by rw [E x (by omega) (by omega)])⟩, c4⟩
  · unfold mDn mDr
    rw [sAn_03, e1 23 (by omega) (by omega) (by omega), E 51 (by omega) (by omega), E 52 (by omega) (by omega)]
    refine ⟨by have := i6.1; omega, fun i a b c => ?_⟩
    have := i6.1
    rw [SR (100 + i) (by omega) (by omega)]
    exact i6.2 i a (by omega) c
  · unfold mTk
    rw [e1 27 (by omega) (by omega) (by omega), E 55 (by omega) (by omega)]
    exact i7
  · unfold mOn mW5 mWr mWd
    rw [E 45 (by omega) (by omega), E 46 (by omega) (by omega), E 47 (by omega) (by omega), E 48 (by omega) (by omega), E 49 (by omega) (by omega), E 50 (by omega) (by omega)]
    exact i8
theorem mI.t {S : aM} {F : Int → aD} {m m' : aM} {c : Int} (h : mI S F m) (g : ∀ x j, (x ≠ 41 ∨ ((j < 12 ∨ 20 < j) ∧ j ≠ 3)) → (x ≠ 42 ∨ j < 3300) → m' x j = m x j) (g3 : m' 41 3 = 0) (g7 : m' 41 17 = c) {S' : aM} (s0 : ∀ j, j ≠ 0 → j ≠ 2 → S' 0 j = S 0 j) (s00 : S' 0 0 = 0) (s02 : S' 0 2 = c) (sr : ∀ x, x ≠ 0 → S' x = S x) : mI S' F m' := by
  have E : ∀ x, x ≠ 41 → x ≠ 42 → m' x = m x := fun x a b => funext fun j => g x j (by omega) (by omega)
  have e1 : ∀ j, (j < 12 ∨ 20 < j) → j ≠ 3 → m' 41 j = m 41 j := fun j a c => g 41 j (by omega) (by omega)
  have hn : mNm S' m' := by
    obtain ⟨n1, n2, n3, n4, n5, n6, n7, n8⟩ := h.1
    unfold mNm
    rw [g3, g7, s00, s02, e1 5 (by omega) (by omega), e1 62 (by omega) (by omega), e1 63 (by omega) (by omega), e1 67 (by omega) (by omega), E 44 (by omega) (by omega), s0 1 (by omega) (by omega), s0 7 (by omega) (by omega), s0 8 (by omega) (by omega), s0 9 (by omega) (by omega), sr 2 (by omega)]
    exact ⟨rfl, fun i a b => by omega, n3, n4, rfl, n6, n7, n8⟩
  have he : mEs S' m' := by
    refine mEs.cg ?_ (s0 5 (by omega) (by omega)) (s0 3 (by omega) (by omega)) (fun x a b => sr x (by omega))
    unfold mEs
    rw [e1 40 (by omega) (by omega), E 65 (by omega) (by omega), E 66 (by omega) (by omega), E 67 (by omega) (by omega)]
    exact h.2.2.1
  exact h.up hn he (fun j u => e1 j (by omega) (by omega)) (fun x u => E x (by omega) (by omega)) (fun j u => g 42 j (by omega) (by omega)) (s0 3 (by omega) (by omega)) (s0 4 (by omega) (by omega)) (s0 6 (by omega) (by omega)) (fun x u => sr x (by omega))
theorem ms_191 {d : Nat} {m : aM} {Q : aO → aM → Prop} {S : aM} {F : Int → aD} {k : Int} {K A V E : Int → Int} {N : Int} (hd : 60 ≤ d) (hk : 0 ≤ k) (hz0 : mZ (k + 1) S F m) (si : sI S F) (lx : x_lx (S 1) (S 0 0) K A V E N) (nb : N ≤ 1201) (ok : S 0 3 ≠ 50 → ∀ q w ls, p_read K A V 1201 = .inr (q, (w, ls)) → okRow (p_row w (p_set ls))) (hQ : ∀ m', mZ k (c_blz K A V S).2 F m' → (∀ x j, x < 41 ∨ 76 < x → m' x j = m x j) → Q (.inl (some (aI (c_blz K A V S).1))) m') : am_wpc am_G am_T d 191 [aR 41] m Q := by
  have h := hz0.1
  obtain ⟨r1, r2⟩ := id hz0.2
  have fr := mFr.rfl m
  have hS := h.2.1
  have s1 := hS.1
  obtain ⟨n1, n2, n3, n4, n5, n6, n7, n8⟩ := id h.1
  have c1 := hS.2.1
  have s10 := si.1
  have hT := lx.T s10 nb
  obtain ⟨dk, hdk⟩ : ∃ k, d = k + 1 := ⟨d - 1, by omega⟩
  refine am_in (k := dk) rfl (by omega) (fun d hd => ?_)
  refine am_go 400 [] (am_wpc_cm _ _ _) wf_191 ?_
  refine And.intro (rfl) ?_
  refine And.intro (fun h1 => ?_) (fun h1 => ?_)
  · refine And.intro (rfl) ?_
    refine ct_192 (p := 0) (n0 := 1201) (by omega) ⟨n1, s10⟩ (fun k a b => by rw [n2 k a b]; exact si.2.1 k a b) (x_lx_c s10.1 (fun k a b => (n2 k a b).symm) lx) (by omega) h.2.2.2.2.2.2.2.1 (fun me q f p fy hx nz er => ?_) (fun me q x w ls p fy hx er hraw ll rd h5 => ?_)
    · have w16 := (hx.2.2.2.2.2.2.2 nz).1
      have w17 := (hx.2.2.2.2.2.2.2 nz).2.1
      have w18 := (hx.2.2.2.2.2.2.2 nz).2.2
      have pb := p_read_b hT er
      have m1 := fy 41 1 (by omega) (by omega)
      refine And.intro (rfl) ?_
      skip
      refine And.intro (rfl) ?_
      refine And.intro (fun h => absurd h (by first | omega | (simp only [mS_iff, eq_self, Int.reduceEq, true_and, and_true, false_and, and_false, and_self, ↓reduceIte]; omega))) (fun _ => ?_)
      refine And.intro (rfl) ?_
      refine And.intro (show -2147483648 ≤ (-10) - (me 41 18) ∧ (-10) - (me 41 18) ≤ 2147483647 by first | omega | (simp only [mS_iff, eq_self, Int.reduceEq, true_and, and_true, false_and, and_false, and_self, ↓reduceIte]; omega) | (simp only [mS_iff, eq_self, Int.reduceEq, true_and, and_true, false_and, and_false, and_self, ↓reduceIte] at *; omega)) ?_
      have e0 := c_blz_e (S := S) (by omega) er
      have m27 := fy 41 27 (by omega) (by omega)
      have hz := hQ ((mS me 41 3 0)) (by rw [e0]; exact ⟨h.t (c := f) (S' := sTk S f) (fun x j u v => by rw [mS_iff, if_neg (by omega)]; exact fy x j (by omega) (by omega)) (by rw [mS_iff, if_pos ⟨rfl, rfl⟩]) (by rw [mS_iff, if_neg (by omega)]; exact w17) (fun j a b => by unfold sTk; rw [mS_iff, if_neg (by omega), mS_iff, if_neg (by omega)]) (by unfold sTk; rw [mS_iff, if_neg (by omega), mS_iff, if_pos ⟨rfl, rfl⟩]) (by unfold sTk; rw [mS_iff, if_pos ⟨rfl, rfl⟩]) (fun x a => funext fun j => by unfold sTk; rw [mS_iff, if_neg (by omega), mS_iff, if_neg (by omega)]), by rw [mS_iff, if_neg (by omega)]; omega, by rw [mS_iff, if_neg (by omega)]; omega⟩) (fun x j u => by rw [mS_iff, if_neg (by omega)]; exact fy x j (by omega) (by omega))
      rw [e0] at hz
      show Q (.inl (some (aI (-10 - me 41 18)))) ((mS me 41 3 0))
      rw [w18]
      exact hz
    · have w16 := (hx.2.2.2.2.2.2.1 rfl).1
      have w17 := (hx.2.2.2.2.2.2.1 rfl).2.1
      have m1 := fy 41 1 (by omega) (by omega)
      refine And.intro (rfl) ?_
      obtain ⟨mt, et⟩ : ∃ z, z = (mS me 41 3 0) := ⟨_, rfl⟩
      rw [← et]
      have tf : ∀ x j, (x ≠ 41 ∨ j ≠ 3) → mt x j = me x j := fun x j u => by rw [et, mS_iff, if_neg (by omega)]
      have t3 : mt 41 3 = 0 := by rw [et, mS_iff, if_pos ⟨rfl, rfl⟩]
      have rd2 : mRd mt x ls := ⟨fun j a b => by rw [tf 42 _ (by omega)]; exact rd.1 j a b, fun k z j a b => by rw [tf 42 _ (by omega)]; exact rd.2 k z j a b⟩
      have t16 := tf 41 16 (by omega)
      have t1 := tf 41 1 (by omega)
      refine And.intro (rfl) ?_
      refine And.intro (fun _ => ?_) (fun h => absurd h (by first | omega | (simp only [mS_iff, eq_self, Int.reduceEq, true_and, and_true, false_and, and_false, and_self, ↓reduceIte]; omega)))
      refine And.intro (rfl) ?_
      refine ct_216 (by omega) rd2 ll (by rw [tf 42 _ (by omega)]; exact h5) hraw (p_read_9 er) (fun mm fb row => ?_)
      have b1 := fb 41 1 (by omega)
      refine And.intro (rfl) ?_
      refine ct_218 (by omega) (by omega) row (fun mf k1 kf kr => ?_)
      have e0 := c_blz_o (S := S) (by omega) er
      have z1 : mm 41 1 = S 0 3 := by omega
      rw [z1] at k1 kf kr
      have ff : ∀ x j, (x ≠ 41 ∨ ((j < 12 ∨ 20 < j) ∧ j ≠ 1 ∧ j ≠ 3)) → (x ≠ 42 ∨ j < 66 * S 0 3) → mf x j = m x j := fun x j u v => (kf x j (by omega) (by omega)).trans ((fb x j (by omega)).trans ((tf x j (by omega)).trans (fy x j (by omega) (by omega))))
      have f27 := ff 41 27 (by omega) (by omega)
      have hz := hQ mf (by rw [e0]; exact ⟨h.an (by omega) ff k1 ((kf 41 3 (by omega) (by omega)).trans ((fb 41 3 (by omega)).trans t3)) ((kf 41 17 (by omega) (by omega)).trans ((fb 41 17 (by omega)).trans ((tf 41 17 (by omega)).trans w17))) kr (ok (by omega) _ _ _ er), by omega, by omega⟩) (fun x j u => ff x j (by omega) (by omega))
      rw [e0] at hz
      rw [z1]
      exact hz
  · refine And.intro (rfl) ?_
    have e0 := c_blz_5 (K := K) (A := A) (V := V) (S := S) (by omega)
    have hz := hQ _ (by rw [e0]; exact ⟨h.t (c := S 0 2) (S' := mS S 0 0 0) (m' := (mS m 41 3 0)) (fun x j u v => by rw [mS_iff, if_neg (by omega)]) (by rw [mS_iff, if_pos ⟨rfl, rfl⟩]) (by rw [mS_iff, if_neg (by omega)]; exact n5) (fun j a b => by rw [mS_iff, if_neg (by omega)]) (by rw [mS_iff, if_pos ⟨rfl, rfl⟩]) (by rw [mS_iff, if_neg (by omega)]) (fun x a => funext fun j => by rw [mS_iff, if_neg (by omega)]), by rw [mS_iff, if_neg (by omega)]; omega, by rw [mS_iff, if_neg (by omega)]; omega⟩) (fun x j u => by rw [mS_iff, if_neg (by omega)])
    rw [e0] at hz
    exact hz
