/-! needs: 83 -/
/-! CONTRACTS: longs, strings, writing of the house; by tools/gen84.py -/
set_option maxRecDepth 100000
/-! longs that do not wrap -/
theorem l_of {x : Int} (h : -9223372036854775808 ≤ x ∧ x ≤ 9223372036854775807) : (Int64.ofInt x).toInt = x := by
  have e : (2 : Int) ^ 63 = 9223372036854775808 := by decide
  exact Int64.toInt_ofInt_of_le (by omega) (by omega)
theorem l_bm {x : Int} (h : -9223372036854775808 ≤ x ∧ x ≤ 9223372036854775807) : x.bmod (2 ^ 64) = x := by
  have e : ((2 ^ 64 : Nat) : Int) = 18446744073709551616 := by decide
  exact Int.bmod_eq_of_le_mul_two (by omega) (by omega)
theorem am_ladd_eq {a b : Int} (ha : -9223372036854775808 ≤ a ∧ a ≤ 9223372036854775807) (hb : -9223372036854775808 ≤ b ∧ b ≤ 9223372036854775807) (h : -9223372036854775808 ≤ a + b ∧ a + b ≤ 9223372036854775807) : am_ladd a b = a + b := by unfold am_ladd; rw [Int64.toInt_add, l_of ha, l_of hb, l_bm h]
theorem am_lsub_eq {a b : Int} (ha : -9223372036854775808 ≤ a ∧ a ≤ 9223372036854775807) (hb : -9223372036854775808 ≤ b ∧ b ≤ 9223372036854775807) (h : -9223372036854775808 ≤ a - b ∧ a - b ≤ 9223372036854775807) : am_lsub a b = a - b := by unfold am_lsub; rw [Int64.toInt_sub, l_of ha, l_of hb, l_bm h]
theorem am_lmul_eq {a b : Int} (ha : -9223372036854775808 ≤ a ∧ a ≤ 9223372036854775807) (hb : -9223372036854775808 ≤ b ∧ b ≤ 9223372036854775807) (h : -9223372036854775808 ≤ a * b ∧ a * b ≤ 9223372036854775807) : am_lmul a b = a * b := by unfold am_lmul; rw [Int64.toInt_mul, l_of ha, l_of hb, l_bm h]
theorem am_ldiv_eq {a b : Int} (ha : 0 ≤ a ∧ a ≤ 9223372036854775807) (hb : 0 < b ∧ b ≤ 9223372036854775807) : am_ldiv a b = a / b := by
  unfold am_ldiv
  have q1 := Int.ediv_nonneg ha.1 (Int.le_of_lt hb.1)
  have q2 := Int.ediv_le_self b ha.1
  rw [Int64.toInt_div, l_of (by omega), l_of (by omega), Int.tdiv_eq_ediv_of_nonneg ha.1, l_bm (by omega)]
theorem am_lrem_eq {a b : Int} (ha : 0 ≤ a ∧ a ≤ 9223372036854775807) (hb : 0 < b ∧ b ≤ 9223372036854775807) : am_lrem a b = a % b := by
  unfold am_lrem
  have q1 := Int.ediv_nonneg ha.1 (Int.le_of_lt hb.1)
  have q2 := Int.ediv_le_self b ha.1
  have q3 := Int.emod_nonneg a (show b ≠ 0 by omega)
  have q4 := Int.emod_lt_of_pos a hb.1
  have q5 := Int.ediv_mul_add_emod a b
  have q6 : (Int64.ofInt a / Int64.ofInt b).toInt = a / b := am_ldiv_eq ha hb
  have q7 : 0 ≤ a / b * b := Int.mul_nonneg q1 (by omega)
  rw [Int64.toInt_sub, Int64.toInt_mul, q6, l_of (by omega), l_of (by omega), l_bm (x := a / b * b) (by omega), l_bm (by omega)]
  omega
theorem am_l2i_eq {a : Int} (h : -2147483648 ≤ a ∧ a ≤ 2147483647) : am_l2i a = a := by
  unfold am_l2i
  rw [Int64.toInt_toInt32, l_of (by omega)]
  have e : ((2 ^ 32 : Nat) : Int) = 4294967296 := by decide
  exact Int.bmod_eq_of_le_mul_two (by omega) (by omega)
/-! words -/
def s_wb (w : Int) : List Int := st_by.getD w.toNat []
theorem s_wb_n : ∀ w : Nat, w < 67 → (st_by.getD w []).length ≤ 9 ∧ 1 ≤ (st_by.getD w []).length ∧ ((st_by.getD w []).all (fun b => decide (97 ≤ b) && decide (b ≤ 122))) = true := by decide +kernel
theorem s_wb_b {w : Int} (h : 0 ≤ w ∧ w < 67) : (s_wb w).length ≤ 9 ∧ 1 ≤ (s_wb w).length ∧ ∀ b ∈ s_wb w, 97 ≤ b ∧ b ≤ 122 := by
  obtain ⟨a, b, c⟩ := s_wb_n w.toNat (by omega)
  refine ⟨a, b, fun x hx => ?_⟩
  have := List.all_eq_true.mp c x hx
  simpa using this
theorem hCst.str {m : aM} (h : hCst m) {w : Int} (hw : 0 ≤ w ∧ w < 67) : (m (-(100 + w)) (-1) = 30 ∧ m (-(100 + w)) 0 = -(200 + w) ∧ m (-(100 + w)) 1 = 0) ∧ (m (-(200 + w)) (-1) = 1000 + w ∧ m (-(200 + w)) (-2) = (s_wb w).length ∧ ∀ k, 0 ≤ k → m (-(200 + w)) k = (s_wb w).getD k.toNat 0) := by
  have e1 := h (-(100 + w)) (by omega)
  have e2 := h (-(200 + w)) (by omega)
  have f1 : ∀ j, m (-(100 + w)) j = (if j = -1 then 30 else if j = 0 then -(100 + w) - 100 else 0) := fun j => by
    rw [e1]; unfold am_m0
    rw [if_neg (by omega), if_neg (by omega), if_neg (by omega), if_neg (by omega), if_pos (by omega)]
  have f2 : ∀ j, m (-(200 + w)) j = am_ar (1000 + w) (s_wb w) j := fun j => by
    rw [e2]; unfold am_m0
    rw [if_neg (by omega), if_neg (by omega), if_neg (by omega), if_neg (by omega), if_neg (by omega), if_pos (by omega), show 800 - -(200 + w) = 1000 + w by omega, show (-200 - -(200 + w)).toNat = w.toNat by omega]
    rfl
  refine ⟨⟨by rw [f1]; rfl, by rw [f1]; simp; omega, by rw [f1]; rfl⟩, by rw [f2]; rfl, by rw [f2]; rfl, fun k hk => ?_⟩
  rw [f2]; unfold am_ar
  rw [if_neg (by omega), if_neg (by omega), if_pos hk]
theorem s_shr0 : ∀ n : Nat, n < 16 → am_shr n 0 = n := by decide +kernel
theorem s_chr : ∀ b : Nat, b < 128 → am_i2c (am_and b 255) = b := by decide +kernel
theorem s_chri {b : Int} (h : 0 ≤ b ∧ b < 128) : am_i2c (am_and b 255) = b := by
  have := s_chr b.toNat (by omega)
  rw [show ((b.toNat : Nat) : Int) = b by omega] at this
  exact this
theorem s_shri {b : Int} (h : 0 ≤ b ∧ b < 16) : am_shr b 0 = b := by
  have := s_shr0 b.toNat (by omega)
  rw [show ((b.toNat : Nat) : Int) = b by omega] at this
  exact this
theorem ct_20 {d : Nat} {m : aM} {Q : aO → aM → Prop} {r w : Int} (hd : 2 ≤ d) (hC : hCst m) (hw : 0 ≤ w ∧ w < 67) (hr : r = -(100 + w)) (hQ : ∀ v, v = ((s_wb w).length : Int) → Q (.inl (some (aI v))) m) : am_wpc am_G am_T d 20 [aR r] m Q := by
  subst hr
  obtain ⟨⟨a1, a2, a3⟩, b1, b2, b3⟩ := hC.str hw
  have wl := s_wb_b hw
  refine am_in rfl hd (fun d hd => ?_)
  refine am_go 400 [] (am_wpc_cm _ _ _) wf_20 ?_
  refine And.intro (a1) ?_
  refine And.intro (show (40 ≤ m (m (-(100 + w)) 0) (-1) ∧ m (m (-(100 + w)) 0) (-1) ≤ 49) ∨ (1000 ≤ m (m (-(100 + w)) 0) (-1) ∧ m (m (-(100 + w)) 0) (-1) ≤ 1066) by rw [a2, b1]; omega) ?_
  refine And.intro (a1) ?_
  refine am_in rfl (by omega) (fun d hd => ?_)
  refine am_go 400 [] (am_wpc_cm _ _ _) wf_21 ?_
  refine And.intro (fun h => absurd h (by first | omega | (simp only [mS_iff, eq_self, Int.reduceEq, true_and, and_true, false_and, and_false, and_self, ↓reduceIte]; omega) | (simp only [mS_iff, eq_self, Int.reduceEq, true_and, and_true, false_and, and_false, and_self, ↓reduceIte] at *; omega))) (fun _ => ?_)
  refine And.intro (a1) ?_
  refine And.intro (by first | omega | (simp only [mS_iff, eq_self, Int.reduceEq, true_and, and_true, false_and, and_false, and_self, ↓reduceIte]; omega) | (simp only [mS_iff, eq_self, Int.reduceEq, true_and, and_true, false_and, and_false, and_self, ↓reduceIte] at *; omega)) ?_
  exact hQ _ (by rw [a2, b2, a3]; exact s_shri (by omega))
theorem ct_22 {d : Nat} {m : aM} {Q : aO → aM → Prop} {r w k : Int} (hd : 4 ≤ d) (hC : hCst m) (hw : 0 ≤ w ∧ w < 67) (hr : r = -(100 + w)) (hk : 0 ≤ k ∧ k < (s_wb w).length) (hQ : ∀ v, v = (s_wb w).getD k.toNat 0 → Q (.inl (some (aI v))) m) : am_wpc am_G am_T d 22 [aR r, aI k] m Q := by
  subst hr
  obtain ⟨⟨a1, a2, a3⟩, b1, b2, b3⟩ := hC.str hw
  have wl := s_wb_b hw
  have cb := wl.2.2 _ (q_getD (l := s_wb w) (j := k.toNat) (by omega))
  have ck := b3 k hk.1
  refine am_in rfl hd (fun d hd => ?_)
  refine am_go 400 [] (am_wpc_cm _ _ _) wf_22 ?_
  refine And.intro (a1) ?_
  refine am_in rfl (by omega) (fun d hd => ?_)
  refine am_go 400 [] (am_wpc_cm _ _ _) wf_23 ?_
  refine And.intro (fun h => absurd h (by first | omega | (simp only [mS_iff, eq_self, Int.reduceEq, true_and, and_true, false_and, and_false, and_self, ↓reduceIte]; omega) | (simp only [mS_iff, eq_self, Int.reduceEq, true_and, and_true, false_and, and_false, and_self, ↓reduceIte] at *; omega))) (fun _ => ?_)
  refine And.intro (a1) ?_
  refine And.intro (fun h => absurd h (by first | omega | (simp only [mS_iff, eq_self, Int.reduceEq, true_and, and_true, false_and, and_false, and_self, ↓reduceIte]; omega) | (simp only [mS_iff, eq_self, Int.reduceEq, true_and, and_true, false_and, and_false, and_self, ↓reduceIte] at *; omega))) (fun _ => ?_)
  refine And.intro (by first | omega | (rw [a2, ck, s_chri (by omega)]; omega)) ?_
  refine And.intro (fun h => absurd h (by first | omega | (simp only [mS_iff, eq_self, Int.reduceEq, true_and, and_true, false_and, and_false, and_self, ↓reduceIte]; omega) | (simp only [mS_iff, eq_self, Int.reduceEq, true_and, and_true, false_and, and_false, and_self, ↓reduceIte] at *; omega))) (fun _ => ?_)
  refine And.intro (a1) ?_
  refine am_in rfl (by omega) (fun d hd => ?_)
  refine am_go 400 [] (am_wpc_cm _ _ _) wf_25 ?_
  refine And.intro (show (40 ≤ m (m (-(100 + w)) 0) (-1) ∧ m (m (-(100 + w)) 0) (-1) ≤ 49) ∨ (1000 ≤ m (m (-(100 + w)) 0) (-1) ∧ m (m (-(100 + w)) 0) (-1) ≤ 1066) by rw [a2, b1]; omega) ?_
  refine am_in rfl (by omega) (fun d hd => ?_)
  refine am_go 400 [] (am_wpc_cm _ _ _) wf_24 ?_
  refine am_in rfl (by omega) (fun d hd => ?_)
  refine am_go 400 [] (am_wpc_cm _ _ _) wf_26 ?_
  refine And.intro (fun h => absurd h (by first | omega | (simp only [mS_iff, eq_self, Int.reduceEq, true_and, and_true, false_and, and_false, and_self, ↓reduceIte]; omega) | (simp only [mS_iff, eq_self, Int.reduceEq, true_and, and_true, false_and, and_false, and_self, ↓reduceIte] at *; omega))) (fun _ => ?_)
  refine And.intro (fun _ => ?_) (fun h => absurd h (by rw [a2, b2]; omega))
  refine And.intro (show (1000 ≤ m (m (-(100 + w)) 0) (-1) ∧ m (m (-(100 + w)) 0) (-1) ≤ 1066) ∧ 0 ≤ k ∧ k < m (m (-(100 + w)) 0) (-2) by rw [a2, b1, b2]; omega) ?_
  refine And.intro (by first | omega | (rw [a2, ck, s_chri (by omega)]; omega)) ?_
  refine And.intro (by first | omega | (rw [a2, ck, s_chri (by omega)]; omega)) ?_
  exact hQ _ (by rw [a2, ck]; exact s_chri (by omega))
