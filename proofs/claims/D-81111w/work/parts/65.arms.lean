/-! needs: 63 64 -/
/-! CONTRACTS: small ones, points, meaning; by tools/gen65.py -/
set_option maxRecDepth 100000
def s_df (a b : Int) : Int := if a = b then 0 else 1
def s_sum (f : Int → Int) : Nat → Int
  | 0 => 0
  | n + 1 => s_sum f n + f n
def s_gp (w v : Int → Int) (b : Int) : Int := if (0 < w (b + 4)) = (0 < v (b + 4)) then 0 else 1
def s_lp (w v : Int → Int) (b : Int) : Int := s_df (w b) (v b) + (if 0 < w (b + 4) then (if 0 < v (b + 4) then 0 else 1) else (if 0 < v (b + 4) then 1 else 0)) + s_df (w (b + 1)) (v (b + 1)) + (if 0 ≤ w (b + 1) ∧ 0 ≤ v (b + 1) then s_df (w (b + 2)) (v (b + 2)) + s_df (w (b + 3)) (v (b + 3)) else 0) + (if 0 < w (b + 4) ∧ 0 < v (b + 4) then s_df (w (b + 6)) (v (b + 6)) + s_df (w (b + 7)) (v (b + 7)) + s_df (w (b + 5)) (v (b + 5)) + s_df (w (b + 8)) (v (b + 8)) + s_df (w (b + 4)) (v (b + 4)) + s_df (w (b + 9)) (v (b + 9)) else 0)
def s_lt (w v : Int → Int) (l : Int) : Int := if l < w 5 ∧ l < v 5 then s_lp w v (6 + 10 * l) else if l < w 5 ∨ l < v 5 then 2 else 0
def s_fp (w v : Int → Int) : Int := s_df (w 0) (v 0) + s_df (w 1) (v 1) + s_df (w 2) (v 2) + s_df (w 3) (v 3) + s_df (w 4) (v 4)
/-- in how many points they differ -/
def s_pt (w v : Int → Int) : Int := s_fp w v + s_sum (s_lt w v) 6
theorem s_df_b (a b : Int) : 0 ≤ s_df a b ∧ s_df a b ≤ 1 := by unfold s_df; omega
theorem s_lp_b (w v : Int → Int) (b : Int) : 0 ≤ s_lp w v b ∧ s_lp w v b ≤ 12 := by
  have h0 := s_df_b (w b) (v b)
  have h1 := s_df_b (w (b + 1)) (v (b + 1))
  have h2 := s_df_b (w (b + 2)) (v (b + 2))
  have h3 := s_df_b (w (b + 3)) (v (b + 3))
  have h4 := s_df_b (w (b + 4)) (v (b + 4))
  have h5 := s_df_b (w (b + 5)) (v (b + 5))
  have h6 := s_df_b (w (b + 6)) (v (b + 6))
  have h7 := s_df_b (w (b + 7)) (v (b + 7))
  have h8 := s_df_b (w (b + 8)) (v (b + 8))
  have h9 := s_df_b (w (b + 9)) (v (b + 9))
  unfold s_lp
  omega
theorem s_lt_eq (w v : Int → Int) (l : Int) : s_lt w v l = if l < w 5 ∧ l < v 5 then s_lp w v (6 + 10 * l) else if l < w 5 ∨ l < v 5 then 2 else 0 := rfl
theorem s_lt_b (w v : Int → Int) (b : Int) : 0 ≤ s_lt w v b ∧ s_lt w v b ≤ 12 := by
  have := s_lp_b w v (6 + 10 * b)
  unfold s_lt
  omega
theorem s_fp_b (w v : Int → Int) : 0 ≤ s_fp w v ∧ s_fp w v ≤ 5 := by
  have h0 := s_df_b (w 0) (v 0)
  have h1 := s_df_b (w 1) (v 1)
  have h2 := s_df_b (w 2) (v 2)
  have h3 := s_df_b (w 3) (v 3)
  have h4 := s_df_b (w 4) (v 4)
  unfold s_fp
  omega
theorem s_sum_b {f : Int → Int} {c : Int} (h : ∀ k, 0 ≤ f k ∧ f k ≤ c) : ∀ n : Nat, 0 ≤ s_sum f n ∧ s_sum f n ≤ c * n := by
  intro n
  induction n with
  | zero => simp [s_sum]
  | succ n ih => have := h n; simp only [s_sum, Int.natCast_succ, Int.mul_add, Int.mul_one]; omega
theorem s_sum_s {f : Int → Int} {k : Int} (h : 0 ≤ k) : s_sum f (k + 1).toNat = s_sum f k.toNat + f k := by
  obtain ⟨n, rfl⟩ := Int.eq_ofNat_of_zero_le h
  rfl
theorem s_sum_z {f : Int → Int} {a b : Nat} (h : a ≤ b) (z : ∀ k : Int, a ≤ k → k < b → f k = 0) : s_sum f b = s_sum f a := by
  obtain ⟨c, rfl⟩ := Nat.exists_eq_add_of_le h
  induction c with
  | zero => rfl
  | succ c ih =>
    have e := z (a + c : Nat) (by omega) (by omega)
    rw [show a + (c + 1) = (a + c) + 1 from rfl, s_sum, ih (by omega) (fun k h1 h2 => z k h1 (by omega)), e]
    omega
/-- row a of the reference -/
def mRow (m : aM) (a : Int) (w : Int → Int) : Prop := 0 ≤ a ∧ a ≤ 51 ∧ ∀ k, 0 ≤ k → k < 66 → m 42 (66 * a + k) = w k
theorem ct_36 {d : Nat} {m : aM} {Q : aO → aM → Prop} {t : Int} (hd : 1 ≤ d)  (hQ : ∀ v, v = s_kd t → Q (.inl (some (aI v))) m) : am_wpc am_G am_T d 36 [aI t] m Q := by
  refine am_in rfl hd (fun d hd => ?_)
  refine am_go 400 [] (am_wpc_cm _ _ _) wf_36 ?_
  refine And.intro (fun h1 => ?_) (fun h1 => ?_)
  · refine And.intro (fun h2 => ?_) (fun h2 => ?_)
    · exact hQ _ (by unfold s_kd; omega)
    · exact hQ _ (by unfold s_kd; omega)
  · exact hQ _ (by unfold s_kd; omega)
theorem ct_190 {d : Nat} {m : aM} {Q : aO → aM → Prop} {t : Int} (hd : 1 ≤ d)  (hQ : ∀ v, v = s_kd t → Q (.inl (some (aI v))) m) : am_wpc am_G am_T d 190 [aI t] m Q := by
  refine am_in rfl hd (fun d hd => ?_)
  refine am_go 400 [] (am_wpc_cm _ _ _) wf_190 ?_
  refine And.intro (fun h1 => ?_) (fun h1 => ?_)
  · refine And.intro (fun h2 => ?_) (fun h2 => ?_)
    · exact hQ _ (by unfold s_kd; omega)
    · exact hQ _ (by unfold s_kd; omega)
  · exact hQ _ (by unfold s_kd; omega)
theorem ct_52 {d : Nat} {m : aM} {Q : aO → aM → Prop} {t : Int} (hd : 1 ≤ d)  (hQ : ∀ v, v = s_fa t → Q (.inl (some (aI v))) m) : am_wpc am_G am_T d 52 [aI t] m Q := by
  refine am_in rfl hd (fun d hd => ?_)
  refine am_go 400 [] (am_wpc_cm _ _ _) wf_52 ?_
  refine And.intro (fun h1 => ?_) (fun h1 => ?_)
  · refine And.intro (fun h2 => ?_) (fun h2 => ?_)
    · refine And.intro (fun h3 => ?_) (fun h3 => ?_)
      · exact hQ _ (by unfold s_fa; omega)
      · exact hQ _ (by unfold s_fa; omega)
    · exact hQ _ (by unfold s_fa; omega)
  · exact hQ _ (by unfold s_fa; omega)
theorem ct_212 {d : Nat} {m : aM} {Q : aO → aM → Prop} {t : Int} (hd : 1 ≤ d)  (hQ : ∀ v, v = s_fa t → Q (.inl (some (aI v))) m) : am_wpc am_G am_T d 212 [aI t] m Q := by
  refine am_in rfl hd (fun d hd => ?_)
  refine am_go 400 [] (am_wpc_cm _ _ _) wf_212 ?_
  refine And.intro (fun h1 => ?_) (fun h1 => ?_)
  · refine And.intro (fun h2 => ?_) (fun h2 => ?_)
    · refine And.intro (fun h3 => ?_) (fun h3 => ?_)
      · exact hQ _ (by unfold s_fa; omega)
      · exact hQ _ (by unfold s_fa; omega)
    · exact hQ _ (by unfold s_fa; omega)
  · exact hQ _ (by unfold s_fa; omega)
theorem ct_62 {d : Nat} {m : aM} {Q : aO → aM → Prop} {a b : Int} (hd : 1 ≤ d)  (hQ : ∀ v, v = s_df a b → (0 ≤ v ∧ v ≤ 1) → Q (.inl (some (aI v))) m) : am_wpc am_G am_T d 62 [aI a, aI b] m Q := by
  refine am_in rfl hd (fun d hd => ?_)
  refine am_go 400 [] (am_wpc_cm _ _ _) wf_62 ?_
  refine And.intro (fun h1 => ?_) (fun h1 => ?_)
  · exact hQ _ (by unfold s_df; omega) (by omega)
  · exact hQ _ (by unfold s_df; omega) (by omega)
theorem ct_272 {d : Nat} {m : aM} {Q : aO → aM → Prop} {a b : Int} (hd : 1 ≤ d)  (hQ : ∀ v, v = s_df a b → (0 ≤ v ∧ v ≤ 1) → Q (.inl (some (aI v))) m) : am_wpc am_G am_T d 272 [aI a, aI b] m Q := by
  refine am_in rfl hd (fun d hd => ?_)
  refine am_go 400 [] (am_wpc_cm _ _ _) wf_272 ?_
  refine And.intro (fun h1 => ?_) (fun h1 => ?_)
  · exact hQ _ (by unfold s_df; omega) (by omega)
  · exact hQ _ (by unfold s_df; omega) (by omega)
theorem ct_27 {d : Nat} {m : aM} {Q : aO → aM → Prop} {a b : Int} (hd : 1 ≤ d)  (hQ : ∀ v, v = (if a ≤ b then b else a) → Q (.inl (some (aI v))) m) : am_wpc am_G am_T d 27 [aI a, aI b] m Q := by
  refine am_in rfl hd (fun d hd => ?_)
  refine am_go 400 [] (am_wpc_cm _ _ _) wf_27 ?_
  refine And.intro (fun h1 => ?_) (fun h1 => ?_)
  · exact hQ _ (by omega)
  · exact hQ _ (by omega)
theorem ct_29 {d : Nat} {m : aM} {Q : aO → aM → Prop} {a : Int} (hd : 1 ≤ d) (ha : -2147483647 ≤ a) (hQ : ∀ v, v = (if a < 0 then -a else a) → Q (.inl (some (aI v))) m) : am_wpc am_G am_T d 29 [aI a] m Q := by
  refine am_in rfl hd (fun d hd => ?_)
  refine am_go 400 [] (am_wpc_cm _ _ _) wf_29 ?_
  refine And.intro (fun h1 => ?_) (fun h1 => ?_)
  · exact hQ _ (by omega)
  · refine And.intro (by first | omega | (simp only [mS_iff]; omega) | (simp only [mS_iff] at *; omega)) ?_
    exact hQ _ (by omega)
theorem ct_241 {d : Nat} {m : aM} {Q : aO → aM → Prop} {a : Int} (hd : 1 ≤ d) (ha : -2147483647 ≤ a) (hQ : ∀ v, v = (if a < 0 then -a else a) → Q (.inl (some (aI v))) m) : am_wpc am_G am_T d 241 [aI a] m Q := by
  refine am_in rfl hd (fun d hd => ?_)
  refine am_go 400 [] (am_wpc_cm _ _ _) wf_241 ?_
  refine And.intro (fun h1 => ?_) (fun h1 => ?_)
  · exact hQ _ (by omega)
  · refine And.intro (by first | omega | (simp only [mS_iff]; omega) | (simp only [mS_iff] at *; omega)) ?_
    exact hQ _ (by omega)
theorem ct_63 {d : Nat} {m : aM} {Q : aO → aM → Prop} {l1 l2 b lo hi lo2 hi2 : Int} {w v : Int → Int} (hd : 2 ≤ d) (h0 : 29 ≤ lo ∧ 29 ≤ lo2) (h1 : hLay m lo hi l1 w b) (h2 : hLay m lo2 hi2 l2 v b) (hQ : ∀ x, x = s_lp w v b → Q (.inl (some (aI x))) m) : am_wpc am_G am_T d 63 [aR l1, aR l2] m Q := by
  refine am_in rfl hd (fun d hd => ?_)
  obtain ⟨a1, a2, -, a4, a5, a6, a7, a8, -⟩ := h1
  obtain ⟨b1, b2, -, b4, b5, b6, b7, b8, -⟩ := h2
  have hz : s_df (w b) (v b) = if w b = v b then 0 else 1 := rfl
  rcases a5 with ⟨a50, a51, a52, a53⟩ | ⟨a50, a51, a52, ⟨a53, -, -, -, -, -⟩, a54, a55, a56, -⟩
  ·
    rcases b5 with ⟨b50, b51, b52, b53⟩ | ⟨b50, b51, b52, ⟨b53, -, -, -, -, -⟩, b54, b55, b56, -⟩
    ·
      rcases a6 with ⟨a60, a61, a62, a63, a64, a65, a66⟩ | ⟨a60, a61, a62, ⟨a63, -, -, -, -, -, -, -, -, -, -, -, -⟩, a64, a65, a66, a67, -⟩
      ·
        rcases b6 with ⟨b60, b61, b62, b63, b64, b65, b66⟩ | ⟨b60, b61, b62, ⟨b63, -, -, -, -, -, -, -, -, -, -, -, -⟩, b64, b65, b66, b67, -⟩
        ·
          refine am_go 400 [] (am_wpc_cm _ _ _) wf_63 ?_
          refine And.intro (show (m l1 (-1)) = 7 by first | assumption | omega | (simp only [mS_iff]; omega) | (simp only [mS_iff] at *; omega)) ?_
          refine And.intro (show (m l2 (-1)) = 7 by first | assumption | omega | (simp only [mS_iff]; omega) | (simp only [mS_iff] at *; omega)) ?_
          refine And.intro (fun h1 => ?_) (fun h1 => ?_)
          · refine And.intro (show (m l1 (-1)) = 7 by first | assumption | omega | (simp only [mS_iff]; omega) | (simp only [mS_iff] at *; omega)) ?_
            refine And.intro (show (m l1 2) ≠ -9 by first | omega | (simp only [mS_iff]; omega) | (simp only [mS_iff] at *; omega)) ?_
            refine And.intro (fun h => absurd h (by omega)) (fun _ => ?_)
            refine And.intro (show (m l2 (-1)) = 7 by first | assumption | omega | (simp only [mS_iff]; omega) | (simp only [mS_iff] at *; omega)) ?_
            refine And.intro (show (m l2 2) ≠ -9 by first | omega | (simp only [mS_iff]; omega) | (simp only [mS_iff] at *; omega)) ?_
            refine And.intro (fun h => absurd h (by omega)) (fun _ => ?_)
            refine And.intro (fun _ => ?_) (fun h => absurd h (by decide))
            refine And.intro (show -2147483648 ≤ 0 + 0 ∧ 0 + 0 ≤ 2147483647 by first | omega | (simp only [mS_iff]; omega) | (simp only [mS_iff] at *; omega)) ?_
            refine And.intro (show (m l1 (-1)) = 7 by first | assumption | omega | (simp only [mS_iff]; omega) | (simp only [mS_iff] at *; omega)) ?_
            refine And.intro (show (m l2 (-1)) = 7 by first | assumption | omega | (simp only [mS_iff]; omega) | (simp only [mS_iff] at *; omega)) ?_
            refine And.intro (show (m l1 1) ≠ -9 by first | omega | (simp only [mS_iff]; omega) | (simp only [mS_iff] at *; omega)) ?_
            refine And.intro (fun h => absurd h (by omega)) (fun _ => ?_)
            refine And.intro (show (m l2 1) ≠ -9 by first | omega | (simp only [mS_iff]; omega) | (simp only [mS_iff] at *; omega)) ?_
            refine And.intro (fun h => absurd h (by omega)) (fun _ => ?_)
            refine ct_62 (by omega) (fun v2 h3 h4 => ?_)
            refine And.intro (show -2147483648 ≤ 0 + v2 ∧ 0 + v2 ≤ 2147483647 by first | omega | (simp only [mS_iff]; omega) | (simp only [mS_iff] at *; omega)) ?_
            refine And.intro (show (m l1 1) ≠ -9 by first | omega | (simp only [mS_iff]; omega) | (simp only [mS_iff] at *; omega)) ?_
            refine And.intro (fun _ => ?_) (fun h => absurd h (by omega))
            refine And.intro (show (m l1 (-1)) = 7 by first | assumption | omega | (simp only [mS_iff]; omega) | (simp only [mS_iff] at *; omega)) ?_
            refine And.intro (show (m l2 (-1)) = 7 by first | assumption | omega | (simp only [mS_iff]; omega) | (simp only [mS_iff] at *; omega)) ?_
            refine And.intro (show (m l1 2) ≠ -9 by first | omega | (simp only [mS_iff]; omega) | (simp only [mS_iff] at *; omega)) ?_
            refine And.intro (fun _ => ?_) (fun h => absurd h (by omega))
            exact hQ _ (by simp only [h3, a4, b4, a7, a8, b7, b8, a51, b51, s_lp]; omega)
          · refine And.intro (show (m l1 (-1)) = 7 by first | assumption | omega | (simp only [mS_iff]; omega) | (simp only [mS_iff] at *; omega)) ?_
            refine And.intro (show (m l1 2) ≠ -9 by first | omega | (simp only [mS_iff]; omega) | (simp only [mS_iff] at *; omega)) ?_
            refine And.intro (fun h => absurd h (by omega)) (fun _ => ?_)
            refine And.intro (show (m l2 (-1)) = 7 by first | assumption | omega | (simp only [mS_iff]; omega) | (simp only [mS_iff] at *; omega)) ?_
            refine And.intro (show (m l2 2) ≠ -9 by first | omega | (simp only [mS_iff]; omega) | (simp only [mS_iff] at *; omega)) ?_
            refine And.intro (fun h => absurd h (by omega)) (fun _ => ?_)
            refine And.intro (fun _ => ?_) (fun h => absurd h (by decide))
            refine And.intro (show -2147483648 ≤ 1 + 0 ∧ 1 + 0 ≤ 2147483647 by first | omega | (simp only [mS_iff]; omega) | (simp only [mS_iff] at *; omega)) ?_
            refine And.intro (show (m l1 (-1)) = 7 by first | assumption | omega | (simp only [mS_iff]; omega) | (simp only [mS_iff] at *; omega)) ?_
            refine And.intro (show (m l2 (-1)) = 7 by first | assumption | omega | (simp only [mS_iff]; omega) | (simp only [mS_iff] at *; omega)) ?_
            refine And.intro (show (m l1 1) ≠ -9 by first | omega | (simp only [mS_iff]; omega) | (simp only [mS_iff] at *; omega)) ?_
            refine And.intro (fun h => absurd h (by omega)) (fun _ => ?_)
            refine And.intro (show (m l2 1) ≠ -9 by first | omega | (simp only [mS_iff]; omega) | (simp only [mS_iff] at *; omega)) ?_
            refine And.intro (fun h => absurd h (by omega)) (fun _ => ?_)
            refine ct_62 (by omega) (fun v5 h6 h7 => ?_)
            refine And.intro (show -2147483648 ≤ 1 + v5 ∧ 1 + v5 ≤ 2147483647 by first | omega | (simp only [mS_iff]; omega) | (simp only [mS_iff] at *; omega)) ?_
            refine And.intro (show (m l1 1) ≠ -9 by first | omega | (simp only [mS_iff]; omega) | (simp only [mS_iff] at *; omega)) ?_
            refine And.intro (fun _ => ?_) (fun h => absurd h (by omega))
            refine And.intro (show (m l1 (-1)) = 7 by first | assumption | omega | (simp only [mS_iff]; omega) | (simp only [mS_iff] at *; omega)) ?_
            refine And.intro (show (m l2 (-1)) = 7 by first | assumption | omega | (simp only [mS_iff]; omega) | (simp only [mS_iff] at *; omega)) ?_
            refine And.intro (show (m l1 2) ≠ -9 by first | omega | (simp only [mS_iff]; omega) | (simp only [mS_iff] at *; omega)) ?_
            refine And.intro (fun _ => ?_) (fun h => absurd h (by omega))
            exact hQ _ (by simp only [h6, a4, b4, a7, a8, b7, b8, a51, b51, s_lp]; omega)
        ·
          refine am_go 400 [] (am_wpc_cm _ _ _) wf_63 ?_
          refine And.intro (show (m l1 (-1)) = 7 by first | assumption | omega | (simp only [mS_iff]; omega) | (simp only [mS_iff] at *; omega)) ?_
          refine And.intro (show (m l2 (-1)) = 7 by first | assumption | omega | (simp only [mS_iff]; omega) | (simp only [mS_iff] at *; omega)) ?_
          refine And.intro (fun h1 => ?_) (fun h1 => ?_)
          · refine And.intro (show (m l1 (-1)) = 7 by first | assumption | omega | (simp only [mS_iff]; omega) | (simp only [mS_iff] at *; omega)) ?_
            refine And.intro (show (m l1 2) ≠ -9 by first | omega | (simp only [mS_iff]; omega) | (simp only [mS_iff] at *; omega)) ?_
            refine And.intro (fun h => absurd h (by omega)) (fun _ => ?_)
            refine And.intro (show (m l2 (-1)) = 7 by first | assumption | omega | (simp only [mS_iff]; omega) | (simp only [mS_iff] at *; omega)) ?_
            refine And.intro (show (m l2 2) ≠ -9 by first | omega | (simp only [mS_iff]; omega) | (simp only [mS_iff] at *; omega)) ?_
            refine And.intro (fun _ => ?_) (fun h => absurd h (by omega))
            refine And.intro (fun h => absurd h (by decide)) (fun _ => ?_)
            refine And.intro (show -2147483648 ≤ 0 + 1 ∧ 0 + 1 ≤ 2147483647 by first | omega | (simp only [mS_iff]; omega) | (simp only [mS_iff] at *; omega)) ?_
            refine And.intro (show (m l1 (-1)) = 7 by first | assumption | omega | (simp only [mS_iff]; omega) | (simp only [mS_iff] at *; omega)) ?_
            refine And.intro (show (m l2 (-1)) = 7 by first | assumption | omega | (simp only [mS_iff]; omega) | (simp only [mS_iff] at *; omega)) ?_
            refine And.intro (show (m l1 1) ≠ -9 by first | omega | (simp only [mS_iff]; omega) | (simp only [mS_iff] at *; omega)) ?_
            refine And.intro (fun h => absurd h (by omega)) (fun _ => ?_)
            refine And.intro (show (m l2 1) ≠ -9 by first | omega | (simp only [mS_iff]; omega) | (simp only [mS_iff] at *; omega)) ?_
            refine And.intro (fun h => absurd h (by omega)) (fun _ => ?_)
            refine ct_62 (by omega) (fun v2 h3 h4 => ?_)
            refine And.intro (show -2147483648 ≤ 1 + v2 ∧ 1 + v2 ≤ 2147483647 by first | omega | (simp only [mS_iff]; omega) | (simp only [mS_iff] at *; omega)) ?_
            refine And.intro (show (m l1 1) ≠ -9 by first | omega | (simp only [mS_iff]; omega) | (simp only [mS_iff] at *; omega)) ?_
            refine And.intro (fun _ => ?_) (fun h => absurd h (by omega))
            refine And.intro (show (m l1 (-1)) = 7 by first | assumption | omega | (simp only [mS_iff]; omega) | (simp only [mS_iff] at *; omega)) ?_
            refine And.intro (show (m l2 (-1)) = 7 by first | assumption | omega | (simp only [mS_iff]; omega) | (simp only [mS_iff] at *; omega)) ?_
            refine And.intro (show (m l1 2) ≠ -9 by first | omega | (simp only [mS_iff]; omega) | (simp only [mS_iff] at *; omega)) ?_
            refine And.intro (fun _ => ?_) (fun h => absurd h (by omega))
            exact hQ _ (by simp only [h3, a4, b4, a7, a8, b7, b8, a51, b51, b64, b65, b66, b67, s_lp]; omega)
          · refine And.intro (show (m l1 (-1)) = 7 by first | assumption | omega | (simp only [mS_iff]; omega) | (simp only [mS_iff] at *; omega)) ?_
            refine And.intro (show (m l1 2) ≠ -9 by first | omega | (simp only [mS_iff]; omega) | (simp only [mS_iff] at *; omega)) ?_
            refine And.intro (fun h => absurd h (by omega)) (fun _ => ?_)
            refine And.intro (show (m l2 (-1)) = 7 by first | assumption | omega | (simp only [mS_iff]; omega) | (simp only [mS_iff] at *; omega)) ?_
            refine And.intro (show (m l2 2) ≠ -9 by first | omega | (simp only [mS_iff]; omega) | (simp only [mS_iff] at *; omega)) ?_
            refine And.intro (fun _ => ?_) (fun h => absurd h (by omega))
            refine And.intro (fun h => absurd h (by decide)) (fun _ => ?_)
            refine And.intro (show -2147483648 ≤ 1 + 1 ∧ 1 + 1 ≤ 2147483647 by first | omega | (simp only [mS_iff]; omega) | (simp only [mS_iff] at *; omega)) ?_
            refine And.intro (show (m l1 (-1)) = 7 by first | assumption | omega | (simp only [mS_iff]; omega) | (simp only [mS_iff] at *; omega)) ?_
            refine And.intro (show (m l2 (-1)) = 7 by first | assumption | omega | (simp only [mS_iff]; omega) | (simp only [mS_iff] at *; omega)) ?_
            refine And.intro (show (m l1 1) ≠ -9 by first | omega | (simp only [mS_iff]; omega) | (simp only [mS_iff] at *; omega)) ?_
            refine And.intro (fun h => absurd h (by omega)) (fun _ => ?_)
            refine And.intro (show (m l2 1) ≠ -9 by first | omega | (simp only [mS_iff]; omega) | (simp only [mS_iff] at *; omega)) ?_
            refine And.intro (fun h => absurd h (by omega)) (fun _ => ?_)
            refine ct_62 (by omega) (fun v5 h6 h7 => ?_)
            refine And.intro (show -2147483648 ≤ 2 + v5 ∧ 2 + v5 ≤ 2147483647 by first | omega | (simp only [mS_iff]; omega) | (simp only [mS_iff] at *; omega)) ?_
            refine And.intro (show (m l1 1) ≠ -9 by first | omega | (simp only [mS_iff]; omega) | (simp only [mS_iff] at *; omega)) ?_
            refine And.intro (fun _ => ?_) (fun h => absurd h (by omega))
            refine And.intro (show (m l1 (-1)) = 7 by first | assumption | omega | (simp only [mS_iff]; omega) | (simp only [mS_iff] at *; omega)) ?_
            refine And.intro (show (m l2 (-1)) = 7 by first | assumption | omega | (simp only [mS_iff]; omega) | (simp only [mS_iff] at *; omega)) ?_
            refine And.intro (show (m l1 2) ≠ -9 by first | omega | (simp only [mS_iff]; omega) | (simp only [mS_iff] at *; omega)) ?_
            refine And.intro (fun _ => ?_) (fun h => absurd h (by omega))
            exact hQ _ (by simp only [h6, a4, b4, a7, a8, b7, b8, a51, b51, b64, b65, b66, b67, s_lp]; omega)
      ·
        rcases b6 with ⟨b60, b61, b62, b63, b64, b65, b66⟩ | ⟨b60, b61, b62, ⟨b63, -, -, -, -, -, -, -, -, -, -, -, -⟩, b64, b65, b66, b67, -⟩
        ·
          refine am_go 400 [] (am_wpc_cm _ _ _) wf_63 ?_
          refine And.intro (show (m l1 (-1)) = 7 by first | assumption | omega | (simp only [mS_iff]; omega) | (simp only [mS_iff] at *; omega)) ?_
          refine And.intro (show (m l2 (-1)) = 7 by first | assumption | omega | (simp only [mS_iff]; omega) | (simp only [mS_iff] at *; omega)) ?_
          refine And.intro (fun h1 => ?_) (fun h1 => ?_)
          · refine And.intro (show (m l1 (-1)) = 7 by first | assumption | omega | (simp only [mS_iff]; omega) | (simp only [mS_iff] at *; omega)) ?_
            refine And.intro (show (m l1 2) ≠ -9 by first | omega | (simp only [mS_iff]; omega) | (simp only [mS_iff] at *; omega)) ?_
            refine And.intro (fun _ => ?_) (fun h => absurd h (by omega))
            refine And.intro (show (m l2 (-1)) = 7 by first | assumption | omega | (simp only [mS_iff]; omega) | (simp only [mS_iff] at *; omega)) ?_
            refine And.intro (show (m l2 2) ≠ -9 by first | omega | (simp only [mS_iff]; omega) | (simp only [mS_iff] at *; omega)) ?_
            refine And.intro (fun h => absurd h (by omega)) (fun _ => ?_)
            refine And.intro (fun h => absurd h (by decide)) (fun _ => ?_)
            refine And.intro (show -2147483648 ≤ 0 + 1 ∧ 0 + 1 ≤ 2147483647 by first | omega | (simp only [mS_iff]; omega) | (simp only [mS_iff] at *; omega)) ?_
            refine And.intro (show (m l1 (-1)) = 7 by first | assumption | omega | (simp only [mS_iff]; omega) | (simp only [mS_iff] at *; omega)) ?_
            refine And.intro (show (m l2 (-1)) = 7 by first | assumption | omega | (simp only [mS_iff]; omega) | (simp only [mS_iff] at *; omega)) ?_
            refine And.intro (show (m l1 1) ≠ -9 by first | omega | (simp only [mS_iff]; omega) | (simp only [mS_iff] at *; omega)) ?_
            refine And.intro (fun h => absurd h (by omega)) (fun _ => ?_)
            refine And.intro (show (m l2 1) ≠ -9 by first | omega | (simp only [mS_iff]; omega) | (simp only [mS_iff] at *; omega)) ?_
            refine And.intro (fun h => absurd h (by omega)) (fun _ => ?_)
            refine ct_62 (by omega) (fun v2 h3 h4 => ?_)
            refine And.intro (show -2147483648 ≤ 1 + v2 ∧ 1 + v2 ≤ 2147483647 by first | omega | (simp only [mS_iff]; omega) | (simp only [mS_iff] at *; omega)) ?_
            refine And.intro (show (m l1 1) ≠ -9 by first | omega | (simp only [mS_iff]; omega) | (simp only [mS_iff] at *; omega)) ?_
            refine And.intro (fun _ => ?_) (fun h => absurd h (by omega))
            refine And.intro (show (m l1 (-1)) = 7 by first | assumption | omega | (simp only [mS_iff]; omega) | (simp only [mS_iff] at *; omega)) ?_
            refine And.intro (show (m l2 (-1)) = 7 by first | assumption | omega | (simp only [mS_iff]; omega) | (simp only [mS_iff] at *; omega)) ?_
            refine And.intro (show (m l1 2) ≠ -9 by first | omega | (simp only [mS_iff]; omega) | (simp only [mS_iff] at *; omega)) ?_
            refine And.intro (fun h => absurd h (by omega)) (fun _ => ?_)
            refine And.intro (show (m l2 2) ≠ -9 by first | omega | (simp only [mS_iff]; omega) | (simp only [mS_iff] at *; omega)) ?_
            refine And.intro (fun _ => ?_) (fun h => absurd h (by omega))
            exact hQ _ (by simp only [h3, a4, b4, a7, a8, b7, b8, a51, b51, a64, a65, a66, a67, s_lp]; omega)
          · refine And.intro (show (m l1 (-1)) = 7 by first | assumption | omega | (simp only [mS_iff]; omega) | (simp only [mS_iff] at *; omega)) ?_
            refine And.intro (show (m l1 2) ≠ -9 by first | omega | (simp only [mS_iff]; omega) | (simp only [mS_iff] at *; omega)) ?_
            refine And.intro (fun _ => ?_) (fun h => absurd h (by omega))
            refine And.intro (show (m l2 (-1)) = 7 by first | assumption | omega | (simp only [mS_iff]; omega) | (simp only [mS_iff] at *; omega)) ?_
            refine And.intro (show (m l2 2) ≠ -9 by first | omega | (simp only [mS_iff]; omega) | (simp only [mS_iff] at *; omega)) ?_
            refine And.intro (fun h => absurd h (by omega)) (fun _ => ?_)
            refine And.intro (fun h => absurd h (by decide)) (fun _ => ?_)
            refine And.intro (show -2147483648 ≤ 1 + 1 ∧ 1 + 1 ≤ 2147483647 by first | omega | (simp only [mS_iff]; omega) | (simp only [mS_iff] at *; omega)) ?_
            refine And.intro (show (m l1 (-1)) = 7 by first | assumption | omega | (simp only [mS_iff]; omega) | (simp only [mS_iff] at *; omega)) ?_
            refine And.intro (show (m l2 (-1)) = 7 by first | assumption | omega | (simp only [mS_iff]; omega) | (simp only [mS_iff] at *; omega)) ?_
            refine And.intro (show (m l1 1) ≠ -9 by first | omega | (simp only [mS_iff]; omega) | (simp only [mS_iff] at *; omega)) ?_
            refine And.intro (fun h => absurd h (by omega)) (fun _ => ?_)
            refine And.intro (show (m l2 1) ≠ -9 by first | omega | (simp only [mS_iff]; omega) | (simp only [mS_iff] at *; omega)) ?_
            refine And.intro (fun h => absurd h (by omega)) (fun _ => ?_)
            refine ct_62 (by omega) (fun v5 h6 h7 => ?_)
            refine And.intro (show -2147483648 ≤ 2 + v5 ∧ 2 + v5 ≤ 2147483647 by first | omega | (simp only [mS_iff]; omega) | (simp only [mS_iff] at *; omega)) ?_
            refine And.intro (show (m l1 1) ≠ -9 by first | omega | (simp only [mS_iff]; omega) | (simp only [mS_iff] at *; omega)) ?_
            refine And.intro (fun _ => ?_) (fun h => absurd h (by omega))
            refine And.intro (show (m l1 (-1)) = 7 by first | assumption | omega | (simp only [mS_iff]; omega) | (simp only [mS_iff] at *; omega)) ?_
            refine And.intro (show (m l2 (-1)) = 7 by first | assumption | omega | (simp only [mS_iff]; omega) | (simp only [mS_iff] at *; omega)) ?_
            refine And.intro (show (m l1 2) ≠ -9 by first | omega | (simp only [mS_iff]; omega) | (simp only [mS_iff] at *; omega)) ?_
            refine And.intro (fun h => absurd h (by omega)) (fun _ => ?_)
            refine And.intro (show (m l2 2) ≠ -9 by first | omega | (simp only [mS_iff]; omega) | (simp only [mS_iff] at *; omega)) ?_
            refine And.intro (fun _ => ?_) (fun h => absurd h (by omega))
            exact hQ _ (by simp only [h6, a4, b4, a7, a8, b7, b8, a51, b51, a64, a65, a66, a67, s_lp]; omega)
        ·
          refine am_go 400 [] (am_wpc_cm _ _ _) wf_63 ?_
          refine And.intro (show (m l1 (-1)) = 7 by first | assumption | omega | (simp only [mS_iff]; omega) | (simp only [mS_iff] at *; omega)) ?_
          refine And.intro (show (m l2 (-1)) = 7 by first | assumption | omega | (simp only [mS_iff]; omega) | (simp only [mS_iff] at *; omega)) ?_
          refine And.intro (fun h1 => ?_) (fun h1 => ?_)
          · refine And.intro (show (m l1 (-1)) = 7 by first | assumption | omega | (simp only [mS_iff]; omega) | (simp only [mS_iff] at *; omega)) ?_
            refine And.intro (show (m l1 2) ≠ -9 by first | omega | (simp only [mS_iff]; omega) | (simp only [mS_iff] at *; omega)) ?_
            refine And.intro (fun _ => ?_) (fun h => absurd h (by omega))
            refine And.intro (show (m l2 (-1)) = 7 by first | assumption | omega | (simp only [mS_iff]; omega) | (simp only [mS_iff] at *; omega)) ?_
            refine And.intro (show (m l2 2) ≠ -9 by first | omega | (simp only [mS_iff]; omega) | (simp only [mS_iff] at *; omega)) ?_
            refine And.intro (fun _ => ?_) (fun h => absurd h (by omega))
            refine And.intro (fun _ => ?_) (fun h => absurd h (by decide))
            refine And.intro (show -2147483648 ≤ 0 + 0 ∧ 0 + 0 ≤ 2147483647 by first | omega | (simp only [mS_iff]; omega) | (simp only [mS_iff] at *; omega)) ?_
            refine And.intro (show (m l1 (-1)) = 7 by first | assumption | omega | (simp only [mS_iff]; omega) | (simp only [mS_iff] at *; omega)) ?_
            refine And.intro (show (m l2 (-1)) = 7 by first | assumption | omega | (simp only [mS_iff]; omega) | (simp only [mS_iff] at *; omega)) ?_
            refine And.intro (show (m l1 1) ≠ -9 by first | omega | (simp only [mS_iff]; omega) | (simp only [mS_iff] at *; omega)) ?_
            refine And.intro (fun h => absurd h (by omega)) (fun _ => ?_)
            refine And.intro (show (m l2 1) ≠ -9 by first | omega | (simp only [mS_iff]; omega) | (simp only [mS_iff] at *; omega)) ?_
            refine And.intro (fun h => absurd h (by omega)) (fun _ => ?_)
            refine ct_62 (by omega) (fun v2 h3 h4 => ?_)
            refine And.intro (show -2147483648 ≤ 0 + v2 ∧ 0 + v2 ≤ 2147483647 by first | omega | (simp only [mS_iff]; omega) | (simp only [mS_iff] at *; omega)) ?_
            refine And.intro (show (m l1 1) ≠ -9 by first | omega | (simp only [mS_iff]; omega) | (simp only [mS_iff] at *; omega)) ?_
            refine And.intro (fun _ => ?_) (fun h => absurd h (by omega))
            refine And.intro (show (m l1 (-1)) = 7 by first | assumption | omega | (simp only [mS_iff]; omega) | (simp only [mS_iff] at *; omega)) ?_
            refine And.intro (show (m l2 (-1)) = 7 by first | assumption | omega | (simp only [mS_iff]; omega) | (simp only [mS_iff] at *; omega)) ?_
            refine And.intro (show (m l1 2) ≠ -9 by first | omega | (simp only [mS_iff]; omega) | (simp only [mS_iff] at *; omega)) ?_
            refine And.intro (fun h => absurd h (by omega)) (fun _ => ?_)
            refine And.intro (show (m l2 2) ≠ -9 by first | omega | (simp only [mS_iff]; omega) | (simp only [mS_iff] at *; omega)) ?_
            refine And.intro (fun h => absurd h (by omega)) (fun _ => ?_)
            refine And.intro (show (m (m l1 2) (-1)) = 10 by first | assumption | omega | (simp only [mS_iff]; omega) | (simp only [mS_iff] at *; omega)) ?_
            refine And.intro (show (m (m l2 2) (-1)) = 10 by first | assumption | omega | (simp only [mS_iff]; omega) | (simp only [mS_iff] at *; omega)) ?_
            refine ct_62 (by omega) (fun v5 h6 h7 => ?_)
            refine And.intro (show (m (m l1 2) (-1)) = 10 by first | assumption | omega | (simp only [mS_iff]; omega) | (simp only [mS_iff] at *; omega)) ?_
            refine And.intro (show (m (m l2 2) (-1)) = 10 by first | assumption | omega | (simp only [mS_iff]; omega) | (simp only [mS_iff] at *; omega)) ?_
            refine ct_62 (by omega) (fun v8 h9 h10 => ?_)
            refine And.intro (show -2147483648 ≤ v5 + v8 ∧ v5 + v8 ≤ 2147483647 by first | omega | (simp only [mS_iff]; omega) | (simp only [mS_iff] at *; omega)) ?_
            refine And.intro (show (m (m l1 2) (-1)) = 10 by first | assumption | omega | (simp only [mS_iff]; omega) | (simp only [mS_iff] at *; omega)) ?_
            refine And.intro (show (m (m l2 2) (-1)) = 10 by first | assumption | omega | (simp only [mS_iff]; omega) | (simp only [mS_iff] at *; omega)) ?_
            refine ct_62 (by omega) (fun v11 h12 h13 => ?_)
            refine And.intro (show -2147483648 ≤ (v5 + v8) + v11 ∧ (v5 + v8) + v11 ≤ 2147483647 by first | omega | (simp only [mS_iff]; omega) | (simp only [mS_iff] at *; omega)) ?_
            refine And.intro (show (m (m l1 2) (-1)) = 10 by first | assumption | omega | (simp only [mS_iff]; omega) | (simp only [mS_iff] at *; omega)) ?_
            refine And.intro (show (m (m l2 2) (-1)) = 10 by first | assumption | omega | (simp only [mS_iff]; omega) | (simp only [mS_iff] at *; omega)) ?_
            refine ct_62 (by omega) (fun v14 h15 h16 => ?_)
            refine And.intro (show -2147483648 ≤ ((v5 + v8) + v11) + v14 ∧ ((v5 + v8) + v11) + v14 ≤ 2147483647 by first | omega | (simp only [mS_iff]; omega) | (simp only [mS_iff] at *; omega)) ?_
            refine And.intro (show (m l1 (-1)) = 7 by first | assumption | omega | (simp only [mS_iff]; omega) | (simp only [mS_iff] at *; omega)) ?_
            refine And.intro (show (m l2 (-1)) = 7 by first | assumption | omega | (simp only [mS_iff]; omega) | (simp only [mS_iff] at *; omega)) ?_
            refine ct_62 (by omega) (fun v17 h18 h19 => ?_)
            refine And.intro (show -2147483648 ≤ (((v5 + v8) + v11) + v14) + v17 ∧ (((v5 + v8) + v11) + v14) + v17 ≤ 2147483647 by first | omega | (simp only [mS_iff]; omega) | (simp only [mS_iff] at *; omega)) ?_
            refine And.intro (show (m l1 (-1)) = 7 by first | assumption | omega | (simp only [mS_iff]; omega) | (simp only [mS_iff] at *; omega)) ?_
            refine And.intro (show (m l2 (-1)) = 7 by first | assumption | omega | (simp only [mS_iff]; omega) | (simp only [mS_iff] at *; omega)) ?_
            refine ct_62 (by omega) (fun v20 h21 h22 => ?_)
            refine And.intro (show -2147483648 ≤ ((((v5 + v8) + v11) + v14) + v17) + v20 ∧ ((((v5 + v8) + v11) + v14) + v17) + v20 ≤ 2147483647 by first | omega | (simp only [mS_iff]; omega) | (simp only [mS_iff] at *; omega)) ?_
            refine And.intro (show -2147483648 ≤ (0 + v2) + (((((v5 + v8) + v11) + v14) + v17) + v20) ∧ (0 + v2) + (((((v5 + v8) + v11) + v14) + v17) + v20) ≤ 2147483647 by first | omega | (simp only [mS_iff]; omega) | (simp only [mS_iff] at *; omega)) ?_
            exact hQ _ (by simp only [h3, h6, h9, h12, h15, h18, h21, a4, b4, a7, a8, b7, b8, a51, b51, a64, a65, a66, a67, b64, b65, b66, b67, s_lp]; omega)
          · refine And.intro (show (m l1 (-1)) = 7 by first | assumption | omega | (simp only [mS_iff]; omega) | (simp only [mS_iff] at *; omega)) ?_
            refine And.intro (show (m l1 2) ≠ -9 by first | omega | (simp only [mS_iff]; omega) | (simp only [mS_iff] at *; omega)) ?_
            refine And.intro (fun _ => ?_) (fun h => absurd h (by omega))
            refine And.intro (show (m l2 (-1)) = 7 by first | assumption | omega | (simp only [mS_iff]; omega) | (simp only [mS_iff] at *; omega)) ?_
            refine And.intro (show (m l2 2) ≠ -9 by first | omega | (simp only [mS_iff]; omega) | (simp only [mS_iff] at *; omega)) ?_
            refine And.intro (fun _ => ?_) (fun h => absurd h (by omega))
            refine And.intro (fun _ => ?_) (fun h => absurd h (by decide))
            refine And.intro (show -2147483648 ≤ 1 + 0 ∧ 1 + 0 ≤ 2147483647 by first | omega | (simp only [mS_iff]; omega) | (simp only [mS_iff] at *; omega)) ?_
            refine And.intro (show (m l1 (-1)) = 7 by first | assumption | omega | (simp only [mS_iff]; omega) | (simp only [mS_iff] at *; omega)) ?_
            refine And.intro (show (m l2 (-1)) = 7 by first | assumption | omega | (simp only [mS_iff]; omega) | (simp only [mS_iff] at *; omega)) ?_
            refine And.intro (show (m l1 1) ≠ -9 by first | omega | (simp only [mS_iff]; omega) | (simp only [mS_iff] at *; omega)) ?_
            refine And.intro (fun h => absurd h (by omega)) (fun _ => ?_)
            refine And.intro (show (m l2 1) ≠ -9 by first | omega | (simp only [mS_iff]; omega) | (simp only [mS_iff] at *; omega)) ?_
            refine And.intro (fun h => absurd h (by omega)) (fun _ => ?_)
            refine ct_62 (by omega) (fun v23 h24 h25 => ?_)
            refine And.intro (show -2147483648 ≤ 1 + v23 ∧ 1 + v23 ≤ 2147483647 by first | omega | (simp only [mS_iff]; omega) | (simp only [mS_iff] at *; omega)) ?_
            refine And.intro (show (m l1 1) ≠ -9 by first | omega | (simp only [mS_iff]; omega) | (simp only [mS_iff] at *; omega)) ?_
            refine And.intro (fun _ => ?_) (fun h => absurd h (by omega))
            refine And.intro (show (m l1 (-1)) = 7 by first | assumption | omega | (simp only [mS_iff]; omega) | (simp only [mS_iff] at *; omega)) ?_
            refine And.intro (show (m l2 (-1)) = 7 by first | assumption | omega | (simp only [mS_iff]; omega) | (simp only [mS_iff] at *; omega)) ?_
            refine And.intro (show (m l1 2) ≠ -9 by first | omega | (simp only [mS_iff]; omega) | (simp only [mS_iff] at *; omega)) ?_
            refine And.intro (fun h => absurd h (by omega)) (fun _ => ?_)
            refine And.intro (show (m l2 2) ≠ -9 by first | omega | (simp only [mS_iff]; omega) | (simp only [mS_iff] at *; omega)) ?_
            refine And.intro (fun h => absurd h (by omega)) (fun _ => ?_)
            refine And.intro (show (m (m l1 2) (-1)) = 10 by first | assumption | omega | (simp only [mS_iff]; omega) | (simp only [mS_iff] at *; omega)) ?_
            refine And.intro (show (m (m l2 2) (-1)) = 10 by first | assumption | omega | (simp only [mS_iff]; omega) | (simp only [mS_iff] at *; omega)) ?_
            refine ct_62 (by omega) (fun v26 h27 h28 => ?_)
            refine And.intro (show (m (m l1 2) (-1)) = 10 by first | assumption | omega | (simp only [mS_iff]; omega) | (simp only [mS_iff] at *; omega)) ?_
            refine And.intro (show (m (m l2 2) (-1)) = 10 by first | assumption | omega | (simp only [mS_iff]; omega) | (simp only [mS_iff] at *; omega)) ?_
            refine ct_62 (by omega) (fun v29 h30 h31 => ?_)
            refine And.intro (show -2147483648 ≤ v26 + v29 ∧ v26 + v29 ≤ 2147483647 by first | omega | (simp only [mS_iff]; omega) | (simp only [mS_iff] at *; omega)) ?_
            refine And.intro (show (m (m l1 2) (-1)) = 10 by first | assumption | omega | (simp only [mS_iff]; omega) | (simp only [mS_iff] at *; omega)) ?_
            refine And.intro (show (m (m l2 2) (-1)) = 10 by first | assumption | omega | (simp only [mS_iff]; omega) | (simp only [mS_iff] at *; omega)) ?_
            refine ct_62 (by omega) (fun v32 h33 h34 => ?_)
            refine And.intro (show -2147483648 ≤ (v26 + v29) + v32 ∧ (v26 + v29) + v32 ≤ 2147483647 by first | omega | (simp only [mS_iff]; omega) | (simp only [mS_iff] at *; omega)) ?_
            refine And.intro (show (m (m l1 2) (-1)) = 10 by first | assumption | omega | (simp only [mS_iff]; omega) | (simp only [mS_iff] at *; omega)) ?_
            refine And.intro (show (m (m l2 2) (-1)) = 10 by first | assumption | omega | (simp only [mS_iff]; omega) | (simp only [mS_iff] at *; omega)) ?_
            refine ct_62 (by omega) (fun v35 h36 h37 => ?_)
            refine And.intro (show -2147483648 ≤ ((v26 + v29) + v32) + v35 ∧ ((v26 + v29) + v32) + v35 ≤ 2147483647 by first | omega | (simp only [mS_iff]; omega) | (simp only [mS_iff] at *; omega)) ?_
            refine And.intro (show (m l1 (-1)) = 7 by first | assumption | omega | (simp only [mS_iff]; omega) | (simp only [mS_iff] at *; omega)) ?_
            refine And.intro (show (m l2 (-1)) = 7 by first | assumption | omega | (simp only [mS_iff]; omega) | (simp only [mS_iff] at *; omega)) ?_
            refine ct_62 (by omega) (fun v38 h39 h40 => ?_)
            refine And.intro (show -2147483648 ≤ (((v26 + v29) + v32) + v35) + v38 ∧ (((v26 + v29) + v32) + v35) + v38 ≤ 2147483647 by first | omega | (simp only [mS_iff]; omega) | (simp only [mS_iff] at *; omega)) ?_
            refine And.intro (show (m l1 (-1)) = 7 by first | assumption | omega | (simp only [mS_iff]; omega) | (simp only [mS_iff] at *; omega)) ?_
            refine And.intro (show (m l2 (-1)) = 7 by first | assumption | omega | (simp only [mS_iff]; omega) | (simp only [mS_iff] at *; omega)) ?_
            refine ct_62 (by omega) (fun v41 h42 h43 => ?_)
            refine And.intro (show -2147483648 ≤ ((((v26 + v29) + v32) + v35) + v38) + v41 ∧ ((((v26 + v29) + v32) + v35) + v38) + v41 ≤ 2147483647 by first | omega | (simp only [mS_iff]; omega) | (simp only [mS_iff] at *; omega)) ?_
            refine And.intro (show -2147483648 ≤ (1 + v23) + (((((v26 + v29) + v32) + v35) + v38) + v41) ∧ (1 + v23) + (((((v26 + v29) + v32) + v35) + v38) + v41) ≤ 2147483647 by first | omega | (simp only [mS_iff]; omega) | (simp only [mS_iff] at *; omega)) ?_
            exact hQ _ (by simp only [h24, h27, h30, h33, h36, h39, h42, a4, b4, a7, a8, b7, b8, a51, b51, a64, a65, a66, a67, b64, b65, b66, b67, s_lp]; omega)
    ·
      rcases a6 with ⟨a60, a61, a62, a63, a64, a65, a66⟩ | ⟨a60, a61, a62, ⟨a63, -, -, -, -, -, -, -, -, -, -, -, -⟩, a64, a65, a66, a67, -⟩
      ·
        rcases b6 with ⟨b60, b61, b62, b63, b64, b65, b66⟩ | ⟨b60, b61, b62, ⟨b63, -, -, -, -, -, -, -, -, -, -, -, -⟩, b64, b65, b66, b67, -⟩
        ·
          refine am_go 400 [] (am_wpc_cm _ _ _) wf_63 ?_
          refine And.intro (show (m l1 (-1)) = 7 by first | assumption | omega | (simp only [mS_iff]; omega) | (simp only [mS_iff] at *; omega)) ?_
          refine And.intro (show (m l2 (-1)) = 7 by first | assumption | omega | (simp only [mS_iff]; omega) | (simp only [mS_iff] at *; omega)) ?_
          refine And.intro (fun h1 => ?_) (fun h1 => ?_)
          · refine And.intro (show (m l1 (-1)) = 7 by first | assumption | omega | (simp only [mS_iff]; omega) | (simp only [mS_iff] at *; omega)) ?_
            refine And.intro (show (m l1 2) ≠ -9 by first | omega | (simp only [mS_iff]; omega) | (simp only [mS_iff] at *; omega)) ?_
            refine And.intro (fun h => absurd h (by omega)) (fun _ => ?_)
            refine And.intro (show (m l2 (-1)) = 7 by first | assumption | omega | (simp only [mS_iff]; omega) | (simp only [mS_iff] at *; omega)) ?_
            refine And.intro (show (m l2 2) ≠ -9 by first | omega | (simp only [mS_iff]; omega) | (simp only [mS_iff] at *; omega)) ?_
            refine And.intro (fun h => absurd h (by omega)) (fun _ => ?_)
            refine And.intro (fun _ => ?_) (fun h => absurd h (by decide))
            refine And.intro (show -2147483648 ≤ 0 + 0 ∧ 0 + 0 ≤ 2147483647 by first | omega | (simp only [mS_iff]; omega) | (simp only [mS_iff] at *; omega)) ?_
            refine And.intro (show (m l1 (-1)) = 7 by first | assumption | omega | (simp only [mS_iff]; omega) | (simp only [mS_iff] at *; omega)) ?_
            refine And.intro (show (m l2 (-1)) = 7 by first | assumption | omega | (simp only [mS_iff]; omega) | (simp only [mS_iff] at *; omega)) ?_
            refine And.intro (show (m l1 1) ≠ -9 by first | omega | (simp only [mS_iff]; omega) | (simp only [mS_iff] at *; omega)) ?_
            refine And.intro (fun h => absurd h (by omega)) (fun _ => ?_)
            refine And.intro (show (m l2 1) ≠ -9 by first | omega | (simp only [mS_iff]; omega) | (simp only [mS_iff] at *; omega)) ?_
            refine And.intro (fun _ => ?_) (fun h => absurd h (by omega))
            refine And.intro (show (m (m l2 1) (-1)) = 8 by first | assumption | omega | (simp only [mS_iff]; omega) | (simp only [mS_iff] at *; omega)) ?_
            refine ct_62 (by omega) (fun v2 h3 h4 => ?_)
            refine And.intro (show -2147483648 ≤ 0 + v2 ∧ 0 + v2 ≤ 2147483647 by first | omega | (simp only [mS_iff]; omega) | (simp only [mS_iff] at *; omega)) ?_
            refine And.intro (show (m l1 1) ≠ -9 by first | omega | (simp only [mS_iff]; omega) | (simp only [mS_iff] at *; omega)) ?_
            refine And.intro (fun _ => ?_) (fun h => absurd h (by omega))
            refine And.intro (show (m l1 (-1)) = 7 by first | assumption | omega | (simp only [mS_iff]; omega) | (simp only [mS_iff] at *; omega)) ?_
            refine And.intro (show (m l2 (-1)) = 7 by first | assumption | omega | (simp only [mS_iff]; omega) | (simp only [mS_iff] at *; omega)) ?_
            refine And.intro (show (m l1 2) ≠ -9 by first | omega | (simp only [mS_iff]; omega) | (simp only [mS_iff] at *; omega)) ?_
            refine And.intro (fun _ => ?_) (fun h => absurd h (by omega))
            exact hQ _ (by simp only [h3, a4, b4, a7, a8, b7, b8, a51, b54, b55, b56, s_lp]; omega)
          · refine And.intro (show (m l1 (-1)) = 7 by first | assumption | omega | (simp only [mS_iff]; omega) | (simp only [mS_iff] at *; omega)) ?_
            refine And.intro (show (m l1 2) ≠ -9 by first | omega | (simp only [mS_iff]; omega) | (simp only [mS_iff] at *; omega)) ?_
            refine And.intro (fun h => absurd h (by omega)) (fun _ => ?_)
            refine And.intro (show (m l2 (-1)) = 7 by first | assumption | omega | (simp only [mS_iff]; omega) | (simp only [mS_iff] at *; omega)) ?_
            refine And.intro (show (m l2 2) ≠ -9 by first | omega | (simp only [mS_iff]; omega) | (simp only [mS_iff] at *; omega)) ?_
            refine And.intro (fun h => absurd h (by omega)) (fun _ => ?_)
            refine And.intro (fun _ => ?_) (fun h => absurd h (by decide))
            refine And.intro (show -2147483648 ≤ 1 + 0 ∧ 1 + 0 ≤ 2147483647 by first | omega | (simp only [mS_iff]; omega) | (simp only [mS_iff] at *; omega)) ?_
            refine And.intro (show (m l1 (-1)) = 7 by first | assumption | omega | (simp only [mS_iff]; omega) | (simp only [mS_iff] at *; omega)) ?_
            refine And.intro (show (m l2 (-1)) = 7 by first | assumption | omega | (simp only [mS_iff]; omega) | (simp only [mS_iff] at *; omega)) ?_
            refine And.intro (show (m l1 1) ≠ -9 by first | omega | (simp only [mS_iff]; omega) | (simp only [mS_iff] at *; omega)) ?_
            refine And.intro (fun h => absurd h (by omega)) (fun _ => ?_)
            refine And.intro (show (m l2 1) ≠ -9 by first | omega | (simp only [mS_iff]; omega) | (simp only [mS_iff] at *; omega)) ?_
            refine And.intro (fun _ => ?_) (fun h => absurd h (by omega))
            refine And.intro (show (m (m l2 1) (-1)) = 8 by first | assumption | omega | (simp only [mS_iff]; omega) | (simp only [mS_iff] at *; omega)) ?_
            refine ct_62 (by omega) (fun v5 h6 h7 => ?_)
            refine And.intro (show -2147483648 ≤ 1 + v5 ∧ 1 + v5 ≤ 2147483647 by first | omega | (simp only [mS_iff]; omega) | (simp only [mS_iff] at *; omega)) ?_
            refine And.intro (show (m l1 1) ≠ -9 by first | omega | (simp only [mS_iff]; omega) | (simp only [mS_iff] at *; omega)) ?_
            refine And.intro (fun _ => ?_) (fun h => absurd h (by omega))
            refine And.intro (show (m l1 (-1)) = 7 by first | assumption | omega | (simp only [mS_iff]; omega) | (simp only [mS_iff] at *; omega)) ?_
            refine And.intro (show (m l2 (-1)) = 7 by first | assumption | omega | (simp only [mS_iff]; omega) | (simp only [mS_iff] at *; omega)) ?_
            refine And.intro (show (m l1 2) ≠ -9 by first | omega | (simp only [mS_iff]; omega) | (simp only [mS_iff] at *; omega)) ?_
            refine And.intro (fun _ => ?_) (fun h => absurd h (by omega))
            exact hQ _ (by simp only [h6, a4, b4, a7, a8, b7, b8, a51, b54, b55, b56, s_lp]; omega)
        ·
          refine am_go 400 [] (am_wpc_cm _ _ _) wf_63 ?_
          refine And.intro (show (m l1 (-1)) = 7 by first | assumption | omega | (simp only [mS_iff]; omega) | (simp only [mS_iff] at *; omega)) ?_
          refine And.intro (show (m l2 (-1)) = 7 by first | assumption | omega | (simp only [mS_iff]; omega) | (simp only [mS_iff] at *; omega)) ?_
          refine And.intro (fun h1 => ?_) (fun h1 => ?_)
          · refine And.intro (show (m l1 (-1)) = 7 by first | assumption | omega | (simp only [mS_iff]; omega) | (simp only [mS_iff] at *; omega)) ?_
            refine And.intro (show (m l1 2) ≠ -9 by first | omega | (simp only [mS_iff]; omega) | (simp only [mS_iff] at *; omega)) ?_
            refine And.intro (fun h => absurd h (by omega)) (fun _ => ?_)
            refine And.intro (show (m l2 (-1)) = 7 by first | assumption | omega | (simp only [mS_iff]; omega) | (simp only [mS_iff] at *; omega)) ?_
            refine And.intro (show (m l2 2) ≠ -9 by first | omega | (simp only [mS_iff]; omega) | (simp only [mS_iff] at *; omega)) ?_
            refine And.intro (fun _ => ?_) (fun h => absurd h (by omega))
            refine And.intro (fun h => absurd h (by decide)) (fun _ => ?_)
            refine And.intro (show -2147483648 ≤ 0 + 1 ∧ 0 + 1 ≤ 2147483647 by first | omega | (simp only [mS_iff]; omega) | (simp only [mS_iff] at *; omega)) ?_
            refine And.intro (show (m l1 (-1)) = 7 by first | assumption | omega | (simp only [mS_iff]; omega) | (simp only [mS_iff] at *; omega)) ?_
            refine And.intro (show (m l2 (-1)) = 7 by first | assumption | omega | (simp only [mS_iff]; omega) | (simp only [mS_iff] at *; omega)) ?_
            refine And.intro (show (m l1 1) ≠ -9 by first | omega | (simp only [mS_iff]; omega) | (simp only [mS_iff] at *; omega)) ?_
            refine And.intro (fun h => absurd h (by omega)) (fun _ => ?_)
            refine And.intro (show (m l2 1) ≠ -9 by first | omega | (simp only [mS_iff]; omega) | (simp only [mS_iff] at *; omega)) ?_
            refine And.intro (fun _ => ?_) (fun h => absurd h (by omega))
            refine And.intro (show (m (m l2 1) (-1)) = 8 by first | assumption | omega | (simp only [mS_iff]; omega) | (simp only [mS_iff] at *; omega)) ?_
            refine ct_62 (by omega) (fun v2 h3 h4 => ?_)
            refine And.intro (show -2147483648 ≤ 1 + v2 ∧ 1 + v2 ≤ 2147483647 by first | omega | (simp only [mS_iff]; omega) | (simp only [mS_iff] at *; omega)) ?_
            refine And.intro (show (m l1 1) ≠ -9 by first | omega | (simp only [mS_iff]; omega) | (simp only [mS_iff] at *; omega)) ?_
            refine And.intro (fun _ => ?_) (fun h => absurd h (by omega))
            refine And.intro (show (m l1 (-1)) = 7 by first | assumption | omega | (simp only [mS_iff]; omega) | (simp only [mS_iff] at *; omega)) ?_
            refine And.intro (show (m l2 (-1)) = 7 by first | assumption | omega | (simp only [mS_iff]; omega) | (simp only [mS_iff] at *; omega)) ?_
            refine And.intro (show (m l1 2) ≠ -9 by first | omega | (simp only [mS_iff]; omega) | (simp only [mS_iff] at *; omega)) ?_
            refine And.intro (fun _ => ?_) (fun h => absurd h (by omega))
            exact hQ _ (by simp only [h3, a4, b4, a7, a8, b7, b8, a51, b54, b55, b56, b64, b65, b66, b67, s_lp]; omega)
          · refine And.intro (show (m l1 (-1)) = 7 by first | assumption | omega | (simp only [mS_iff]; omega) | (simp only [mS_iff] at *; omega)) ?_
            refine And.intro (show (m l1 2) ≠ -9 by first | omega | (simp only [mS_iff]; omega) | (simp only [mS_iff] at *; omega)) ?_
            refine And.intro (fun h => absurd h (by omega)) (fun _ => ?_)
            refine And.intro (show (m l2 (-1)) = 7 by first | assumption | omega | (simp only [mS_iff]; omega) | (simp only [mS_iff] at *; omega)) ?_
            refine And.intro (show (m l2 2) ≠ -9 by first | omega | (simp only [mS_iff]; omega) | (simp only [mS_iff] at *; omega)) ?_
            refine And.intro (fun _ => ?_) (fun h => absurd h (by omega))
            refine And.intro (fun h => absurd h (by decide)) (fun _ => ?_)
            refine And.intro (show -2147483648 ≤ 1 + 1 ∧ 1 + 1 ≤ 2147483647 by first | omega | (simp only [mS_iff]; omega) | (simp only [mS_iff] at *; omega)) ?_
            refine And.intro (show (m l1 (-1)) = 7 by first | assumption | omega | (simp only [mS_iff]; omega) | (simp only [mS_iff] at *; omega)) ?_
            refine And.intro (show (m l2 (-1)) = 7 by first | assumption | omega | (simp only [mS_iff]; omega) | (simp only [mS_iff] at *; omega)) ?_
            refine And.intro (show (m l1 1) ≠ -9 by first | omega | (simp only [mS_iff]; omega) | (simp only [mS_iff] at *; omega)) ?_
            refine And.intro (fun h => absurd h (by omega)) (fun _ => ?_)
            refine And.intro (show (m l2 1) ≠ -9 by first | omega | (simp only [mS_iff]; omega) | (simp only [mS_iff] at *; omega)) ?_
            refine And.intro (fun _ => ?_) (fun h => absurd h (by omega))
            refine And.intro (show (m (m l2 1) (-1)) = 8 by first | assumption | omega | (simp only [mS_iff]; omega) | (simp only [mS_iff] at *; omega)) ?_
            refine ct_62 (by omega) (fun v5 h6 h7 => ?_)
            refine And.intro (show -2147483648 ≤ 2 + v5 ∧ 2 + v5 ≤ 2147483647 by first | omega | (simp only [mS_iff]; omega) | (simp only [mS_iff] at *; omega)) ?_
            refine And.intro (show (m l1 1) ≠ -9 by first | omega | (simp only [mS_iff]; omega) | (simp only [mS_iff] at *; omega)) ?_
            refine And.intro (fun _ => ?_) (fun h => absurd h (by omega))
            refine And.intro (show (m l1 (-1)) = 7 by first | assumption | omega | (simp only [mS_iff]; omega) | (simp only [mS_iff] at *; omega)) ?_
            refine And.intro (show (m l2 (-1)) = 7 by first | assumption | omega | (simp only [mS_iff]; omega) | (simp only [mS_iff] at *; omega)) ?_
            refine And.intro (show (m l1 2) ≠ -9 by first | omega | (simp only [mS_iff]; omega) | (simp only [mS_iff] at *; omega)) ?_
            refine And.intro (fun _ => ?_) (fun h => absurd h (by omega))
            exact hQ _ (by simp only [h6, a4, b4, a7, a8, b7, b8, a51, b54, b55, b56, b64, b65, b66, b67, s_lp]; omega)
      ·
        rcases b6 with ⟨b60, b61, b62, b63, b64, b65, b66⟩ | ⟨b60, b61, b62, ⟨b63, -, -, -, -, -, -, -, -, -, -, -, -⟩, b64, b65, b66, b67, -⟩
        ·
          refine am_go 400 [] (am_wpc_cm _ _ _) wf_63 ?_
          refine And.intro (show (m l1 (-1)) = 7 by first | assumption | omega | (simp only [mS_iff]; omega) | (simp only [mS_iff] at *; omega)) ?_
          refine And.intro (show (m l2 (-1)) = 7 by first | assumption | omega | (simp only [mS_iff]; omega) | (simp only [mS_iff] at *; omega)) ?_
          refine And.intro (fun h1 => ?_) (fun h1 => ?_)
          · refine And.intro (show (m l1 (-1)) = 7 by first | assumption | omega | (simp only [mS_iff]; omega) | (simp only [mS_iff] at *; omega)) ?_
            refine And.intro (show (m l1 2) ≠ -9 by first | omega | (simp only [mS_iff]; omega) | (simp only [mS_iff] at *; omega)) ?_
            refine And.intro (fun _ => ?_) (fun h => absurd h (by omega))
            refine And.intro (show (m l2 (-1)) = 7 by first | assumption | omega | (simp only [mS_iff]; omega) | (simp only [mS_iff] at *; omega)) ?_
            refine And.intro (show (m l2 2) ≠ -9 by first | omega | (simp only [mS_iff]; omega) | (simp only [mS_iff] at *; omega)) ?_
            refine And.intro (fun h => absurd h (by omega)) (fun _ => ?_)
            refine And.intro (fun h => absurd h (by decide)) (fun _ => ?_)
            refine And.intro (show -2147483648 ≤ 0 + 1 ∧ 0 + 1 ≤ 2147483647 by first | omega | (simp only [mS_iff]; omega) | (simp only [mS_iff] at *; omega)) ?_
            refine And.intro (show (m l1 (-1)) = 7 by first | assumption | omega | (simp only [mS_iff]; omega) | (simp only [mS_iff] at *; omega)) ?_
            refine And.intro (show (m l2 (-1)) = 7 by first | assumption | omega | (simp only [mS_iff]; omega) | (simp only [mS_iff] at *; omega)) ?_
            refine And.intro (show (m l1 1) ≠ -9 by first | omega | (simp only [mS_iff]; omega) | (simp only [mS_iff] at *; omega)) ?_
            refine And.intro (fun h => absurd h (by omega)) (fun _ => ?_)
            refine And.intro (show (m l2 1) ≠ -9 by first | omega | (simp only [mS_iff]; omega) | (simp only [mS_iff] at *; omega)) ?_
            refine And.intro (fun _ => ?_) (fun h => absurd h (by omega))
            refine And.intro (show (m (m l2 1) (-1)) = 8 by first | assumption | omega | (simp only [mS_iff]; omega) | (simp only [mS_iff] at *; omega)) ?_
            refine ct_62 (by omega) (fun v2 h3 h4 => ?_)
            refine And.intro (show -2147483648 ≤ 1 + v2 ∧ 1 + v2 ≤ 2147483647 by first | omega | (simp only [mS_iff]; omega) | (simp only [mS_iff] at *; omega)) ?_
            refine And.intro (show (m l1 1) ≠ -9 by first | omega | (simp only [mS_iff]; omega) | (simp only [mS_iff] at *; omega)) ?_
            refine And.intro (fun _ => ?_) (fun h => absurd h (by omega))
            refine And.intro (show (m l1 (-1)) = 7 by first | assumption | omega | (simp only [mS_iff]; omega) | (simp only [mS_iff] at *; omega)) ?_
            refine And.intro (show (m l2 (-1)) = 7 by first | assumption | omega | (simp only [mS_iff]; omega) | (simp only [mS_iff] at *; omega)) ?_
            refine And.intro (show (m l1 2) ≠ -9 by first | omega | (simp only [mS_iff]; omega) | (simp only [mS_iff] at *; omega)) ?_
            refine And.intro (fun h => absurd h (by omega)) (fun _ => ?_)
            refine And.intro (show (m l2 2) ≠ -9 by first | omega | (simp only [mS_iff]; omega) | (simp only [mS_iff] at *; omega)) ?_
            refine And.intro (fun _ => ?_) (fun h => absurd h (by omega))
            exact hQ _ (by simp only [h3, a4, b4, a7, a8, b7, b8, a51, b54, b55, b56, a64, a65, a66, a67, s_lp]; omega)
          · refine And.intro (show (m l1 (-1)) = 7 by first | assumption | omega | (simp only [mS_iff]; omega) | (simp only [mS_iff] at *; omega)) ?_
            refine And.intro (show (m l1 2) ≠ -9 by first | omega | (simp only [mS_iff]; omega) | (simp only [mS_iff] at *; omega)) ?_
            refine And.intro (fun _ => ?_) (fun h => absurd h (by omega))
            refine And.intro (show (m l2 (-1)) = 7 by first | assumption | omega | (simp only [mS_iff]; omega) | (simp only [mS_iff] at *; omega)) ?_
            refine And.intro (show (m l2 2) ≠ -9 by first | omega | (simp only [mS_iff]; omega) | (simp only [mS_iff] at *; omega)) ?_
            refine And.intro (fun h => absurd h (by omega)) (fun _ => ?_)
            refine And.intro (fun h => absurd h (by decide)) (fun _ => ?_)
            refine And.intro (show -2147483648 ≤ 1 + 1 ∧ 1 + 1 ≤ 2147483647 by first | omega | (simp only [mS_iff]; omega) | (simp only [mS_iff] at *; omega)) ?_
            refine And.intro (show (m l1 (-1)) = 7 by first | assumption | omega | (simp only [mS_iff]; omega) | (simp only [mS_iff] at *; omega)) ?_
            refine And.intro (show (m l2 (-1)) = 7 by first | assumption | omega | (simp only [mS_iff]; omega) | (simp only [mS_iff] at *; omega)) ?_
            refine And.intro (show (m l1 1) ≠ -9 by first | omega | (simp only [mS_iff]; omega) | (simp only [mS_iff] at *; omega)) ?_
            refine And.intro (fun h => absurd h (by omega)) (fun _ => ?_)
            refine And.intro (show (m l2 1) ≠ -9 by first | omega | (simp only [mS_iff]; omega) | (simp only [mS_iff] at *; omega)) ?_
            refine And.intro (fun _ => ?_) (fun h => absurd h (by omega))
            refine And.intro (show (m (m l2 1) (-1)) = 8 by first | assumption | omega | (simp only [mS_iff]; omega) | (simp only [mS_iff] at *; omega)) ?_
            refine ct_62 (by omega) (fun v5 h6 h7 => ?_)
            refine And.intro (show -2147483648 ≤ 2 + v5 ∧ 2 + v5 ≤ 2147483647 by first | omega | (simp only [mS_iff]; omega) | (simp only [mS_iff] at *; omega)) ?_
            refine And.intro (show (m l1 1) ≠ -9 by first | omega | (simp only [mS_iff]; omega) | (simp only [mS_iff] at *; omega)) ?_
            refine And.intro (fun _ => ?_) (fun h => absurd h (by omega))
            refine And.intro (show (m l1 (-1)) = 7 by first | assumption | omega | (simp only [mS_iff]; omega) | (simp only [mS_iff] at *; omega)) ?_
            refine And.intro (show (m l2 (-1)) = 7 by first | assumption | omega | (simp only [mS_iff]; omega) | (simp only [mS_iff] at *; omega)) ?_
            refine And.intro (show (m l1 2) ≠ -9 by first | omega | (simp only [mS_iff]; omega) | (simp only [mS_iff] at *; omega)) ?_
            refine And.intro (fun h => absurd h (by omega)) (fun _ => ?_)
            refine And.intro (show (m l2 2) ≠ -9 by first | omega | (simp only [mS_iff]; omega) | (simp only [mS_iff] at *; omega)) ?_
            refine And.intro (fun _ => ?_) (fun h => absurd h (by omega))
            exact hQ _ (by simp only [h6, a4, b4, a7, a8, b7, b8, a51, b54, b55, b56, a64, a65, a66, a67, s_lp]; omega)
        ·
          refine am_go 400 [] (am_wpc_cm _ _ _) wf_63 ?_
          refine And.intro (show (m l1 (-1)) = 7 by first | assumption | omega | (simp only [mS_iff]; omega) | (simp only [mS_iff] at *; omega)) ?_
          refine And.intro (show (m l2 (-1)) = 7 by first | assumption | omega | (simp only [mS_iff]; omega) | (simp only [mS_iff] at *; omega)) ?_
          refine And.intro (fun h1 => ?_) (fun h1 => ?_)
          · refine And.intro (show (m l1 (-1)) = 7 by first | assumption | omega | (simp only [mS_iff]; omega) | (simp only [mS_iff] at *; omega)) ?_
            refine And.intro (show (m l1 2) ≠ -9 by first | omega | (simp only [mS_iff]; omega) | (simp only [mS_iff] at *; omega)) ?_
            refine And.intro (fun _ => ?_) (fun h => absurd h (by omega))
            refine And.intro (show (m l2 (-1)) = 7 by first | assumption | omega | (simp only [mS_iff]; omega) | (simp only [mS_iff] at *; omega)) ?_
            refine And.intro (show (m l2 2) ≠ -9 by first | omega | (simp only [mS_iff]; omega) | (simp only [mS_iff] at *; omega)) ?_
            refine And.intro (fun _ => ?_) (fun h => absurd h (by omega))
            refine And.intro (fun _ => ?_) (fun h => absurd h (by decide))
            refine And.intro (show -2147483648 ≤ 0 + 0 ∧ 0 + 0 ≤ 2147483647 by first | omega | (simp only [mS_iff]; omega) | (simp only [mS_iff] at *; omega)) ?_
            refine And.intro (show (m l1 (-1)) = 7 by first | assumption | omega | (simp only [mS_iff]; omega) | (simp only [mS_iff] at *; omega)) ?_
            refine And.intro (show (m l2 (-1)) = 7 by first | assumption | omega | (simp only [mS_iff]; omega) | (simp only [mS_iff] at *; omega)) ?_
            refine And.intro (show (m l1 1) ≠ -9 by first | omega | (simp only [mS_iff]; omega) | (simp only [mS_iff] at *; omega)) ?_
            refine And.intro (fun h => absurd h (by omega)) (fun _ => ?_)
            refine And.intro (show (m l2 1) ≠ -9 by first | omega | (simp only [mS_iff]; omega) | (simp only [mS_iff] at *; omega)) ?_
            refine And.intro (fun _ => ?_) (fun h => absurd h (by omega))
            refine And.intro (show (m (m l2 1) (-1)) = 8 by first | assumption | omega | (simp only [mS_iff]; omega) | (simp only [mS_iff] at *; omega)) ?_
            refine ct_62 (by omega) (fun v2 h3 h4 => ?_)
            refine And.intro (show -2147483648 ≤ 0 + v2 ∧ 0 + v2 ≤ 2147483647 by first | omega | (simp only [mS_iff]; omega) | (simp only [mS_iff] at *; omega)) ?_
            refine And.intro (show (m l1 1) ≠ -9 by first | omega | (simp only [mS_iff]; omega) | (simp only [mS_iff] at *; omega)) ?_
            refine And.intro (fun _ => ?_) (fun h => absurd h (by omega))
            refine And.intro (show (m l1 (-1)) = 7 by first | assumption | omega | (simp only [mS_iff]; omega) | (simp only [mS_iff] at *; omega)) ?_
            refine And.intro (show (m l2 (-1)) = 7 by first | assumption | omega | (simp only [mS_iff]; omega) | (simp only [mS_iff] at *; omega)) ?_
            refine And.intro (show (m l1 2) ≠ -9 by first | omega | (simp only [mS_iff]; omega) | (simp only [mS_iff] at *; omega)) ?_
            refine And.intro (fun h => absurd h (by omega)) (fun _ => ?_)
            refine And.intro (show (m l2 2) ≠ -9 by first | omega | (simp only [mS_iff]; omega) | (simp only [mS_iff] at *; omega)) ?_
            refine And.intro (fun h => absurd h (by omega)) (fun _ => ?_)
            refine And.intro (show (m (m l1 2) (-1)) = 10 by first | assumption | omega | (simp only [mS_iff]; omega) | (simp only [mS_iff] at *; omega)) ?_
            refine And.intro (show (m (m l2 2) (-1)) = 10 by first | assumption | omega | (simp only [mS_iff]; omega) | (simp only [mS_iff] at *; omega)) ?_
            refine ct_62 (by omega) (fun v5 h6 h7 => ?_)
            refine And.intro (show (m (m l1 2) (-1)) = 10 by first | assumption | omega | (simp only [mS_iff]; omega) | (simp only [mS_iff] at *; omega)) ?_
            refine And.intro (show (m (m l2 2) (-1)) = 10 by first | assumption | omega | (simp only [mS_iff]; omega) | (simp only [mS_iff] at *; omega)) ?_
            refine ct_62 (by omega) (fun v8 h9 h10 => ?_)
            refine And.intro (show -2147483648 ≤ v5 + v8 ∧ v5 + v8 ≤ 2147483647 by first | omega | (simp only [mS_iff]; omega) | (simp only [mS_iff] at *; omega)) ?_
            refine And.intro (show (m (m l1 2) (-1)) = 10 by first | assumption | omega | (simp only [mS_iff]; omega) | (simp only [mS_iff] at *; omega)) ?_
            refine And.intro (show (m (m l2 2) (-1)) = 10 by first | assumption | omega | (simp only [mS_iff]; omega) | (simp only [mS_iff] at *; omega)) ?_
            refine ct_62 (by omega) (fun v11 h12 h13 => ?_)
            refine And.intro (show -2147483648 ≤ (v5 + v8) + v11 ∧ (v5 + v8) + v11 ≤ 2147483647 by first | omega | (simp only [mS_iff]; omega) | (simp only [mS_iff] at *; omega)) ?_
            refine And.intro (show (m (m l1 2) (-1)) = 10 by first | assumption | omega | (simp only [mS_iff]; omega) | (simp only [mS_iff] at *; omega)) ?_
            refine And.intro (show (m (m l2 2) (-1)) = 10 by first | assumption | omega | (simp only [mS_iff]; omega) | (simp only [mS_iff] at *; omega)) ?_
            refine ct_62 (by omega) (fun v14 h15 h16 => ?_)
            refine And.intro (show -2147483648 ≤ ((v5 + v8) + v11) + v14 ∧ ((v5 + v8) + v11) + v14 ≤ 2147483647 by first | omega | (simp only [mS_iff]; omega) | (simp only [mS_iff] at *; omega)) ?_
            refine And.intro (show (m l1 (-1)) = 7 by first | assumption | omega | (simp only [mS_iff]; omega) | (simp only [mS_iff] at *; omega)) ?_
            refine And.intro (show (m l2 (-1)) = 7 by first | assumption | omega | (simp only [mS_iff]; omega) | (simp only [mS_iff] at *; omega)) ?_
            refine ct_62 (by omega) (fun v17 h18 h19 => ?_)
            refine And.intro (show -2147483648 ≤ (((v5 + v8) + v11) + v14) + v17 ∧ (((v5 + v8) + v11) + v14) + v17 ≤ 2147483647 by first | omega | (simp only [mS_iff]; omega) | (simp only [mS_iff] at *; omega)) ?_
            refine And.intro (show (m l1 (-1)) = 7 by first | assumption | omega | (simp only [mS_iff]; omega) | (simp only [mS_iff] at *; omega)) ?_
            refine And.intro (show (m l2 (-1)) = 7 by first | assumption | omega | (simp only [mS_iff]; omega) | (simp only [mS_iff] at *; omega)) ?_
            refine ct_62 (by omega) (fun v20 h21 h22 => ?_)
            refine And.intro (show -2147483648 ≤ ((((v5 + v8) + v11) + v14) + v17) + v20 ∧ ((((v5 + v8) + v11) + v14) + v17) + v20 ≤ 2147483647 by first | omega | (simp only [mS_iff]; omega) | (simp only [mS_iff] at *; omega)) ?_
            refine And.intro (show -2147483648 ≤ (0 + v2) + (((((v5 + v8) + v11) + v14) + v17) + v20) ∧ (0 + v2) + (((((v5 + v8) + v11) + v14) + v17) + v20) ≤ 2147483647 by first | omega | (simp only [mS_iff]; omega) | (simp only [mS_iff] at *; omega)) ?_
            exact hQ _ (by simp only [h3, h6, h9, h12, h15, h18, h21, a4, b4, a7, a8, b7, b8, a51, b54, b55, b56, a64, a65, a66, a67, b64, b65, b66, b67, s_lp]; omega)
          · refine And.intro (show (m l1 (-1)) = 7 by first | assumption | omega | (simp only [mS_iff]; omega) | (simp only [mS_iff] at *; omega)) ?_
            refine And.intro (show (m l1 2) ≠ -9 by first | omega | (simp only [mS_iff]; omega) | (simp only [mS_iff] at *; omega)) ?_
            refine And.intro (fun _ => ?_) (fun h => absurd h (by omega))
            refine And.intro (show (m l2 (-1)) = 7 by first | assumption | omega | (simp only [mS_iff]; omega) | (simp only [mS_iff] at *; omega)) ?_
            refine And.intro (show (m l2 2) ≠ -9 by first | omega | (simp only [mS_iff]; omega) | (simp only [mS_iff] at *; omega)) ?_
            refine And.intro (fun _ => ?_) (fun h => absurd h (by omega))
            refine And.intro (fun _ => ?_) (fun h => absurd h (by decide))
            refine And.intro (show -2147483648 ≤ 1 + 0 ∧ 1 + 0 ≤ 2147483647 by first | omega | (simp only [mS_iff]; omega) | (simp only [mS_iff] at *; omega)) ?_
            refine And.intro (show (m l1 (-1)) = 7 by first | assumption | omega | (simp only [mS_iff]; omega) | (simp only [mS_iff] at *; omega)) ?_
            refine And.intro (show (m l2 (-1)) = 7 by first | assumption | omega | (simp only [mS_iff]; omega) | (simp only [mS_iff] at *; omega)) ?_
            refine And.intro (show (m l1 1) ≠ -9 by first | omega | (simp only [mS_iff]; omega) | (simp only [mS_iff] at *; omega)) ?_
            refine And.intro (fun h => absurd h (by omega)) (fun _ => ?_)
            refine And.intro (show (m l2 1) ≠ -9 by first | omega | (simp only [mS_iff]; omega) | (simp only [mS_iff] at *; omega)) ?_
            refine And.intro (fun _ => ?_) (fun h => absurd h (by omega))
            refine And.intro (show (m (m l2 1) (-1)) = 8 by first | assumption | omega | (simp only [mS_iff]; omega) | (simp only [mS_iff] at *; omega)) ?_
            refine ct_62 (by omega) (fun v23 h24 h25 => ?_)
            refine And.intro (show -2147483648 ≤ 1 + v23 ∧ 1 + v23 ≤ 2147483647 by first | omega | (simp only [mS_iff]; omega) | (simp only [mS_iff] at *; omega)) ?_
            refine And.intro (show (m l1 1) ≠ -9 by first | omega | (simp only [mS_iff]; omega) | (simp only [mS_iff] at *; omega)) ?_
            refine And.intro (fun _ => ?_) (fun h => absurd h (by omega))
            refine And.intro (show (m l1 (-1)) = 7 by first | assumption | omega | (simp only [mS_iff]; omega) | (simp only [mS_iff] at *; omega)) ?_
            refine And.intro (show (m l2 (-1)) = 7 by first | assumption | omega | (simp only [mS_iff]; omega) | (simp only [mS_iff] at *; omega)) ?_
            refine And.intro (show (m l1 2) ≠ -9 by first | omega | (simp only [mS_iff]; omega) | (simp only [mS_iff] at *; omega)) ?_
            refine And.intro (fun h => absurd h (by omega)) (fun _ => ?_)
            refine And.intro (show (m l2 2) ≠ -9 by first | omega | (simp only [mS_iff]; omega) | (simp only [mS_iff] at *; omega)) ?_
            refine And.intro (fun h => absurd h (by omega)) (fun _ => ?_)
            refine And.intro (show (m (m l1 2) (-1)) = 10 by first | assumption | omega | (simp only [mS_iff]; omega) | (simp only [mS_iff] at *; omega)) ?_
            refine And.intro (show (m (m l2 2) (-1)) = 10 by first | assumption | omega | (simp only [mS_iff]; omega) | (simp only [mS_iff] at *; omega)) ?_
            refine ct_62 (by omega) (fun v26 h27 h28 => ?_)
            refine And.intro (show (m (m l1 2) (-1)) = 10 by first | assumption | omega | (simp only [mS_iff]; omega) | (simp only [mS_iff] at *; omega)) ?_
            refine And.intro (show (m (m l2 2) (-1)) = 10 by first | assumption | omega | (simp only [mS_iff]; omega) | (simp only [mS_iff] at *; omega)) ?_
            refine ct_62 (by omega) (fun v29 h30 h31 => ?_)
            refine And.intro (show -2147483648 ≤ v26 + v29 ∧ v26 + v29 ≤ 2147483647 by first | omega | (simp only [mS_iff]; omega) | (simp only [mS_iff] at *; omega)) ?_
            refine And.intro (show (m (m l1 2) (-1)) = 10 by first | assumption | omega | (simp only [mS_iff]; omega) | (simp only [mS_iff] at *; omega)) ?_
            refine And.intro (show (m (m l2 2) (-1)) = 10 by first | assumption | omega | (simp only [mS_iff]; omega) | (simp only [mS_iff] at *; omega)) ?_
            refine ct_62 (by omega) (fun v32 h33 h34 => ?_)
            refine And.intro (show -2147483648 ≤ (v26 + v29) + v32 ∧ (v26 + v29) + v32 ≤ 2147483647 by first | omega | (simp only [mS_iff]; omega) | (simp only [mS_iff] at *; omega)) ?_
            refine And.intro (show (m (m l1 2) (-1)) = 10 by first | assumption | omega | (simp only [mS_iff]; omega) | (simp only [mS_iff] at *; omega)) ?_
            refine And.intro (show (m (m l2 2) (-1)) = 10 by first | assumption | omega | (simp only [mS_iff]; omega) | (simp only [mS_iff] at *; omega)) ?_
            refine ct_62 (by omega) (fun v35 h36 h37 => ?_)
            refine And.intro (show -2147483648 ≤ ((v26 + v29) + v32) + v35 ∧ ((v26 + v29) + v32) + v35 ≤ 2147483647 by first | omega | (simp only [mS_iff]; omega) | (simp only [mS_iff] at *; omega)) ?_
            refine And.intro (show (m l1 (-1)) = 7 by first | assumption | omega | (simp only [mS_iff]; omega) | (simp only [mS_iff] at *; omega)) ?_
            refine And.intro (show (m l2 (-1)) = 7 by first | assumption | omega | (simp only [mS_iff]; omega) | (simp only [mS_iff] at *; omega)) ?_
            refine ct_62 (by omega) (fun v38 h39 h40 => ?_)
            refine And.intro (show -2147483648 ≤ (((v26 + v29) + v32) + v35) + v38 ∧ (((v26 + v29) + v32) + v35) + v38 ≤ 2147483647 by first | omega | (simp only [mS_iff]; omega) | (simp only [mS_iff] at *; omega)) ?_
            refine And.intro (show (m l1 (-1)) = 7 by first | assumption | omega | (simp only [mS_iff]; omega) | (simp only [mS_iff] at *; omega)) ?_
            refine And.intro (show (m l2 (-1)) = 7 by first | assumption | omega | (simp only [mS_iff]; omega) | (simp only [mS_iff] at *; omega)) ?_
            refine ct_62 (by omega) (fun v41 h42 h43 => ?_)
            refine And.intro (show -2147483648 ≤ ((((v26 + v29) + v32) + v35) + v38) + v41 ∧ ((((v26 + v29) + v32) + v35) + v38) + v41 ≤ 2147483647 by first | omega | (simp only [mS_iff]; omega) | (simp only [mS_iff] at *; omega)) ?_
            refine And.intro (show -2147483648 ≤ (1 + v23) + (((((v26 + v29) + v32) + v35) + v38) + v41) ∧ (1 + v23) + (((((v26 + v29) + v32) + v35) + v38) + v41) ≤ 2147483647 by first | omega | (simp only [mS_iff]; omega) | (simp only [mS_iff] at *; omega)) ?_
            exact hQ _ (by simp only [h24, h27, h30, h33, h36, h39, h42, a4, b4, a7, a8, b7, b8, a51, b54, b55, b56, a64, a65, a66, a67, b64, b65, b66, b67, s_lp]; omega)
  ·
    rcases b5 with ⟨b50, b51, b52, b53⟩ | ⟨b50, b51, b52, ⟨b53, -, -, -, -, -⟩, b54, b55, b56, -⟩
    ·
      rcases a6 with ⟨a60, a61, a62, a63, a64, a65, a66⟩ | ⟨a60, a61, a62, ⟨a63, -, -, -, -, -, -, -, -, -, -, -, -⟩, a64, a65, a66, a67, -⟩
      ·
        rcases b6 with ⟨b60, b61, b62, b63, b64, b65, b66⟩ | ⟨b60, b61, b62, ⟨b63, -, -, -, -, -, -, -, -, -, -, -, -⟩, b64, b65, b66, b67, -⟩
        ·
          refine am_go 400 [] (am_wpc_cm _ _ _) wf_63 ?_
          refine And.intro (show (m l1 (-1)) = 7 by first | assumption | omega | (simp only [mS_iff]; omega) | (simp only [mS_iff] at *; omega)) ?_
          refine And.intro (show (m l2 (-1)) = 7 by first | assumption | omega | (simp only [mS_iff]; omega) | (simp only [mS_iff] at *; omega)) ?_
          refine And.intro (fun h1 => ?_) (fun h1 => ?_)
          · refine And.intro (show (m l1 (-1)) = 7 by first | assumption | omega | (simp only [mS_iff]; omega) | (simp only [mS_iff] at *; omega)) ?_
            refine And.intro (show (m l1 2) ≠ -9 by first | omega | (simp only [mS_iff]; omega) | (simp only [mS_iff] at *; omega)) ?_
            refine And.intro (fun h => absurd h (by omega)) (fun _ => ?_)
            refine And.intro (show (m l2 (-1)) = 7 by first | assumption | omega | (simp only [mS_iff]; omega) | (simp only [mS_iff] at *; omega)) ?_
            refine And.intro (show (m l2 2) ≠ -9 by first | omega | (simp only [mS_iff]; omega) | (simp only [mS_iff] at *; omega)) ?_
            refine And.intro (fun h => absurd h (by omega)) (fun _ => ?_)
            refine And.intro (fun _ => ?_) (fun h => absurd h (by decide))
            refine And.intro (show -2147483648 ≤ 0 + 0 ∧ 0 + 0 ≤ 2147483647 by first | omega | (simp only [mS_iff]; omega) | (simp only [mS_iff] at *; omega)) ?_
            refine And.intro (show (m l1 (-1)) = 7 by first | assumption | omega | (simp only [mS_iff]; omega) | (simp only [mS_iff] at *; omega)) ?_
            refine And.intro (show (m l2 (-1)) = 7 by first | assumption | omega | (simp only [mS_iff]; omega) | (simp only [mS_iff] at *; omega)) ?_
            refine And.intro (show (m l1 1) ≠ -9 by first | omega | (simp only [mS_iff]; omega) | (simp only [mS_iff] at *; omega)) ?_
            refine And.intro (fun _ => ?_) (fun h => absurd h (by omega))
            refine And.intro (show (m (m l1 1) (-1)) = 8 by first | assumption | omega | (simp only [mS_iff]; omega) | (simp only [mS_iff] at *; omega)) ?_
            refine And.intro (show (m l2 1) ≠ -9 by first | omega | (simp only [mS_iff]; omega) | (simp only [mS_iff] at *; omega)) ?_
            refine And.intro (fun h => absurd h (by omega)) (fun _ => ?_)
            refine ct_62 (by omega) (fun v2 h3 h4 => ?_)
            refine And.intro (show -2147483648 ≤ 0 + v2 ∧ 0 + v2 ≤ 2147483647 by first | omega | (simp only [mS_iff]; omega) | (simp only [mS_iff] at *; omega)) ?_
            refine And.intro (show (m l1 1) ≠ -9 by first | omega | (simp only [mS_iff]; omega) | (simp only [mS_iff] at *; omega)) ?_
            refine And.intro (fun h => absurd h (by omega)) (fun _ => ?_)
            refine And.intro (show (m l2 1) ≠ -9 by first | omega | (simp only [mS_iff]; omega) | (simp only [mS_iff] at *; omega)) ?_
            refine And.intro (fun _ => ?_) (fun h => absurd h (by omega))
            refine And.intro (show (m l1 (-1)) = 7 by first | assumption | omega | (simp only [mS_iff]; omega) | (simp only [mS_iff] at *; omega)) ?_
            refine And.intro (show (m l2 (-1)) = 7 by first | assumption | omega | (simp only [mS_iff]; omega) | (simp only [mS_iff] at *; omega)) ?_
            refine And.intro (show (m l1 2) ≠ -9 by first | omega | (simp only [mS_iff]; omega) | (simp only [mS_iff] at *; omega)) ?_
            refine And.intro (fun _ => ?_) (fun h => absurd h (by omega))
            exact hQ _ (by simp only [h3, a4, b4, a7, a8, b7, b8, a54, a55, a56, b51, s_lp]; omega)
          · refine And.intro (show (m l1 (-1)) = 7 by first | assumption | omega | (simp only [mS_iff]; omega) | (simp only [mS_iff] at *; omega)) ?_
            refine And.intro (show (m l1 2) ≠ -9 by first | omega | (simp only [mS_iff]; omega) | (simp only [mS_iff] at *; omega)) ?_
            refine And.intro (fun h => absurd h (by omega)) (fun _ => ?_)
            refine And.intro (show (m l2 (-1)) = 7 by first | assumption | omega | (simp only [mS_iff]; omega) | (simp only [mS_iff] at *; omega)) ?_
            refine And.intro (show (m l2 2) ≠ -9 by first | omega | (simp only [mS_iff]; omega) | (simp only [mS_iff] at *; omega)) ?_
            refine And.intro (fun h => absurd h (by omega)) (fun _ => ?_)
            refine And.intro (fun _ => ?_) (fun h => absurd h (by decide))
            refine And.intro (show -2147483648 ≤ 1 + 0 ∧ 1 + 0 ≤ 2147483647 by first | omega | (simp only [mS_iff]; omega) | (simp only [mS_iff] at *; omega)) ?_
            refine And.intro (show (m l1 (-1)) = 7 by first | assumption | omega | (simp only [mS_iff]; omega) | (simp only [mS_iff] at *; omega)) ?_
            refine And.intro (show (m l2 (-1)) = 7 by first | assumption | omega | (simp only [mS_iff]; omega) | (simp only [mS_iff] at *; omega)) ?_
            refine And.intro (show (m l1 1) ≠ -9 by first | omega | (simp only [mS_iff]; omega) | (simp only [mS_iff] at *; omega)) ?_
            refine And.intro (fun _ => ?_) (fun h => absurd h (by omega))
            refine And.intro (show (m (m l1 1) (-1)) = 8 by first | assumption | omega | (simp only [mS_iff]; omega) | (simp only [mS_iff] at *; omega)) ?_
            refine And.intro (show (m l2 1) ≠ -9 by first | omega | (simp only [mS_iff]; omega) | (simp only [mS_iff] at *; omega)) ?_
            refine And.intro (fun h => absurd h (by omega)) (fun _ => ?_)
            refine ct_62 (by omega) (fun v5 h6 h7 => ?_)
            refine And.intro (show -2147483648 ≤ 1 + v5 ∧ 1 + v5 ≤ 2147483647 by first | omega | (simp only [mS_iff]; omega) | (simp only [mS_iff] at *; omega)) ?_
            refine And.intro (show (m l1 1) ≠ -9 by first | omega | (simp only [mS_iff]; omega) | (simp only [mS_iff] at *; omega)) ?_
            refine And.intro (fun h => absurd h (by omega)) (fun _ => ?_)
            refine And.intro (show (m l2 1) ≠ -9 by first | omega | (simp only [mS_iff]; omega) | (simp only [mS_iff] at *; omega)) ?_
            refine And.intro (fun _ => ?_) (fun h => absurd h (by omega))
            refine And.intro (show (m l1 (-1)) = 7 by first | assumption | omega | (simp only [mS_iff]; omega) | (simp only [mS_iff] at *; omega)) ?_
            refine And.intro (show (m l2 (-1)) = 7 by first | assumption | omega | (simp only [mS_iff]; omega) | (simp only [mS_iff] at *; omega)) ?_
            refine And.intro (show (m l1 2) ≠ -9 by first | omega | (simp only [mS_iff]; omega) | (simp only [mS_iff] at *; omega)) ?_
            refine And.intro (fun _ => ?_) (fun h => absurd h (by omega))
            exact hQ _ (by simp only [h6, a4, b4, a7, a8, b7, b8, a54, a55, a56, b51, s_lp]; omega)
        ·
          refine am_go 400 [] (am_wpc_cm _ _ _) wf_63 ?_
          refine And.intro (show (m l1 (-1)) = 7 by first | assumption | omega | (simp only [mS_iff]; omega) | (simp only [mS_iff] at *; omega)) ?_
          refine And.intro (show (m l2 (-1)) = 7 by first | assumption | omega | (simp only [mS_iff]; omega) | (simp only [mS_iff] at *; omega)) ?_
          refine And.intro (fun h1 => ?_) (fun h1 => ?_)
          · refine And.intro (show (m l1 (-1)) = 7 by first | assumption | omega | (simp only [mS_iff]; omega) | (simp only [mS_iff] at *; omega)) ?_
            refine And.intro (show (m l1 2) ≠ -9 by first | omega | (simp only [mS_iff]; omega) | (simp only [mS_iff] at *; omega)) ?_
            refine And.intro (fun h => absurd h (by omega)) (fun _ => ?_)
            refine And.intro (show (m l2 (-1)) = 7 by first | assumption | omega | (simp only [mS_iff]; omega) | (simp only [mS_iff] at *; omega)) ?_
            refine And.intro (show (m l2 2) ≠ -9 by first | omega | (simp only [mS_iff]; omega) | (simp only [mS_iff] at *; omega)) ?_
            refine And.intro (fun _ => ?_) (fun h => absurd h (by omega))
            refine And.intro (fun h => absurd h (by decide)) (fun _ => ?_)
            refine And.intro (show -2147483648 ≤ 0 + 1 ∧ 0 + 1 ≤ 2147483647 by first | omega | (simp only [mS_iff]; omega) | (simp only [mS_iff] at *; omega)) ?_
            refine And.intro (show (m l1 (-1)) = 7 by first | assumption | omega | (simp only [mS_iff]; omega) | (simp only [mS_iff] at *; omega)) ?_
            refine And.intro (show (m l2 (-1)) = 7 by first | assumption | omega | (simp only [mS_iff]; omega) | (simp only [mS_iff] at *; omega)) ?_
            refine And.intro (show (m l1 1) ≠ -9 by first | omega | (simp only [mS_iff]; omega) | (simp only [mS_iff] at *; omega)) ?_
            refine And.intro (fun _ => ?_) (fun h => absurd h (by omega))
            refine And.intro (show (m (m l1 1) (-1)) = 8 by first | assumption | omega | (simp only [mS_iff]; omega) | (simp only [mS_iff] at *; omega)) ?_
            refine And.intro (show (m l2 1) ≠ -9 by first | omega | (simp only [mS_iff]; omega) | (simp only [mS_iff] at *; omega)) ?_
            refine And.intro (fun h => absurd h (by omega)) (fun _ => ?_)
            refine ct_62 (by omega) (fun v2 h3 h4 => ?_)
            refine And.intro (show -2147483648 ≤ 1 + v2 ∧ 1 + v2 ≤ 2147483647 by first | omega | (simp only [mS_iff]; omega) | (simp only [mS_iff] at *; omega)) ?_
            refine And.intro (show (m l1 1) ≠ -9 by first | omega | (simp only [mS_iff]; omega) | (simp only [mS_iff] at *; omega)) ?_
            refine And.intro (fun h => absurd h (by omega)) (fun _ => ?_)
            refine And.intro (show (m l2 1) ≠ -9 by first | omega | (simp only [mS_iff]; omega) | (simp only [mS_iff] at *; omega)) ?_
            refine And.intro (fun _ => ?_) (fun h => absurd h (by omega))
            refine And.intro (show (m l1 (-1)) = 7 by first | assumption | omega | (simp only [mS_iff]; omega) | (simp only [mS_iff] at *; omega)) ?_
            refine And.intro (show (m l2 (-1)) = 7 by first | assumption | omega | (simp only [mS_iff]; omega) | (simp only [mS_iff] at *; omega)) ?_
            refine And.intro (show (m l1 2) ≠ -9 by first | omega | (simp only [mS_iff]; omega) | (simp only [mS_iff] at *; omega)) ?_
            refine And.intro (fun _ => ?_) (fun h => absurd h (by omega))
            exact hQ _ (by simp only [h3, a4, b4, a7, a8, b7, b8, a54, a55, a56, b51, b64, b65, b66, b67, s_lp]; omega)
          · refine And.intro (show (m l1 (-1)) = 7 by first | assumption | omega | (simp only [mS_iff]; omega) | (simp only [mS_iff] at *; omega)) ?_
            refine And.intro (show (m l1 2) ≠ -9 by first | omega | (simp only [mS_iff]; omega) | (simp only [mS_iff] at *; omega)) ?_
            refine And.intro (fun h => absurd h (by omega)) (fun _ => ?_)
            refine And.intro (show (m l2 (-1)) = 7 by first | assumption | omega | (simp only [mS_iff]; omega) | (simp only [mS_iff] at *; omega)) ?_
            refine And.intro (show (m l2 2) ≠ -9 by first | omega | (simp only [mS_iff]; omega) | (simp only [mS_iff] at *; omega)) ?_
            refine And.intro (fun _ => ?_) (fun h => absurd h (by omega))
            refine And.intro (fun h => absurd h (by decide)) (fun _ => ?_)
            refine And.intro (show -2147483648 ≤ 1 + 1 ∧ 1 + 1 ≤ 2147483647 by first | omega | (simp only [mS_iff]; omega) | (simp only [mS_iff] at *; omega)) ?_
            refine And.intro (show (m l1 (-1)) = 7 by first | assumption | omega | (simp only [mS_iff]; omega) | (simp only [mS_iff] at *; omega)) ?_
            refine And.intro (show (m l2 (-1)) = 7 by first | assumption | omega | (simp only [mS_iff]; omega) | (simp only [mS_iff] at *; omega)) ?_
            refine And.intro (show (m l1 1) ≠ -9 by first | omega | (simp only [mS_iff]; omega) | (simp only [mS_iff] at *; omega)) ?_
            refine And.intro (fun _ => ?_) (fun h => absurd h (by omega))
            refine And.intro (show (m (m l1 1) (-1)) = 8 by first | assumption | omega | (simp only [mS_iff]; omega) | (simp only [mS_iff] at *; omega)) ?_
            refine And.intro (show (m l2 1) ≠ -9 by first | omega | (simp only [mS_iff]; omega) | (simp only [mS_iff] at *; omega)) ?_
            refine And.intro (fun h => absurd h (by omega)) (fun _ => ?_)
            refine ct_62 (by omega) (fun v5 h6 h7 => ?_)
            refine And.intro (show -2147483648 ≤ 2 + v5 ∧ 2 + v5 ≤ 2147483647 by first | omega | (simp only [mS_iff]; omega) | (simp only [mS_iff] at *; omega)) ?_
            refine And.intro (show (m l1 1) ≠ -9 by first | omega | (simp only [mS_iff]; omega) | (simp only [mS_iff] at *; omega)) ?_
            refine And.intro (fun h => absurd h (by omega)) (fun _ => ?_)
            refine And.intro (show (m l2 1) ≠ -9 by first | omega | (simp only [mS_iff]; omega) | (simp only [mS_iff] at *; omega)) ?_
            refine And.intro (fun _ => ?_) (fun h => absurd h (by omega))
            refine And.intro (show (m l1 (-1)) = 7 by first | assumption | omega | (simp only [mS_iff]; omega) | (simp only [mS_iff] at *; omega)) ?_
            refine And.intro (show (m l2 (-1)) = 7 by first | assumption | omega | (simp only [mS_iff]; omega) | (simp only [mS_iff] at *; omega)) ?_
            refine And.intro (show (m l1 2) ≠ -9 by first | omega | (simp only [mS_iff]; omega) | (simp only [mS_iff] at *; omega)) ?_
            refine And.intro (fun _ => ?_) (fun h => absurd h (by omega))
            exact hQ _ (by simp only [h6, a4, b4, a7, a8, b7, b8, a54, a55, a56, b51, b64, b65, b66, b67, s_lp]; omega)
      ·
        rcases b6 with ⟨b60, b61, b62, b63, b64, b65, b66⟩ | ⟨b60, b61, b62, ⟨b63, -, -, -, -, -, -, -, -, -, -, -, -⟩, b64, b65, b66, b67, -⟩
        ·
          refine am_go 400 [] (am_wpc_cm _ _ _) wf_63 ?_
          refine And.intro (show (m l1 (-1)) = 7 by first | assumption | omega | (simp only [mS_iff]; omega) | (simp only [mS_iff] at *; omega)) ?_
          refine And.intro (show (m l2 (-1)) = 7 by first | assumption | omega | (simp only [mS_iff]; omega) | (simp only [mS_iff] at *; omega)) ?_
          refine And.intro (fun h1 => ?_) (fun h1 => ?_)
          · refine And.intro (show (m l1 (-1)) = 7 by first | assumption | omega | (simp only [mS_iff]; omega) | (simp only [mS_iff] at *; omega)) ?_
            refine And.intro (show (m l1 2) ≠ -9 by first | omega | (simp only [mS_iff]; omega) | (simp only [mS_iff] at *; omega)) ?_
            refine And.intro (fun _ => ?_) (fun h => absurd h (by omega))
            refine And.intro (show (m l2 (-1)) = 7 by first | assumption | omega | (simp only [mS_iff]; omega) | (simp only [mS_iff] at *; omega)) ?_
            refine And.intro (show (m l2 2) ≠ -9 by first | omega | (simp only [mS_iff]; omega) | (simp only [mS_iff] at *; omega)) ?_
            refine And.intro (fun h => absurd h (by omega)) (fun _ => ?_)
            refine And.intro (fun h => absurd h (by decide)) (fun _ => ?_)
            refine And.intro (show -2147483648 ≤ 0 + 1 ∧ 0 + 1 ≤ 2147483647 by first | omega | (simp only [mS_iff]; omega) | (simp only [mS_iff] at *; omega)) ?_
            refine And.intro (show (m l1 (-1)) = 7 by first | assumption | omega | (simp only [mS_iff]; omega) | (simp only [mS_iff] at *; omega)) ?_
            refine And.intro (show (m l2 (-1)) = 7 by first | assumption | omega | (simp only [mS_iff]; omega) | (simp only [mS_iff] at *; omega)) ?_
            refine And.intro (show (m l1 1) ≠ -9 by first | omega | (simp only [mS_iff]; omega) | (simp only [mS_iff] at *; omega)) ?_
            refine And.intro (fun _ => ?_) (fun h => absurd h (by omega))
            refine And.intro (show (m (m l1 1) (-1)) = 8 by first | assumption | omega | (simp only [mS_iff]; omega) | (simp only [mS_iff] at *; omega)) ?_
            refine And.intro (show (m l2 1) ≠ -9 by first | omega | (simp only [mS_iff]; omega) | (simp only [mS_iff] at *; omega)) ?_
            refine And.intro (fun h => absurd h (by omega)) (fun _ => ?_)
            refine ct_62 (by omega) (fun v2 h3 h4 => ?_)
            refine And.intro (show -2147483648 ≤ 1 + v2 ∧ 1 + v2 ≤ 2147483647 by first | omega | (simp only [mS_iff]; omega) | (simp only [mS_iff] at *; omega)) ?_
            refine And.intro (show (m l1 1) ≠ -9 by first | omega | (simp only [mS_iff]; omega) | (simp only [mS_iff] at *; omega)) ?_
            refine And.intro (fun h => absurd h (by omega)) (fun _ => ?_)
            refine And.intro (show (m l2 1) ≠ -9 by first | omega | (simp only [mS_iff]; omega) | (simp only [mS_iff] at *; omega)) ?_
            refine And.intro (fun _ => ?_) (fun h => absurd h (by omega))
            refine And.intro (show (m l1 (-1)) = 7 by first | assumption | omega | (simp only [mS_iff]; omega) | (simp only [mS_iff] at *; omega)) ?_
            refine And.intro (show (m l2 (-1)) = 7 by first | assumption | omega | (simp only [mS_iff]; omega) | (simp only [mS_iff] at *; omega)) ?_
            refine And.intro (show (m l1 2) ≠ -9 by first | omega | (simp only [mS_iff]; omega) | (simp only [mS_iff] at *; omega)) ?_
            refine And.intro (fun h => absurd h (by omega)) (fun _ => ?_)
            refine And.intro (show (m l2 2) ≠ -9 by first | omega | (simp only [mS_iff]; omega) | (simp only [mS_iff] at *; omega)) ?_
            refine And.intro (fun _ => ?_) (fun h => absurd h (by omega))
            exact hQ _ (by simp only [h3, a4, b4, a7, a8, b7, b8, a54, a55, a56, b51, a64, a65, a66, a67, s_lp]; omega)
          · refine And.intro (show (m l1 (-1)) = 7 by first | assumption | omega | (simp only [mS_iff]; omega) | (simp only [mS_iff] at *; omega)) ?_
            refine And.intro (show (m l1 2) ≠ -9 by first | omega | (simp only [mS_iff]; omega) | (simp only [mS_iff] at *; omega)) ?_
            refine And.intro (fun _ => ?_) (fun h => absurd h (by omega))
            refine And.intro (show (m l2 (-1)) = 7 by first | assumption | omega | (simp only [mS_iff]; omega) | (simp only [mS_iff] at *; omega)) ?_
            refine And.intro (show (m l2 2) ≠ -9 by first | omega | (simp only [mS_iff]; omega) | (simp only [mS_iff] at *; omega)) ?_
            refine And.intro (fun h => absurd h (by omega)) (fun _ => ?_)
            refine And.intro (fun h => absurd h (by decide)) (fun _ => ?_)
            refine And.intro (show -2147483648 ≤ 1 + 1 ∧ 1 + 1 ≤ 2147483647 by first | omega | (simp only [mS_iff]; omega) | (simp only [mS_iff] at *; omega)) ?_
            refine And.intro (show (m l1 (-1)) = 7 by first | assumption | omega | (simp only [mS_iff]; omega) | (simp only [mS_iff] at *; omega)) ?_
            refine And.intro (show (m l2 (-1)) = 7 by first | assumption | omega | (simp only [mS_iff]; omega) | (simp only [mS_iff] at *; omega)) ?_
            refine And.intro (show (m l1 1) ≠ -9 by first | omega | (simp only [mS_iff]; omega) | (simp only [mS_iff] at *; omega)) ?_
            refine And.intro (fun _ => ?_) (fun h => absurd h (by omega))
            refine And.intro (show (m (m l1 1) (-1)) = 8 by first | assumption | omega | (simp only [mS_iff]; omega) | (simp only [mS_iff] at *; omega)) ?_
            refine And.intro (show (m l2 1) ≠ -9 by first | omega | (simp only [mS_iff]; omega) | (simp only [mS_iff] at *; omega)) ?_
            refine And.intro (fun h => absurd h (by omega)) (fun _ => ?_)
            refine ct_62 (by omega) (fun v5 h6 h7 => ?_)
            refine And.intro (show -2147483648 ≤ 2 + v5 ∧ 2 + v5 ≤ 2147483647 by first | omega | (simp only [mS_iff]; omega) | (simp only [mS_iff] at *; omega)) ?_
            refine And.intro (show (m l1 1) ≠ -9 by first | omega | (simp only [mS_iff]; omega) | (simp only [mS_iff] at *; omega)) ?_
            refine And.intro (fun h => absurd h (by omega)) (fun _ => ?_)
            refine And.intro (show (m l2 1) ≠ -9 by first | omega | (simp only [mS_iff]; omega) | (simp only [mS_iff] at *; omega)) ?_
            refine And.intro (fun _ => ?_) (fun h => absurd h (by omega))
            refine And.intro (show (m l1 (-1)) = 7 by first | assumption | omega | (simp only [mS_iff]; omega) | (simp only [mS_iff] at *; omega)) ?_
            refine And.intro (show (m l2 (-1)) = 7 by first | assumption | omega | (simp only [mS_iff]; omega) | (simp only [mS_iff] at *; omega)) ?_
            refine And.intro (show (m l1 2) ≠ -9 by first | omega | (simp only [mS_iff]; omega) | (simp only [mS_iff] at *; omega)) ?_
            refine And.intro (fun h => absurd h (by omega)) (fun _ => ?_)
            refine And.intro (show (m l2 2) ≠ -9 by first | omega | (simp only [mS_iff]; omega) | (simp only [mS_iff] at *; omega)) ?_
            refine And.intro (fun _ => ?_) (fun h => absurd h (by omega))
            exact hQ _ (by simp only [h6, a4, b4, a7, a8, b7, b8, a54, a55, a56, b51, a64, a65, a66, a67, s_lp]; omega)
        ·
          refine am_go 400 [] (am_wpc_cm _ _ _) wf_63 ?_
          refine And.intro (show (m l1 (-1)) = 7 by first | assumption | omega | (simp only [mS_iff]; omega) | (simp only [mS_iff] at *; omega)) ?_
          refine And.intro (show (m l2 (-1)) = 7 by first | assumption | omega | (simp only [mS_iff]; omega) | (simp only [mS_iff] at *; omega)) ?_
          refine And.intro (fun h1 => ?_) (fun h1 => ?_)
          · refine And.intro (show (m l1 (-1)) = 7 by first | assumption | omega | (simp only [mS_iff]; omega) | (simp only [mS_iff] at *; omega)) ?_
            refine And.intro (show (m l1 2) ≠ -9 by first | omega | (simp only [mS_iff]; omega) | (simp only [mS_iff] at *; omega)) ?_
            refine And.intro (fun _ => ?_) (fun h => absurd h (by omega))
            refine And.intro (show (m l2 (-1)) = 7 by first | assumption | omega | (simp only [mS_iff]; omega) | (simp only [mS_iff] at *; omega)) ?_
            refine And.intro (show (m l2 2) ≠ -9 by first | omega | (simp only [mS_iff]; omega) | (simp only [mS_iff] at *; omega)) ?_
            refine And.intro (fun _ => ?_) (fun h => absurd h (by omega))
            refine And.intro (fun _ => ?_) (fun h => absurd h (by decide))
            refine And.intro (show -2147483648 ≤ 0 + 0 ∧ 0 + 0 ≤ 2147483647 by first | omega | (simp only [mS_iff]; omega) | (simp only [mS_iff] at *; omega)) ?_
            refine And.intro (show (m l1 (-1)) = 7 by first | assumption | omega | (simp only [mS_iff]; omega) | (simp only [mS_iff] at *; omega)) ?_
            refine And.intro (show (m l2 (-1)) = 7 by first | assumption | omega | (simp only [mS_iff]; omega) | (simp only [mS_iff] at *; omega)) ?_
            refine And.intro (show (m l1 1) ≠ -9 by first | omega | (simp only [mS_iff]; omega) | (simp only [mS_iff] at *; omega)) ?_
            refine And.intro (fun _ => ?_) (fun h => absurd h (by omega))
            refine And.intro (show (m (m l1 1) (-1)) = 8 by first | assumption | omega | (simp only [mS_iff]; omega) | (simp only [mS_iff] at *; omega)) ?_
            refine And.intro (show (m l2 1) ≠ -9 by first | omega | (simp only [mS_iff]; omega) | (simp only [mS_iff] at *; omega)) ?_
            refine And.intro (fun h => absurd h (by omega)) (fun _ => ?_)
            refine ct_62 (by omega) (fun v2 h3 h4 => ?_)
            refine And.intro (show -2147483648 ≤ 0 + v2 ∧ 0 + v2 ≤ 2147483647 by first | omega | (simp only [mS_iff]; omega) | (simp only [mS_iff] at *; omega)) ?_
            refine And.intro (show (m l1 1) ≠ -9 by first | omega | (simp only [mS_iff]; omega) | (simp only [mS_iff] at *; omega)) ?_
            refine And.intro (fun h => absurd h (by omega)) (fun _ => ?_)
            refine And.intro (show (m l2 1) ≠ -9 by first | omega | (simp only [mS_iff]; omega) | (simp only [mS_iff] at *; omega)) ?_
            refine And.intro (fun _ => ?_) (fun h => absurd h (by omega))
            refine And.intro (show (m l1 (-1)) = 7 by first | assumption | omega | (simp only [mS_iff]; omega) | (simp only [mS_iff] at *; omega)) ?_
            refine And.intro (show (m l2 (-1)) = 7 by first | assumption | omega | (simp only [mS_iff]; omega) | (simp only [mS_iff] at *; omega)) ?_
            refine And.intro (show (m l1 2) ≠ -9 by first | omega | (simp only [mS_iff]; omega) | (simp only [mS_iff] at *; omega)) ?_
            refine And.intro (fun h => absurd h (by omega)) (fun _ => ?_)
            refine And.intro (show (m l2 2) ≠ -9 by first | omega | (simp only [mS_iff]; omega) | (simp only [mS_iff] at *; omega)) ?_
            refine And.intro (fun h => absurd h (by omega)) (fun _ => ?_)
            refine And.intro (show (m (m l1 2) (-1)) = 10 by first | assumption | omega | (simp only [mS_iff]; omega) | (simp only [mS_iff] at *; omega)) ?_
            refine And.intro (show (m (m l2 2) (-1)) = 10 by first | assumption | omega | (simp only [mS_iff]; omega) | (simp only [mS_iff] at *; omega)) ?_
            refine ct_62 (by omega) (fun v5 h6 h7 => ?_)
            refine And.intro (show (m (m l1 2) (-1)) = 10 by first | assumption | omega | (simp only [mS_iff]; omega) | (simp only [mS_iff] at *; omega)) ?_
            refine And.intro (show (m (m l2 2) (-1)) = 10 by first | assumption | omega | (simp only [mS_iff]; omega) | (simp only [mS_iff] at *; omega)) ?_
            refine ct_62 (by omega) (fun v8 h9 h10 => ?_)
            refine And.intro (show -2147483648 ≤ v5 + v8 ∧ v5 + v8 ≤ 2147483647 by first | omega | (simp only [mS_iff]; omega) | (simp only [mS_iff] at *; omega)) ?_
            refine And.intro (show (m (m l1 2) (-1)) = 10 by first | assumption | omega | (simp only [mS_iff]; omega) | (simp only [mS_iff] at *; omega)) ?_
            refine And.intro (show (m (m l2 2) (-1)) = 10 by first | assumption | omega | (simp only [mS_iff]; omega) | (simp only [mS_iff] at *; omega)) ?_
            refine ct_62 (by omega) (fun v11 h12 h13 => ?_)
            refine And.intro (show -2147483648 ≤ (v5 + v8) + v11 ∧ (v5 + v8) + v11 ≤ 2147483647 by first | omega | (simp only [mS_iff]; omega) | (simp only [mS_iff] at *; omega)) ?_
            refine And.intro (show (m (m l1 2) (-1)) = 10 by first | assumption | omega | (simp only [mS_iff]; omega) | (simp only [mS_iff] at *; omega)) ?_
            refine And.intro (show (m (m l2 2) (-1)) = 10 by first | assumption | omega | (simp only [mS_iff]; omega) | (simp only [mS_iff] at *; omega)) ?_
            refine ct_62 (by omega) (fun v14 h15 h16 => ?_)
            refine And.intro (show -2147483648 ≤ ((v5 + v8) + v11) + v14 ∧ ((v5 + v8) + v11) + v14 ≤ 2147483647 by first | omega | (simp only [mS_iff]; omega) | (simp only [mS_iff] at *; omega)) ?_
            refine And.intro (show (m l1 (-1)) = 7 by first | assumption | omega | (simp only [mS_iff]; omega) | (simp only [mS_iff] at *; omega)) ?_
            refine And.intro (show (m l2 (-1)) = 7 by first | assumption | omega | (simp only [mS_iff]; omega) | (simp only [mS_iff] at *; omega)) ?_
            refine ct_62 (by omega) (fun v17 h18 h19 => ?_)
            refine And.intro (show -2147483648 ≤ (((v5 + v8) + v11) + v14) + v17 ∧ (((v5 + v8) + v11) + v14) + v17 ≤ 2147483647 by first | omega | (simp only [mS_iff]; omega) | (simp only [mS_iff] at *; omega)) ?_
            refine And.intro (show (m l1 (-1)) = 7 by first | assumption | omega | (simp only [mS_iff]; omega) | (simp only [mS_iff] at *; omega)) ?_
            refine And.intro (show (m l2 (-1)) = 7 by first | assumption | omega | (simp only [mS_iff]; omega) | (simp only [mS_iff] at *; omega)) ?_
            refine ct_62 (by omega) (fun v20 h21 h22 => ?_)
            refine And.intro (show -2147483648 ≤ ((((v5 + v8) + v11) + v14) + v17) + v20 ∧ ((((v5 + v8) + v11) + v14) + v17) + v20 ≤ 2147483647 by first | omega | (simp only [mS_iff]; omega) | (simp only [mS_iff] at *; omega)) ?_
            refine And.intro (show -2147483648 ≤ (0 + v2) + (((((v5 + v8) + v11) + v14) + v17) + v20) ∧ (0 + v2) + (((((v5 + v8) + v11) + v14) + v17) + v20) ≤ 2147483647 by first | omega | (simp only [mS_iff]; omega) | (simp only [mS_iff] at *; omega)) ?_
            exact hQ _ (by simp only [h3, h6, h9, h12, h15, h18, h21, a4, b4, a7, a8, b7, b8, a54, a55, a56, b51, a64, a65, a66, a67, b64, b65, b66, b67, s_lp]; omega)
          · refine And.intro (show (m l1 (-1)) = 7 by first | assumption | omega | (simp only [mS_iff]; omega) | (simp only [mS_iff] at *; omega)) ?_
            refine And.intro (show (m l1 2) ≠ -9 by first | omega | (simp only [mS_iff]; omega) | (simp only [mS_iff] at *; omega)) ?_
            refine And.intro (fun _ => ?_) (fun h => absurd h (by omega))
            refine And.intro (show (m l2 (-1)) = 7 by first | assumption | omega | (simp only [mS_iff]; omega) | (simp only [mS_iff] at *; omega)) ?_
            refine And.intro (show (m l2 2) ≠ -9 by first | omega | (simp only [mS_iff]; omega) | (simp only [mS_iff] at *; omega)) ?_
            refine And.intro (fun _ => ?_) (fun h => absurd h (by omega))
            refine And.intro (fun _ => ?_) (fun h => absurd h (by decide))
            refine And.intro (show -2147483648 ≤ 1 + 0 ∧ 1 + 0 ≤ 2147483647 by first | omega | (simp only [mS_iff]; omega) | (simp only [mS_iff] at *; omega)) ?_
            refine And.intro (show (m l1 (-1)) = 7 by first | assumption | omega | (simp only [mS_iff]; omega) | (simp only [mS_iff] at *; omega)) ?_
            refine And.intro (show (m l2 (-1)) = 7 by first | assumption | omega | (simp only [mS_iff]; omega) | (simp only [mS_iff] at *; omega)) ?_
            refine And.intro (show (m l1 1) ≠ -9 by first | omega | (simp only [mS_iff]; omega) | (simp only [mS_iff] at *; omega)) ?_
            refine And.intro (fun _ => ?_) (fun h => absurd h (by omega))
            refine And.intro (show (m (m l1 1) (-1)) = 8 by first | assumption | omega | (simp only [mS_iff]; omega) | (simp only [mS_iff] at *; omega)) ?_
            refine And.intro (show (m l2 1) ≠ -9 by first | omega | (simp only [mS_iff]; omega) | (simp only [mS_iff] at *; omega)) ?_
            refine And.intro (fun h => absurd h (by omega)) (fun _ => ?_)
            refine ct_62 (by omega) (fun v23 h24 h25 => ?_)
            refine And.intro (show -2147483648 ≤ 1 + v23 ∧ 1 + v23 ≤ 2147483647 by first | omega | (simp only [mS_iff]; omega) | (simp only [mS_iff] at *; omega)) ?_
            refine And.intro (show (m l1 1) ≠ -9 by first | omega | (simp only [mS_iff]; omega) | (simp only [mS_iff] at *; omega)) ?_
            refine And.intro (fun h => absurd h (by omega)) (fun _ => ?_)
            refine And.intro (show (m l2 1) ≠ -9 by first | omega | (simp only [mS_iff]; omega) | (simp only [mS_iff] at *; omega)) ?_
            refine And.intro (fun _ => ?_) (fun h => absurd h (by omega))
            refine And.intro (show (m l1 (-1)) = 7 by first | assumption | omega | (simp only [mS_iff]; omega) | (simp only [mS_iff] at *; omega)) ?_
            refine And.intro (show (m l2 (-1)) = 7 by first | assumption | omega | (simp only [mS_iff]; omega) | (simp only [mS_iff] at *; omega)) ?_
            refine And.intro (show (m l1 2) ≠ -9 by first | omega | (simp only [mS_iff]; omega) | (simp only [mS_iff] at *; omega)) ?_
            refine And.intro (fun h => absurd h (by omega)) (fun _ => ?_)
            refine And.intro (show (m l2 2) ≠ -9 by first | omega | (simp only [mS_iff]; omega) | (simp only [mS_iff] at *; omega)) ?_
            refine And.intro (fun h => absurd h (by omega)) (fun _ => ?_)
            refine And.intro (show (m (m l1 2) (-1)) = 10 by first | assumption | omega | (simp only [mS_iff]; omega) | (simp only [mS_iff] at *; omega)) ?_
            refine And.intro (show (m (m l2 2) (-1)) = 10 by first | assumption | omega | (simp only [mS_iff]; omega) | (simp only [mS_iff] at *; omega)) ?_
            refine ct_62 (by omega) (fun v26 h27 h28 => ?_)
            refine And.intro (show (m (m l1 2) (-1)) = 10 by first | assumption | omega | (simp only [mS_iff]; omega) | (simp only [mS_iff] at *; omega)) ?_
            refine And.intro (show (m (m l2 2) (-1)) = 10 by first | assumption | omega | (simp only [mS_iff]; omega) | (simp only [mS_iff] at *; omega)) ?_
            refine ct_62 (by omega) (fun v29 h30 h31 => ?_)
            refine And.intro (show -2147483648 ≤ v26 + v29 ∧ v26 + v29 ≤ 2147483647 by first | omega | (simp only [mS_iff]; omega) | (simp only [mS_iff] at *; omega)) ?_
            refine And.intro (show (m (m l1 2) (-1)) = 10 by first | assumption | omega | (simp only [mS_iff]; omega) | (simp only [mS_iff] at *; omega)) ?_
            refine And.intro (show (m (m l2 2) (-1)) = 10 by first | assumption | omega | (simp only [mS_iff]; omega) | (simp only [mS_iff] at *; omega)) ?_
            refine ct_62 (by omega) (fun v32 h33 h34 => ?_)
            refine And.intro (show -2147483648 ≤ (v26 + v29) + v32 ∧ (v26 + v29) + v32 ≤ 2147483647 by first | omega | (simp only [mS_iff]; omega) | (simp only [mS_iff] at *; omega)) ?_
            refine And.intro (show (m (m l1 2) (-1)) = 10 by first | assumption | omega | (simp only [mS_iff]; omega) | (simp only [mS_iff] at *; omega)) ?_
            refine And.intro (show (m (m l2 2) (-1)) = 10 by first | assumption | omega | (simp only [mS_iff]; omega) | (simp only [mS_iff] at *; omega)) ?_
            refine ct_62 (by omega) (fun v35 h36 h37 => ?_)
            refine And.intro (show -2147483648 ≤ ((v26 + v29) + v32) + v35 ∧ ((v26 + v29) + v32) + v35 ≤ 2147483647 by first | omega | (simp only [mS_iff]; omega) | (simp only [mS_iff] at *; omega)) ?_
            refine And.intro (show (m l1 (-1)) = 7 by first | assumption | omega | (simp only [mS_iff]; omega) | (simp only [mS_iff] at *; omega)) ?_
            refine And.intro (show (m l2 (-1)) = 7 by first | assumption | omega | (simp only [mS_iff]; omega) | (simp only [mS_iff] at *; omega)) ?_
            refine ct_62 (by omega) (fun v38 h39 h40 => ?_)
            refine And.intro (show -2147483648 ≤ (((v26 + v29) + v32) + v35) + v38 ∧ (((v26 + v29) + v32) + v35) + v38 ≤ 2147483647 by first | omega | (simp only [mS_iff]; omega) | (simp only [mS_iff] at *; omega)) ?_
            refine And.intro (show (m l1 (-1)) = 7 by first | assumption | omega | (simp only [mS_iff]; omega) | (simp only [mS_iff] at *; omega)) ?_
            refine And.intro (show (m l2 (-1)) = 7 by first | assumption | omega | (simp only [mS_iff]; omega) | (simp only [mS_iff] at *; omega)) ?_
            refine ct_62 (by omega) (fun v41 h42 h43 => ?_)
            refine And.intro (show -2147483648 ≤ ((((v26 + v29) + v32) + v35) + v38) + v41 ∧ ((((v26 + v29) + v32) + v35) + v38) + v41 ≤ 2147483647 by first | omega | (simp only [mS_iff]; omega) | (simp only [mS_iff] at *; omega)) ?_
            refine And.intro (show -2147483648 ≤ (1 + v23) + (((((v26 + v29) + v32) + v35) + v38) + v41) ∧ (1 + v23) + (((((v26 + v29) + v32) + v35) + v38) + v41) ≤ 2147483647 by first | omega | (simp only [mS_iff]; omega) | (simp only [mS_iff] at *; omega)) ?_
            exact hQ _ (by simp only [h24, h27, h30, h33, h36, h39, h42, a4, b4, a7, a8, b7, b8, a54, a55, a56, b51, a64, a65, a66, a67, b64, b65, b66, b67, s_lp]; omega)
    ·
      rcases a6 with ⟨a60, a61, a62, a63, a64, a65, a66⟩ | ⟨a60, a61, a62, ⟨a63, -, -, -, -, -, -, -, -, -, -, -, -⟩, a64, a65, a66, a67, -⟩
      ·
        rcases b6 with ⟨b60, b61, b62, b63, b64, b65, b66⟩ | ⟨b60, b61, b62, ⟨b63, -, -, -, -, -, -, -, -, -, -, -, -⟩, b64, b65, b66, b67, -⟩
        ·
          refine am_go 400 [] (am_wpc_cm _ _ _) wf_63 ?_
          refine And.intro (show (m l1 (-1)) = 7 by first | assumption | omega | (simp only [mS_iff]; omega) | (simp only [mS_iff] at *; omega)) ?_
          refine And.intro (show (m l2 (-1)) = 7 by first | assumption | omega | (simp only [mS_iff]; omega) | (simp only [mS_iff] at *; omega)) ?_
          refine And.intro (fun h1 => ?_) (fun h1 => ?_)
          · refine And.intro (show (m l1 (-1)) = 7 by first | assumption | omega | (simp only [mS_iff]; omega) | (simp only [mS_iff] at *; omega)) ?_
            refine And.intro (show (m l1 2) ≠ -9 by first | omega | (simp only [mS_iff]; omega) | (simp only [mS_iff] at *; omega)) ?_
            refine And.intro (fun h => absurd h (by omega)) (fun _ => ?_)
            refine And.intro (show (m l2 (-1)) = 7 by first | assumption | omega | (simp only [mS_iff]; omega) | (simp only [mS_iff] at *; omega)) ?_
            refine And.intro (show (m l2 2) ≠ -9 by first | omega | (simp only [mS_iff]; omega) | (simp only [mS_iff] at *; omega)) ?_
            refine And.intro (fun h => absurd h (by omega)) (fun _ => ?_)
            refine And.intro (fun _ => ?_) (fun h => absurd h (by decide))
            refine And.intro (show -2147483648 ≤ 0 + 0 ∧ 0 + 0 ≤ 2147483647 by first | omega | (simp only [mS_iff]; omega) | (simp only [mS_iff] at *; omega)) ?_
            refine And.intro (show (m l1 (-1)) = 7 by first | assumption | omega | (simp only [mS_iff]; omega) | (simp only [mS_iff] at *; omega)) ?_
            refine And.intro (show (m l2 (-1)) = 7 by first | assumption | omega | (simp only [mS_iff]; omega) | (simp only [mS_iff] at *; omega)) ?_
            refine And.intro (show (m l1 1) ≠ -9 by first | omega | (simp only [mS_iff]; omega) | (simp only [mS_iff] at *; omega)) ?_
            refine And.intro (fun _ => ?_) (fun h => absurd h (by omega))
            refine And.intro (show (m (m l1 1) (-1)) = 8 by first | assumption | omega | (simp only [mS_iff]; omega) | (simp only [mS_iff] at *; omega)) ?_
            refine And.intro (show (m l2 1) ≠ -9 by first | omega | (simp only [mS_iff]; omega) | (simp only [mS_iff] at *; omega)) ?_
            refine And.intro (fun _ => ?_) (fun h => absurd h (by omega))
            refine And.intro (show (m (m l2 1) (-1)) = 8 by first | assumption | omega | (simp only [mS_iff]; omega) | (simp only [mS_iff] at *; omega)) ?_
            refine ct_62 (by omega) (fun v2 h3 h4 => ?_)
            refine And.intro (show -2147483648 ≤ 0 + v2 ∧ 0 + v2 ≤ 2147483647 by first | omega | (simp only [mS_iff]; omega) | (simp only [mS_iff] at *; omega)) ?_
            refine And.intro (show (m l1 1) ≠ -9 by first | omega | (simp only [mS_iff]; omega) | (simp only [mS_iff] at *; omega)) ?_
            refine And.intro (fun h => absurd h (by omega)) (fun _ => ?_)
            refine And.intro (show (m l2 1) ≠ -9 by first | omega | (simp only [mS_iff]; omega) | (simp only [mS_iff] at *; omega)) ?_
            refine And.intro (fun h => absurd h (by omega)) (fun _ => ?_)
            refine And.intro (show (m (m l1 1) (-1)) = 8 by first | assumption | omega | (simp only [mS_iff]; omega) | (simp only [mS_iff] at *; omega)) ?_
            refine And.intro (show (m (m l2 1) (-1)) = 8 by first | assumption | omega | (simp only [mS_iff]; omega) | (simp only [mS_iff] at *; omega)) ?_
            refine ct_62 (by omega) (fun v5 h6 h7 => ?_)
            refine And.intro (show (m (m l1 1) (-1)) = 8 by first | assumption | omega | (simp only [mS_iff]; omega) | (simp only [mS_iff] at *; omega)) ?_
            refine And.intro (show (m (m l2 1) (-1)) = 8 by first | assumption | omega | (simp only [mS_iff]; omega) | (simp only [mS_iff] at *; omega)) ?_
            refine ct_62 (by omega) (fun v8 h9 h10 => ?_)
            refine And.intro (show -2147483648 ≤ v5 + v8 ∧ v5 + v8 ≤ 2147483647 by first | omega | (simp only [mS_iff]; omega) | (simp only [mS_iff] at *; omega)) ?_
            refine And.intro (show -2147483648 ≤ (0 + v2) + (v5 + v8) ∧ (0 + v2) + (v5 + v8) ≤ 2147483647 by first | omega | (simp only [mS_iff]; omega) | (simp only [mS_iff] at *; omega)) ?_
            refine And.intro (show (m l1 (-1)) = 7 by first | assumption | omega | (simp only [mS_iff]; omega) | (simp only [mS_iff] at *; omega)) ?_
            refine And.intro (show (m l2 (-1)) = 7 by first | assumption | omega | (simp only [mS_iff]; omega) | (simp only [mS_iff] at *; omega)) ?_
            refine And.intro (show (m l1 2) ≠ -9 by first | omega | (simp only [mS_iff]; omega) | (simp only [mS_iff] at *; omega)) ?_
            refine And.intro (fun _ => ?_) (fun h => absurd h (by omega))
            exact hQ _ (by simp only [h3, h6, h9, a4, b4, a7, a8, b7, b8, a54, a55, a56, b54, b55, b56, s_lp]; omega)
          · refine And.intro (show (m l1 (-1)) = 7 by first | assumption | omega | (simp only [mS_iff]; omega) | (simp only [mS_iff] at *; omega)) ?_
            refine And.intro (show (m l1 2) ≠ -9 by first | omega | (simp only [mS_iff]; omega) | (simp only [mS_iff] at *; omega)) ?_
            refine And.intro (fun h => absurd h (by omega)) (fun _ => ?_)
            refine And.intro (show (m l2 (-1)) = 7 by first | assumption | omega | (simp only [mS_iff]; omega) | (simp only [mS_iff] at *; omega)) ?_
            refine And.intro (show (m l2 2) ≠ -9 by first | omega | (simp only [mS_iff]; omega) | (simp only [mS_iff] at *; omega)) ?_
            refine And.intro (fun h => absurd h (by omega)) (fun _ => ?_)
            refine And.intro (fun _ => ?_) (fun h => absurd h (by decide))
            refine And.intro (show -2147483648 ≤ 1 + 0 ∧ 1 + 0 ≤ 2147483647 by first | omega | (simp only [mS_iff]; omega) | (simp only [mS_iff] at *; omega)) ?_
            refine And.intro (show (m l1 (-1)) = 7 by first | assumption | omega | (simp only [mS_iff]; omega) | (simp only [mS_iff] at *; omega)) ?_
            refine And.intro (show (m l2 (-1)) = 7 by first | assumption | omega | (simp only [mS_iff]; omega) | (simp only [mS_iff] at *; omega)) ?_
            refine And.intro (show (m l1 1) ≠ -9 by first | omega | (simp only [mS_iff]; omega) | (simp only [mS_iff] at *; omega)) ?_
            refine And.intro (fun _ => ?_) (fun h => absurd h (by omega))
            refine And.intro (show (m (m l1 1) (-1)) = 8 by first | assumption | omega | (simp only [mS_iff]; omega) | (simp only [mS_iff] at *; omega)) ?_
            refine And.intro (show (m l2 1) ≠ -9 by first | omega | (simp only [mS_iff]; omega) | (simp only [mS_iff] at *; omega)) ?_
            refine And.intro (fun _ => ?_) (fun h => absurd h (by omega))
            refine And.intro (show (m (m l2 1) (-1)) = 8 by first | assumption | omega | (simp only [mS_iff]; omega) | (simp only [mS_iff] at *; omega)) ?_
            refine ct_62 (by omega) (fun v11 h12 h13 => ?_)
            refine And.intro (show -2147483648 ≤ 1 + v11 ∧ 1 + v11 ≤ 2147483647 by first | omega | (simp only [mS_iff]; omega) | (simp only [mS_iff] at *; omega)) ?_
            refine And.intro (show (m l1 1) ≠ -9 by first | omega | (simp only [mS_iff]; omega) | (simp only [mS_iff] at *; omega)) ?_
            refine And.intro (fun h => absurd h (by omega)) (fun _ => ?_)
            refine And.intro (show (m l2 1) ≠ -9 by first | omega | (simp only [mS_iff]; omega) | (simp only [mS_iff] at *; omega)) ?_
            refine And.intro (fun h => absurd h (by omega)) (fun _ => ?_)
            refine And.intro (show (m (m l1 1) (-1)) = 8 by first | assumption | omega | (simp only [mS_iff]; omega) | (simp only [mS_iff] at *; omega)) ?_
            refine And.intro (show (m (m l2 1) (-1)) = 8 by first | assumption | omega | (simp only [mS_iff]; omega) | (simp only [mS_iff] at *; omega)) ?_
            refine ct_62 (by omega) (fun v14 h15 h16 => ?_)
            refine And.intro (show (m (m l1 1) (-1)) = 8 by first | assumption | omega | (simp only [mS_iff]; omega) | (simp only [mS_iff] at *; omega)) ?_
            refine And.intro (show (m (m l2 1) (-1)) = 8 by first | assumption | omega | (simp only [mS_iff]; omega) | (simp only [mS_iff] at *; omega)) ?_
            refine ct_62 (by omega) (fun v17 h18 h19 => ?_)
            refine And.intro (show -2147483648 ≤ v14 + v17 ∧ v14 + v17 ≤ 2147483647 by first | omega | (simp only [mS_iff]; omega) | (simp only [mS_iff] at *; omega)) ?_
            refine And.intro (show -2147483648 ≤ (1 + v11) + (v14 + v17) ∧ (1 + v11) + (v14 + v17) ≤ 2147483647 by first | omega | (simp only [mS_iff]; omega) | (simp only [mS_iff] at *; omega)) ?_
            refine And.intro (show (m l1 (-1)) = 7 by first | assumption | omega | (simp only [mS_iff]; omega) | (simp only [mS_iff] at *; omega)) ?_
            refine And.intro (show (m l2 (-1)) = 7 by first | assumption | omega | (simp only [mS_iff]; omega) | (simp only [mS_iff] at *; omega)) ?_
            refine And.intro (show (m l1 2) ≠ -9 by first | omega | (simp only [mS_iff]; omega) | (simp only [mS_iff] at *; omega)) ?_
            refine And.intro (fun _ => ?_) (fun h => absurd h (by omega))
            exact hQ _ (by simp only [h12, h15, h18, a4, b4, a7, a8, b7, b8, a54, a55, a56, b54, b55, b56, s_lp]; omega)
        ·
          refine am_go 400 [] (am_wpc_cm _ _ _) wf_63 ?_
          refine And.intro (show (m l1 (-1)) = 7 by first | assumption | omega | (simp only [mS_iff]; omega) | (simp only [mS_iff] at *; omega)) ?_
          refine And.intro (show (m l2 (-1)) = 7 by first | assumption | omega | (simp only [mS_iff]; omega) | (simp only [mS_iff] at *; omega)) ?_
          refine And.intro (fun h1 => ?_) (fun h1 => ?_)
          · refine And.intro (show (m l1 (-1)) = 7 by first | assumption | omega | (simp only [mS_iff]; omega) | (simp only [mS_iff] at *; omega)) ?_
            refine And.intro (show (m l1 2) ≠ -9 by first | omega | (simp only [mS_iff]; omega) | (simp only [mS_iff] at *; omega)) ?_
            refine And.intro (fun h => absurd h (by omega)) (fun _ => ?_)
            refine And.intro (show (m l2 (-1)) = 7 by first | assumption | omega | (simp only [mS_iff]; omega) | (simp only [mS_iff] at *; omega)) ?_
            refine And.intro (show (m l2 2) ≠ -9 by first | omega | (simp only [mS_iff]; omega) | (simp only [mS_iff] at *; omega)) ?_
            refine And.intro (fun _ => ?_) (fun h => absurd h (by omega))
            refine And.intro (fun h => absurd h (by decide)) (fun _ => ?_)
            refine And.intro (show -2147483648 ≤ 0 + 1 ∧ 0 + 1 ≤ 2147483647 by first | omega | (simp only [mS_iff]; omega) | (simp only [mS_iff] at *; omega)) ?_
            refine And.intro (show (m l1 (-1)) = 7 by first | assumption | omega | (simp only [mS_iff]; omega) | (simp only [mS_iff] at *; omega)) ?_
            refine And.intro (show (m l2 (-1)) = 7 by first | assumption | omega | (simp only [mS_iff]; omega) | (simp only [mS_iff] at *; omega)) ?_
            refine And.intro (show (m l1 1) ≠ -9 by first | omega | (simp only [mS_iff]; omega) | (simp only [mS_iff] at *; omega)) ?_
            refine And.intro (fun _ => ?_) (fun h => absurd h (by omega))
            refine And.intro (show (m (m l1 1) (-1)) = 8 by first | assumption | omega | (simp only [mS_iff]; omega) | (simp only [mS_iff] at *; omega)) ?_
            refine And.intro (show (m l2 1) ≠ -9 by first | omega | (simp only [mS_iff]; omega) | (simp only [mS_iff] at *; omega)) ?_
            refine And.intro (fun _ => ?_) (fun h => absurd h (by omega))
            refine And.intro (show (m (m l2 1) (-1)) = 8 by first | assumption | omega | (simp only [mS_iff]; omega) | (simp only [mS_iff] at *; omega)) ?_
            refine ct_62 (by omega) (fun v2 h3 h4 => ?_)
            refine And.intro (show -2147483648 ≤ 1 + v2 ∧ 1 + v2 ≤ 2147483647 by first | omega | (simp only [mS_iff]; omega) | (simp only [mS_iff] at *; omega)) ?_
            refine And.intro (show (m l1 1) ≠ -9 by first | omega | (simp only [mS_iff]; omega) | (simp only [mS_iff] at *; omega)) ?_
            refine And.intro (fun h => absurd h (by omega)) (fun _ => ?_)
            refine And.intro (show (m l2 1) ≠ -9 by first | omega | (simp only [mS_iff]; omega) | (simp only [mS_iff] at *; omega)) ?_
            refine And.intro (fun h => absurd h (by omega)) (fun _ => ?_)
            refine And.intro (show (m (m l1 1) (-1)) = 8 by first | assumption | omega | (simp only [mS_iff]; omega) | (simp only [mS_iff] at *; omega)) ?_
            refine And.intro (show (m (m l2 1) (-1)) = 8 by first | assumption | omega | (simp only [mS_iff]; omega) | (simp only [mS_iff] at *; omega)) ?_
            refine ct_62 (by omega) (fun v5 h6 h7 => ?_)
            refine And.intro (show (m (m l1 1) (-1)) = 8 by first | assumption | omega | (simp only [mS_iff]; omega) | (simp only [mS_iff] at *; omega)) ?_
            refine And.intro (show (m (m l2 1) (-1)) = 8 by first | assumption | omega | (simp only [mS_iff]; omega) | (simp only [mS_iff] at *; omega)) ?_
            refine ct_62 (by omega) (fun v8 h9 h10 => ?_)
            refine And.intro (show -2147483648 ≤ v5 + v8 ∧ v5 + v8 ≤ 2147483647 by first | omega | (simp only [mS_iff]; omega) | (simp only [mS_iff] at *; omega)) ?_
            refine And.intro (show -2147483648 ≤ (1 + v2) + (v5 + v8) ∧ (1 + v2) + (v5 + v8) ≤ 2147483647 by first | omega | (simp only [mS_iff]; omega) | (simp only [mS_iff] at *; omega)) ?_
            refine And.intro (show (m l1 (-1)) = 7 by first | assumption | omega | (simp only [mS_iff]; omega) | (simp only [mS_iff] at *; omega)) ?_
            refine And.intro (show (m l2 (-1)) = 7 by first | assumption | omega | (simp only [mS_iff]; omega) | (simp only [mS_iff] at *; omega)) ?_
            refine And.intro (show (m l1 2) ≠ -9 by first | omega | (simp only [mS_iff]; omega) | (simp only [mS_iff] at *; omega)) ?_
            refine And.intro (fun _ => ?_) (fun h => absurd h (by omega))
            exact hQ _ (by simp only [h3, h6, h9, a4, b4, a7, a8, b7, b8, a54, a55, a56, b54, b55, b56, b64, b65, b66, b67, s_lp]; omega)
          · refine And.intro (show (m l1 (-1)) = 7 by first | assumption | omega | (simp only [mS_iff]; omega) | (simp only [mS_iff] at *; omega)) ?_
            refine And.intro (show (m l1 2) ≠ -9 by first | omega | (simp only [mS_iff]; omega) | (simp only [mS_iff] at *; omega)) ?_
            refine And.intro (fun h => absurd h (by omega)) (fun _ => ?_)
            refine And.intro (show (m l2 (-1)) = 7 by first | assumption | omega | (simp only [mS_iff]; omega) | (simp only [mS_iff] at *; omega)) ?_
            refine And.intro (show (m l2 2) ≠ -9 by first | omega | (simp only [mS_iff]; omega) | (simp only [mS_iff] at *; omega)) ?_
            refine And.intro (fun _ => ?_) (fun h => absurd h (by omega))
            refine And.intro (fun h => absurd h (by decide)) (fun _ => ?_)
            refine And.intro (show -2147483648 ≤ 1 + 1 ∧ 1 + 1 ≤ 2147483647 by first | omega | (simp only [mS_iff]; omega) | (simp only [mS_iff] at *; omega)) ?_
            refine And.intro (show (m l1 (-1)) = 7 by first | assumption | omega | (simp only [mS_iff]; omega) | (simp only [mS_iff] at *; omega)) ?_
            refine And.intro (show (m l2 (-1)) = 7 by first | assumption | omega | (simp only [mS_iff]; omega) | (simp only [mS_iff] at *; omega)) ?_
            refine And.intro (show (m l1 1) ≠ -9 by first | omega | (simp only [mS_iff]; omega) | (simp only [mS_iff] at *; omega)) ?_
            refine And.intro (fun _ => ?_) (fun h => absurd h (by omega))
            refine And.intro (show (m (m l1 1) (-1)) = 8 by first | assumption | omega | (simp only [mS_iff]; omega) | (simp only [mS_iff] at *; omega)) ?_
            refine And.intro (show (m l2 1) ≠ -9 by first | omega | (simp only [mS_iff]; omega) | (simp only [mS_iff] at *; omega)) ?_
            refine And.intro (fun _ => ?_) (fun h => absurd h (by omega))
            refine And.intro (show (m (m l2 1) (-1)) = 8 by first | assumption | omega | (simp only [mS_iff]; omega) | (simp only [mS_iff] at *; omega)) ?_
            refine ct_62 (by omega) (fun v11 h12 h13 => ?_)
            refine And.intro (show -2147483648 ≤ 2 + v11 ∧ 2 + v11 ≤ 2147483647 by first | omega | (simp only [mS_iff]; omega) | (simp only [mS_iff] at *; omega)) ?_
            refine And.intro (show (m l1 1) ≠ -9 by first | omega | (simp only [mS_iff]; omega) | (simp only [mS_iff] at *; omega)) ?_
            refine And.intro (fun h => absurd h (by omega)) (fun _ => ?_)
            refine And.intro (show (m l2 1) ≠ -9 by first | omega | (simp only [mS_iff]; omega) | (simp only [mS_iff] at *; omega)) ?_
            refine And.intro (fun h => absurd h (by omega)) (fun _ => ?_)
            refine And.intro (show (m (m l1 1) (-1)) = 8 by first | assumption | omega | (simp only [mS_iff]; omega) | (simp only [mS_iff] at *; omega)) ?_
            refine And.intro (show (m (m l2 1) (-1)) = 8 by first | assumption | omega | (simp only [mS_iff]; omega) | (simp only [mS_iff] at *; omega)) ?_
            refine ct_62 (by omega) (fun v14 h15 h16 => ?_)
            refine And.intro (show (m (m l1 1) (-1)) = 8 by first | assumption | omega | (simp only [mS_iff]; omega) | (simp only [mS_iff] at *; omega)) ?_
            refine And.intro (show (m (m l2 1) (-1)) = 8 by first | assumption | omega | (simp only [mS_iff]; omega) | (simp only [mS_iff] at *; omega)) ?_
            refine ct_62 (by omega) (fun v17 h18 h19 => ?_)
            refine And.intro (show -2147483648 ≤ v14 + v17 ∧ v14 + v17 ≤ 2147483647 by first | omega | (simp only [mS_iff]; omega) | (simp only [mS_iff] at *; omega)) ?_
            refine And.intro (show -2147483648 ≤ (2 + v11) + (v14 + v17) ∧ (2 + v11) + (v14 + v17) ≤ 2147483647 by first | omega | (simp only [mS_iff]; omega) | (simp only [mS_iff] at *; omega)) ?_
            refine And.intro (show (m l1 (-1)) = 7 by first | assumption | omega | (simp only [mS_iff]; omega) | (simp only [mS_iff] at *; omega)) ?_
            refine And.intro (show (m l2 (-1)) = 7 by first | assumption | omega | (simp only [mS_iff]; omega) | (simp only [mS_iff] at *; omega)) ?_
            refine And.intro (show (m l1 2) ≠ -9 by first | omega | (simp only [mS_iff]; omega) | (simp only [mS_iff] at *; omega)) ?_
            refine And.intro (fun _ => ?_) (fun h => absurd h (by omega))
            exact hQ _ (by simp only [h12, h15, h18, a4, b4, a7, a8, b7, b8, a54, a55, a56, b54, b55, b56, b64, b65, b66, b67, s_lp]; omega)
      ·
        rcases b6 with ⟨b60, b61, b62, b63, b64, b65, b66⟩ | ⟨b60, b61, b62, ⟨b63, -, -, -, -, -, -, -, -, -, -, -, -⟩, b64, b65, b66, b67, -⟩
        ·
          refine am_go 400 [] (am_wpc_cm _ _ _) wf_63 ?_
          refine And.intro (show (m l1 (-1)) = 7 by first | assumption | omega | (simp only [mS_iff]; omega) | (simp only [mS_iff] at *; omega)) ?_
          refine And.intro (show (m l2 (-1)) = 7 by first | assumption | omega | (simp only [mS_iff]; omega) | (simp only [mS_iff] at *; omega)) ?_
          refine And.intro (fun h1 => ?_) (fun h1 => ?_)
          · refine And.intro (show (m l1 (-1)) = 7 by first | assumption | omega | (simp only [mS_iff]; omega) | (simp only [mS_iff] at *; omega)) ?_
            refine And.intro (show (m l1 2) ≠ -9 by first | omega | (simp only [mS_iff]; omega) | (simp only [mS_iff] at *; omega)) ?_
            refine And.intro (fun _ => ?_) (fun h => absurd h (by omega))
            refine And.intro (show (m l2 (-1)) = 7 by first | assumption | omega | (simp only [mS_iff]; omega) | (simp only [mS_iff] at *; omega)) ?_
            refine And.intro (show (m l2 2) ≠ -9 by first | omega | (simp only [mS_iff]; omega) | (simp only [mS_iff] at *; omega)) ?_
            refine And.intro (fun h => absurd h (by omega)) (fun _ => ?_)
            refine And.intro (fun h => absurd h (by decide)) (fun _ => ?_)
            refine And.intro (show -2147483648 ≤ 0 + 1 ∧ 0 + 1 ≤ 2147483647 by first | omega | (simp only [mS_iff]; omega) | (simp only [mS_iff] at *; omega)) ?_
            refine And.intro (show (m l1 (-1)) = 7 by first | assumption | omega | (simp only [mS_iff]; omega) | (simp only [mS_iff] at *; omega)) ?_
            refine And.intro (show (m l2 (-1)) = 7 by first | assumption | omega | (simp only [mS_iff]; omega) | (simp only [mS_iff] at *; omega)) ?_
            refine And.intro (show (m l1 1) ≠ -9 by first | omega | (simp only [mS_iff]; omega) | (simp only [mS_iff] at *; omega)) ?_
            refine And.intro (fun _ => ?_) (fun h => absurd h (by omega))
            refine And.intro (show (m (m l1 1) (-1)) = 8 by first | assumption | omega | (simp only [mS_iff]; omega) | (simp only [mS_iff] at *; omega)) ?_
            refine And.intro (show (m l2 1) ≠ -9 by first | omega | (simp only [mS_iff]; omega) | (simp only [mS_iff] at *; omega)) ?_
            refine And.intro (fun _ => ?_) (fun h => absurd h (by omega))
            refine And.intro (show (m (m l2 1) (-1)) = 8 by first | assumption | omega | (simp only [mS_iff]; omega) | (simp only [mS_iff] at *; omega)) ?_
            refine ct_62 (by omega) (fun v2 h3 h4 => ?_)
            refine And.intro (show -2147483648 ≤ 1 + v2 ∧ 1 + v2 ≤ 2147483647 by first | omega | (simp only [mS_iff]; omega) | (simp only [mS_iff] at *; omega)) ?_
            refine And.intro (show (m l1 1) ≠ -9 by first | omega | (simp only [mS_iff]; omega) | (simp only [mS_iff] at *; omega)) ?_
            refine And.intro (fun h => absurd h (by omega)) (fun _ => ?_)
            refine And.intro (show (m l2 1) ≠ -9 by first | omega | (simp only [mS_iff]; omega) | (simp only [mS_iff] at *; omega)) ?_
            refine And.intro (fun h => absurd h (by omega)) (fun _ => ?_)
            refine And.intro (show (m (m l1 1) (-1)) = 8 by first | assumption | omega | (simp only [mS_iff]; omega) | (simp only [mS_iff] at *; omega)) ?_
            refine And.intro (show (m (m l2 1) (-1)) = 8 by first | assumption | omega | (simp only [mS_iff]; omega) | (simp only [mS_iff] at *; omega)) ?_
            refine ct_62 (by omega) (fun v5 h6 h7 => ?_)
            refine And.intro (show (m (m l1 1) (-1)) = 8 by first | assumption | omega | (simp only [mS_iff]; omega) | (simp only [mS_iff] at *; omega)) ?_
            refine And.intro (show (m (m l2 1) (-1)) = 8 by first | assumption | omega | (simp only [mS_iff]; omega) | (simp only [mS_iff] at *; omega)) ?_
            refine ct_62 (by omega) (fun v8 h9 h10 => ?_)
            refine And.intro (show -2147483648 ≤ v5 + v8 ∧ v5 + v8 ≤ 2147483647 by first | omega | (simp only [mS_iff]; omega) | (simp only [mS_iff] at *; omega)) ?_
            refine And.intro (show -2147483648 ≤ (1 + v2) + (v5 + v8) ∧ (1 + v2) + (v5 + v8) ≤ 2147483647 by first | omega | (simp only [mS_iff]; omega) | (simp only [mS_iff] at *; omega)) ?_
            refine And.intro (show (m l1 (-1)) = 7 by first | assumption | omega | (simp only [mS_iff]; omega) | (simp only [mS_iff] at *; omega)) ?_
            refine And.intro (show (m l2 (-1)) = 7 by first | assumption | omega | (simp only [mS_iff]; omega) | (simp only [mS_iff] at *; omega)) ?_
            refine And.intro (show (m l1 2) ≠ -9 by first | omega | (simp only [mS_iff]; omega) | (simp only [mS_iff] at *; omega)) ?_
            refine And.intro (fun h => absurd h (by omega)) (fun _ => ?_)
            refine And.intro (show (m l2 2) ≠ -9 by first | omega | (simp only [mS_iff]; omega) | (simp only [mS_iff] at *; omega)) ?_
            refine And.intro (fun _ => ?_) (fun h => absurd h (by omega))
            exact hQ _ (by simp only [h3, h6, h9, a4, b4, a7, a8, b7, b8, a54, a55, a56, b54, b55, b56, a64, a65, a66, a67, s_lp]; omega)
          · refine And.intro (show (m l1 (-1)) = 7 by first | assumption | omega | (simp only [mS_iff]; omega) | (simp only [mS_iff] at *; omega)) ?_
            refine And.intro (show (m l1 2) ≠ -9 by first | omega | (simp only [mS_iff]; omega) | (simp only [mS_iff] at *; omega)) ?_
            refine And.intro (fun _ => ?_) (fun h => absurd h (by omega))
            refine And.intro (show (m l2 (-1)) = 7 by first | assumption | omega | (simp only [mS_iff]; omega) | (simp only [mS_iff] at *; omega)) ?_
            refine And.intro (show (m l2 2) ≠ -9 by first | omega | (simp only [mS_iff]; omega) | (simp only [mS_iff] at *; omega)) ?_
            refine And.intro (fun h => absurd h (by omega)) (fun _ => ?_)
            refine And.intro (fun h => absurd h (by decide)) (fun _ => ?_)
            refine And.intro (show -2147483648 ≤ 1 + 1 ∧ 1 + 1 ≤ 2147483647 by first | omega | (simp only [mS_iff]; omega) | (simp only [mS_iff] at *; omega)) ?_
            refine And.intro (show (m l1 (-1)) = 7 by first | assumption | omega | (simp only [mS_iff]; omega) | (simp only [mS_iff] at *; omega)) ?_
            refine And.intro (show (m l2 (-1)) = 7 by first | assumption | omega | (simp only [mS_iff]; omega) | (simp only [mS_iff] at *; omega)) ?_
            refine And.intro (show (m l1 1) ≠ -9 by first | omega | (simp only [mS_iff]; omega) | (simp only [mS_iff] at *; omega)) ?_
            refine And.intro (fun _ => ?_) (fun h => absurd h (by omega))
            refine And.intro (show (m (m l1 1) (-1)) = 8 by first | assumption | omega | (simp only [mS_iff]; omega) | (simp only [mS_iff] at *; omega)) ?_
            refine And.intro (show (m l2 1) ≠ -9 by first | omega | (simp only [mS_iff]; omega) | (simp only [mS_iff] at *; omega)) ?_
            refine And.intro (fun _ => ?_) (fun h => absurd h (by omega))
            refine And.intro (show (m (m l2 1) (-1)) = 8 by first | assumption | omega | (simp only [mS_iff]; omega) | (simp only [mS_iff] at *; omega)) ?_
            refine ct_62 (by omega) (fun v11 h12 h13 => ?_)
            refine And.intro (show -2147483648 ≤ 2 + v11 ∧ 2 + v11 ≤ 2147483647 by first | omega | (simp only [mS_iff]; omega) | (simp only [mS_iff] at *; omega)) ?_
            refine And.intro (show (m l1 1) ≠ -9 by first | omega | (simp only [mS_iff]; omega) | (simp only [mS_iff] at *; omega)) ?_
            refine And.intro (fun h => absurd h (by omega)) (fun _ => ?_)
            refine And.intro (show (m l2 1) ≠ -9 by first | omega | (simp only [mS_iff]; omega) | (simp only [mS_iff] at *; omega)) ?_
            refine And.intro (fun h => absurd h (by omega)) (fun _ => ?_)
            refine And.intro (show (m (m l1 1) (-1)) = 8 by first | assumption | omega | (simp only [mS_iff]; omega) | (simp only [mS_iff] at *; omega)) ?_
            refine And.intro (show (m (m l2 1) (-1)) = 8 by first | assumption | omega | (simp only [mS_iff]; omega) | (simp only [mS_iff] at *; omega)) ?_
            refine ct_62 (by omega) (fun v14 h15 h16 => ?_)
            refine And.intro (show (m (m l1 1) (-1)) = 8 by first | assumption | omega | (simp only [mS_iff]; omega) | (simp only [mS_iff] at *; omega)) ?_
            refine And.intro (show (m (m l2 1) (-1)) = 8 by first | assumption | omega | (simp only [mS_iff]; omega) | (simp only [mS_iff] at *; omega)) ?_
            refine ct_62 (by omega) (fun v17 h18 h19 => ?_)
            refine And.intro (show -2147483648 ≤ v14 + v17 ∧ v14 + v17 ≤ 2147483647 by first | omega | (simp only [mS_iff]; omega) | (simp only [mS_iff] at *; omega)) ?_
            refine And.intro (show -2147483648 ≤ (2 + v11) + (v14 + v17) ∧ (2 + v11) + (v14 + v17) ≤ 2147483647 by first | omega | (simp only [mS_iff]; omega) | (simp only [mS_iff] at *; omega)) ?_
            refine And.intro (show (m l1 (-1)) = 7 by first | assumption | omega | (simp only [mS_iff]; omega) | (simp only [mS_iff] at *; omega)) ?_
            refine And.intro (show (m l2 (-1)) = 7 by first | assumption | omega | (simp only [mS_iff]; omega) | (simp only [mS_iff] at *; omega)) ?_
            refine And.intro (show (m l1 2) ≠ -9 by first | omega | (simp only [mS_iff]; omega) | (simp only [mS_iff] at *; omega)) ?_
            refine And.intro (fun h => absurd h (by omega)) (fun _ => ?_)
            refine And.intro (show (m l2 2) ≠ -9 by first | omega | (simp only [mS_iff]; omega) | (simp only [mS_iff] at *; omega)) ?_
            refine And.intro (fun _ => ?_) (fun h => absurd h (by omega))
            exact hQ _ (by simp only [h12, h15, h18, a4, b4, a7, a8, b7, b8, a54, a55, a56, b54, b55, b56, a64, a65, a66, a67, s_lp]; omega)
        ·
          refine am_go 400 [] (am_wpc_cm _ _ _) wf_63 ?_
          refine And.intro (show (m l1 (-1)) = 7 by first | assumption | omega | (simp only [mS_iff]; omega) | (simp only [mS_iff] at *; omega)) ?_
          refine And.intro (show (m l2 (-1)) = 7 by first | assumption | omega | (simp only [mS_iff]; omega) | (simp only [mS_iff] at *; omega)) ?_
          refine And.intro (fun h1 => ?_) (fun h1 => ?_)
          · refine And.intro (show (m l1 (-1)) = 7 by first | assumption | omega | (simp only [mS_iff]; omega) | (simp only [mS_iff] at *; omega)) ?_
            refine And.intro (show (m l1 2) ≠ -9 by first | omega | (simp only [mS_iff]; omega) | (simp only [mS_iff] at *; omega)) ?_
            refine And.intro (fun _ => ?_) (fun h => absurd h (by omega))
            refine And.intro (show (m l2 (-1)) = 7 by first | assumption | omega | (simp only [mS_iff]; omega) | (simp only [mS_iff] at *; omega)) ?_
            refine And.intro (show (m l2 2) ≠ -9 by first | omega | (simp only [mS_iff]; omega) | (simp only [mS_iff] at *; omega)) ?_
            refine And.intro (fun _ => ?_) (fun h => absurd h (by omega))
            refine And.intro (fun _ => ?_) (fun h => absurd h (by decide))
            refine And.intro (show -2147483648 ≤ 0 + 0 ∧ 0 + 0 ≤ 2147483647 by first | omega | (simp only [mS_iff]; omega) | (simp only [mS_iff] at *; omega)) ?_
            refine And.intro (show (m l1 (-1)) = 7 by first | assumption | omega | (simp only [mS_iff]; omega) | (simp only [mS_iff] at *; omega)) ?_
            refine And.intro (show (m l2 (-1)) = 7 by first | assumption | omega | (simp only [mS_iff]; omega) | (simp only [mS_iff] at *; omega)) ?_
            refine And.intro (show (m l1 1) ≠ -9 by first | omega | (simp only [mS_iff]; omega) | (simp only [mS_iff] at *; omega)) ?_
            refine And.intro (fun _ => ?_) (fun h => absurd h (by omega))
            refine And.intro (show (m (m l1 1) (-1)) = 8 by first | assumption | omega | (simp only [mS_iff]; omega) | (simp only [mS_iff] at *; omega)) ?_
            refine And.intro (show (m l2 1) ≠ -9 by first | omega | (simp only [mS_iff]; omega) | (simp only [mS_iff] at *; omega)) ?_
            refine And.intro (fun _ => ?_) (fun h => absurd h (by omega))
            refine And.intro (show (m (m l2 1) (-1)) = 8 by first | assumption | omega | (simp only [mS_iff]; omega) | (simp only [mS_iff] at *; omega)) ?_
            refine ct_62 (by omega) (fun v2 h3 h4 => ?_)
            refine And.intro (show -2147483648 ≤ 0 + v2 ∧ 0 + v2 ≤ 2147483647 by first | omega | (simp only [mS_iff]; omega) | (simp only [mS_iff] at *; omega)) ?_
            refine And.intro (show (m l1 1) ≠ -9 by first | omega | (simp only [mS_iff]; omega) | (simp only [mS_iff] at *; omega)) ?_
            refine And.intro (fun h => absurd h (by omega)) (fun _ => ?_)
            refine And.intro (show (m l2 1) ≠ -9 by first | omega | (simp only [mS_iff]; omega) | (simp only [mS_iff] at *; omega)) ?_
            refine And.intro (fun h => absurd h (by omega)) (fun _ => ?_)
            refine And.intro (show (m (m l1 1) (-1)) = 8 by first | assumption | omega | (simp only [mS_iff]; omega) | (simp only [mS_iff] at *; omega)) ?_
            refine And.intro (show (m (m l2 1) (-1)) = 8 by first | assumption | omega | (simp only [mS_iff]; omega) | (simp only [mS_iff] at *; omega)) ?_
            refine ct_62 (by omega) (fun v5 h6 h7 => ?_)
            refine And.intro (show (m (m l1 1) (-1)) = 8 by first | assumption | omega | (simp only [mS_iff]; omega) | (simp only [mS_iff] at *; omega)) ?_
            refine And.intro (show (m (m l2 1) (-1)) = 8 by first | assumption | omega | (simp only [mS_iff]; omega) | (simp only [mS_iff] at *; omega)) ?_
            refine ct_62 (by omega) (fun v8 h9 h10 => ?_)
            refine And.intro (show -2147483648 ≤ v5 + v8 ∧ v5 + v8 ≤ 2147483647 by first | omega | (simp only [mS_iff]; omega) | (simp only [mS_iff] at *; omega)) ?_
            refine And.intro (show -2147483648 ≤ (0 + v2) + (v5 + v8) ∧ (0 + v2) + (v5 + v8) ≤ 2147483647 by first | omega | (simp only [mS_iff]; omega) | (simp only [mS_iff] at *; omega)) ?_
            refine And.intro (show (m l1 (-1)) = 7 by first | assumption | omega | (simp only [mS_iff]; omega) | (simp only [mS_iff] at *; omega)) ?_
            refine And.intro (show (m l2 (-1)) = 7 by first | assumption | omega | (simp only [mS_iff]; omega) | (simp only [mS_iff] at *; omega)) ?_
            refine And.intro (show (m l1 2) ≠ -9 by first | omega | (simp only [mS_iff]; omega) | (simp only [mS_iff] at *; omega)) ?_
            refine And.intro (fun h => absurd h (by omega)) (fun _ => ?_)
            refine And.intro (show (m l2 2) ≠ -9 by first | omega | (simp only [mS_iff]; omega) | (simp only [mS_iff] at *; omega)) ?_
            refine And.intro (fun h => absurd h (by omega)) (fun _ => ?_)
            refine And.intro (show (m (m l1 2) (-1)) = 10 by first | assumption | omega | (simp only [mS_iff]; omega) | (simp only [mS_iff] at *; omega)) ?_
            refine And.intro (show (m (m l2 2) (-1)) = 10 by first | assumption | omega | (simp only [mS_iff]; omega) | (simp only [mS_iff] at *; omega)) ?_
            refine ct_62 (by omega) (fun v11 h12 h13 => ?_)
            refine And.intro (show (m (m l1 2) (-1)) = 10 by first | assumption | omega | (simp only [mS_iff]; omega) | (simp only [mS_iff] at *; omega)) ?_
            refine And.intro (show (m (m l2 2) (-1)) = 10 by first | assumption | omega | (simp only [mS_iff]; omega) | (simp only [mS_iff] at *; omega)) ?_
            refine ct_62 (by omega) (fun v14 h15 h16 => ?_)
            refine And.intro (show -2147483648 ≤ v11 + v14 ∧ v11 + v14 ≤ 2147483647 by first | omega | (simp only [mS_iff]; omega) | (simp only [mS_iff] at *; omega)) ?_
            refine And.intro (show (m (m l1 2) (-1)) = 10 by first | assumption | omega | (simp only [mS_iff]; omega) | (simp only [mS_iff] at *; omega)) ?_
            refine And.intro (show (m (m l2 2) (-1)) = 10 by first | assumption | omega | (simp only [mS_iff]; omega) | (simp only [mS_iff] at *; omega)) ?_
            refine ct_62 (by omega) (fun v17 h18 h19 => ?_)
            refine And.intro (show -2147483648 ≤ (v11 + v14) + v17 ∧ (v11 + v14) + v17 ≤ 2147483647 by first | omega | (simp only [mS_iff]; omega) | (simp only [mS_iff] at *; omega)) ?_
            refine And.intro (show (m (m l1 2) (-1)) = 10 by first | assumption | omega | (simp only [mS_iff]; omega) | (simp only [mS_iff] at *; omega)) ?_
            refine And.intro (show (m (m l2 2) (-1)) = 10 by first | assumption | omega | (simp only [mS_iff]; omega) | (simp only [mS_iff] at *; omega)) ?_
            refine ct_62 (by omega) (fun v20 h21 h22 => ?_)
            refine And.intro (show -2147483648 ≤ ((v11 + v14) + v17) + v20 ∧ ((v11 + v14) + v17) + v20 ≤ 2147483647 by first | omega | (simp only [mS_iff]; omega) | (simp only [mS_iff] at *; omega)) ?_
            refine And.intro (show (m l1 (-1)) = 7 by first | assumption | omega | (simp only [mS_iff]; omega) | (simp only [mS_iff] at *; omega)) ?_
            refine And.intro (show (m l2 (-1)) = 7 by first | assumption | omega | (simp only [mS_iff]; omega) | (simp only [mS_iff] at *; omega)) ?_
            refine ct_62 (by omega) (fun v23 h24 h25 => ?_)
            refine And.intro (show -2147483648 ≤ (((v11 + v14) + v17) + v20) + v23 ∧ (((v11 + v14) + v17) + v20) + v23 ≤ 2147483647 by first | omega | (simp only [mS_iff]; omega) | (simp only [mS_iff] at *; omega)) ?_
            refine And.intro (show (m l1 (-1)) = 7 by first | assumption | omega | (simp only [mS_iff]; omega) | (simp only [mS_iff] at *; omega)) ?_
            refine And.intro (show (m l2 (-1)) = 7 by first | assumption | omega | (simp only [mS_iff]; omega) | (simp only [mS_iff] at *; omega)) ?_
            refine ct_62 (by omega) (fun v26 h27 h28 => ?_)
            refine And.intro (show -2147483648 ≤ ((((v11 + v14) + v17) + v20) + v23) + v26 ∧ ((((v11 + v14) + v17) + v20) + v23) + v26 ≤ 2147483647 by first | omega | (simp only [mS_iff]; omega) | (simp only [mS_iff] at *; omega)) ?_
            refine And.intro (show -2147483648 ≤ ((0 + v2) + (v5 + v8)) + (((((v11 + v14) + v17) + v20) + v23) + v26) ∧ ((0 + v2) + (v5 + v8)) + (((((v11 + v14) + v17) + v20) + v23) + v26) ≤ 2147483647 by first | omega | (simp only [mS_iff]; omega) | (simp only [mS_iff] at *; omega)) ?_
            exact hQ _ (by simp only [h3, h6, h9, h12, h15, h18, h21, h24, h27, a4, b4, a7, a8, b7, b8, a54, a55, a56, b54, b55, b56, a64, a65, a66, a67, b64, b65, b66, b67, s_lp]; omega)
          · refine And.intro (show (m l1 (-1)) = 7 by first | assumption | omega | (simp only [mS_iff]; omega) | (simp only [mS_iff] at *; omega)) ?_
            refine And.intro (show (m l1 2) ≠ -9 by first | omega | (simp only [mS_iff]; omega) | (simp only [mS_iff] at *; omega)) ?_
            refine And.intro (fun _ => ?_) (fun h => absurd h (by omega))
            refine And.intro (show (m l2 (-1)) = 7 by first | assumption | omega | (simp only [mS_iff]; omega) | (simp only [mS_iff] at *; omega)) ?_
            refine And.intro (show (m l2 2) ≠ -9 by first | omega | (simp only [mS_iff]; omega) | (simp only [mS_iff] at *; omega)) ?_
            refine And.intro (fun _ => ?_) (fun h => absurd h (by omega))
            refine And.intro (fun _ => ?_) (fun h => absurd h (by decide))
            refine And.intro (show -2147483648 ≤ 1 + 0 ∧ 1 + 0 ≤ 2147483647 by first | omega | (simp only [mS_iff]; omega) | (simp only [mS_iff] at *; omega)) ?_
            refine And.intro (show (m l1 (-1)) = 7 by first | assumption | omega | (simp only [mS_iff]; omega) | (simp only [mS_iff] at *; omega)) ?_
            refine And.intro (show (m l2 (-1)) = 7 by first | assumption | omega | (simp only [mS_iff]; omega) | (simp only [mS_iff] at *; omega)) ?_
            refine And.intro (show (m l1 1) ≠ -9 by first | omega | (simp only [mS_iff]; omega) | (simp only [mS_iff] at *; omega)) ?_
            refine And.intro (fun _ => ?_) (fun h => absurd h (by omega))
            refine And.intro (show (m (m l1 1) (-1)) = 8 by first | assumption | omega | (simp only [mS_iff]; omega) | (simp only [mS_iff] at *; omega)) ?_
            refine And.intro (show (m l2 1) ≠ -9 by first | omega | (simp only [mS_iff]; omega) | (simp only [mS_iff] at *; omega)) ?_
            refine And.intro (fun _ => ?_) (fun h => absurd h (by omega))
            refine And.intro (show (m (m l2 1) (-1)) = 8 by first | assumption | omega | (simp only [mS_iff]; omega) | (simp only [mS_iff] at *; omega)) ?_
            refine ct_62 (by omega) (fun v29 h30 h31 => ?_)
            refine And.intro (show -2147483648 ≤ 1 + v29 ∧ 1 + v29 ≤ 2147483647 by first | omega | (simp only [mS_iff]; omega) | (simp only [mS_iff] at *; omega)) ?_
            refine And.intro (show (m l1 1) ≠ -9 by first | omega | (simp only [mS_iff]; omega) | (simp only [mS_iff] at *; omega)) ?_
            refine And.intro (fun h => absurd h (by omega)) (fun _ => ?_)
            refine And.intro (show (m l2 1) ≠ -9 by first | omega | (simp only [mS_iff]; omega) | (simp only [mS_iff] at *; omega)) ?_
            refine And.intro (fun h => absurd h (by omega)) (fun _ => ?_)
            refine And.intro (show (m (m l1 1) (-1)) = 8 by first | assumption | omega | (simp only [mS_iff]; omega) | (simp only [mS_iff] at *; omega)) ?_
            refine And.intro (show (m (m l2 1) (-1)) = 8 by first | assumption | omega | (simp only [mS_iff]; omega) | (simp only [mS_iff] at *; omega)) ?_
            refine ct_62 (by omega) (fun v32 h33 h34 => ?_)
            refine And.intro (show (m (m l1 1) (-1)) = 8 by first | assumption | omega | (simp only [mS_iff]; omega) | (simp only [mS_iff] at *; omega)) ?_
            refine And.intro (show (m (m l2 1) (-1)) = 8 by first | assumption | omega | (simp only [mS_iff]; omega) | (simp only [mS_iff] at *; omega)) ?_
            refine ct_62 (by omega) (fun v35 h36 h37 => ?_)
            refine And.intro (show -2147483648 ≤ v32 + v35 ∧ v32 + v35 ≤ 2147483647 by first | omega | (simp only [mS_iff]; omega) | (simp only [mS_iff] at *; omega)) ?_
            refine And.intro (show -2147483648 ≤ (1 + v29) + (v32 + v35) ∧ (1 + v29) + (v32 + v35) ≤ 2147483647 by first | omega | (simp only [mS_iff]; omega) | (simp only [mS_iff] at *; omega)) ?_
            refine And.intro (show (m l1 (-1)) = 7 by first | assumption | omega | (simp only [mS_iff]; omega) | (simp only [mS_iff] at *; omega)) ?_
            refine And.intro (show (m l2 (-1)) = 7 by first | assumption | omega | (simp only [mS_iff]; omega) | (simp only [mS_iff] at *; omega)) ?_
            refine And.intro (show (m l1 2) ≠ -9 by first | omega | (simp only [mS_iff]; omega) | (simp only [mS_iff] at *; omega)) ?_
            refine And.intro (fun h => absurd h (by omega)) (fun _ => ?_)
            refine And.intro (show (m l2 2) ≠ -9 by first | omega | (simp only [mS_iff]; omega) | (simp only [mS_iff] at *; omega)) ?_
            refine And.intro (fun h => absurd h (by omega)) (fun _ => ?_)
            refine And.intro (show (m (m l1 2) (-1)) = 10 by first | assumption | omega | (simp only [mS_iff]; omega) | (simp only [mS_iff] at *; omega)) ?_
            refine And.intro (show (m (m l2 2) (-1)) = 10 by first | assumption | omega | (simp only [mS_iff]; omega) | (simp only [mS_iff] at *; omega)) ?_
            refine ct_62 (by omega) (fun v38 h39 h40 => ?_)
            refine And.intro (show (m (m l1 2) (-1)) = 10 by first | assumption | omega | (simp only [mS_iff]; omega) | (simp only [mS_iff] at *; omega)) ?_
            refine And.intro (show (m (m l2 2) (-1)) = 10 by first | assumption | omega | (simp only [mS_iff]; omega) | (simp only [mS_iff] at *; omega)) ?_
            refine ct_62 (by omega) (fun v41 h42 h43 => ?_)
            refine And.intro (show -2147483648 ≤ v38 + v41 ∧ v38 + v41 ≤ 2147483647 by first | omega | (simp only [mS_iff]; omega) | (simp only [mS_iff] at *; omega)) ?_
            refine And.intro (show (m (m l1 2) (-1)) = 10 by first | assumption | omega | (simp only [mS_iff]; omega) | (simp only [mS_iff] at *; omega)) ?_
            refine And.intro (show (m (m l2 2) (-1)) = 10 by first | assumption | omega | (simp only [mS_iff]; omega) | (simp only [mS_iff] at *; omega)) ?_
            refine ct_62 (by omega) (fun v44 h45 h46 => ?_)
            refine And.intro (show -2147483648 ≤ (v38 + v41) + v44 ∧ (v38 + v41) + v44 ≤ 2147483647 by first | omega | (simp only [mS_iff]; omega) | (simp only [mS_iff] at *; omega)) ?_
            refine And.intro (show (m (m l1 2) (-1)) = 10 by first | assumption | omega | (simp only [mS_iff]; omega) | (simp only [mS_iff] at *; omega)) ?_
            refine And.intro (show (m (m l2 2) (-1)) = 10 by first | assumption | omega | (simp only [mS_iff]; omega) | (simp only [mS_iff] at *; omega)) ?_
            refine ct_62 (by omega) (fun v47 h48 h49 => ?_)
            refine And.intro (show -2147483648 ≤ ((v38 + v41) + v44) + v47 ∧ ((v38 + v41) + v44) + v47 ≤ 2147483647 by first | omega | (simp only [mS_iff]; omega) | (simp only [mS_iff] at *; omega)) ?_
            refine And.intro (show (m l1 (-1)) = 7 by first | assumption | omega | (simp only [mS_iff]; omega) | (simp only [mS_iff] at *; omega)) ?_
            refine And.intro (show (m l2 (-1)) = 7 by first | assumption | omega | (simp only [mS_iff]; omega) | (simp only [mS_iff] at *; omega)) ?_
            refine ct_62 (by omega) (fun v50 h51 h52 => ?_)
            refine And.intro (show -2147483648 ≤ (((v38 + v41) + v44) + v47) + v50 ∧ (((v38 + v41) + v44) + v47) + v50 ≤ 2147483647 by first | omega | (simp only [mS_iff]; omega) | (simp only [mS_iff] at *; omega)) ?_
            refine And.intro (show (m l1 (-1)) = 7 by first | assumption | omega | (simp only [mS_iff]; omega) | (simp only [mS_iff] at *; omega)) ?_
            refine And.intro (show (m l2 (-1)) = 7 by first | assumption | omega | (simp only [mS_iff]; omega) | (simp only [mS_iff] at *; omega)) ?_
            refine ct_62 (by omega) (fun v53 h54 h55 => ?_)
            refine And.intro (show -2147483648 ≤ ((((v38 + v41) + v44) + v47) + v50) + v53 ∧ ((((v38 + v41) + v44) + v47) + v50) + v53 ≤ 2147483647 by first | omega | (simp only [mS_iff]; omega) | (simp only [mS_iff] at *; omega)) ?_
            refine And.intro (show -2147483648 ≤ ((1 + v29) + (v32 + v35)) + (((((v38 + v41) + v44) + v47) + v50) + v53) ∧ ((1 + v29) + (v32 + v35)) + (((((v38 + v41) + v44) + v47) + v50) + v53) ≤ 2147483647 by first | omega | (simp only [mS_iff]; omega) | (simp only [mS_iff] at *; omega)) ?_
            exact hQ _ (by simp only [h30, h33, h36, h39, h42, h45, h48, h51, h54, a4, b4, a7, a8, b7, b8, a54, a55, a56, b54, b55, b56, a64, a65, a66, a67, b64, b65, b66, b67, s_lp]; omega)
theorem ct_61 {d : Nat} {m : aM} {Q : aO → aM → Prop} {r q lo hi lo2 hi2 : Int} {w v : Int → Int} (hd : 3 ≤ d) (hA : hArms m lo hi r w) (hB : hArms m lo2 hi2 q v) (hQ : ∀ x, x = s_pt w v → Q (.inl (some (aI x))) m) : am_wpc am_G am_T d 61 [aR r, aR q] m Q := by
  obtain ⟨a1, a2, a3, a4, a5, a6, a7, a8, a9⟩ := hA.basic
  obtain ⟨b1, b2, b3, b4, b5, b6, b7, b8, b9⟩ := hB.basic
  obtain ⟨c1, c2, c3, c4, c5, c6, c7, c8⟩ := hA.fld
  obtain ⟨d1, d2, d3, d4, d5, d6, d7, d8⟩ := hB.fld
  have u := s_df_b
  refine am_in rfl hd (fun d hd => ?_)
  have K89 : ∀ (N : Nat), ∀ (k : Int) (n : Int) (t : Int), (6 - k).toNat = N → (0 ≤ k ∧ k ≤ t ∧ t = (if w 5 ≤ v 5 then v 5 else w 5)) → (n = s_fp w v + s_sum (s_lt w v) k.toNat) → am_WP am_G (am_wpc am_G am_T d) [] cd_61 Q 89 [aR r, aR q, aR (m r 0), aR (m q 0), aI n, aI t, aI k] [] m := by
    intro N
    induction N using Nat.strongRecOn with
    | _ N ih =>
      intro k n t hN i0 i1
      have e1 := s_fp_b w v
      have e2 := s_sum_b (s_lt_b w v) k.toNat
      have e3 := s_lp_b w v (6 + 10 * k)
      have e4 := s_lt_eq w v k
      refine am_go 400 [89] (am_wpc_cm _ _ _) wf_61 ?_
      refine And.intro (fun h1 => ?_) (fun h1 => ?_)
      · exact hQ _ (by rw [i1]; unfold s_pt; rw [s_sum_z (f := s_lt w v) (a := k.toNat) (b := 6) (by omega) (fun j j1 j2 => by unfold s_lt; omega)])
      · refine And.intro (show (m r (-1)) = 4 by first | assumption | omega | (simp only [mS_iff]; omega) | (simp only [mS_iff] at *; omega)) ?_
        refine And.intro (by first | omega | (simp only [mS_iff]; omega) | (simp only [mS_iff] at *; omega)) ?_
        refine And.intro (fun h2 => ?_) (fun h2 => ?_)
        · refine And.intro (show -2147483648 ≤ n + 2 ∧ n + 2 ≤ 2147483647 by first | omega | (simp only [mS_iff]; omega) | (simp only [mS_iff] at *; omega)) ?_
          refine And.intro (show -2147483648 ≤ k + 1 ∧ k + 1 ≤ 2147483647 by first | omega | (simp only [mS_iff]; omega) | (simp only [mS_iff] at *; omega)) ?_
          refine ih _ ?_ _ _ _ (Eq.refl _) ?_ ?_
          · omega
          · first | omega | (simp only [mS_iff]; omega) | (simp only [mS_iff] at *; omega)
          · rw [s_sum_s (by omega)]; omega
        · refine And.intro (show (m q (-1)) = 4 by first | assumption | omega | (simp only [mS_iff]; omega) | (simp only [mS_iff] at *; omega)) ?_
          refine And.intro (by first | omega | (simp only [mS_iff]; omega) | (simp only [mS_iff] at *; omega)) ?_
          refine And.intro (fun h3 => ?_) (fun h3 => ?_)
          · refine And.intro (show -2147483648 ≤ n + 2 ∧ n + 2 ≤ 2147483647 by first | omega | (simp only [mS_iff]; omega) | (simp only [mS_iff] at *; omega)) ?_
            refine And.intro (show -2147483648 ≤ k + 1 ∧ k + 1 ≤ 2147483647 by first | omega | (simp only [mS_iff]; omega) | (simp only [mS_iff] at *; omega)) ?_
            refine ih _ ?_ _ _ _ (Eq.refl _) ?_ ?_
            · omega
            · first | omega | (simp only [mS_iff]; omega) | (simp only [mS_iff] at *; omega)
            · rw [s_sum_s (by omega)]; omega
          · refine And.intro (show (m r (-1)) = 4 by first | assumption | omega | (simp only [mS_iff]; omega) | (simp only [mS_iff] at *; omega)) ?_
            refine And.intro (⟨by first | assumption | omega | (simp only [mS_iff]; omega), by first | omega | (simp only [mS_iff]; omega) | (simp only [mS_iff] at *; omega)⟩) ?_
            refine And.intro (show (m q (-1)) = 4 by first | assumption | omega | (simp only [mS_iff]; omega) | (simp only [mS_iff] at *; omega)) ?_
            refine And.intro (⟨by first | assumption | omega | (simp only [mS_iff]; omega), by first | omega | (simp only [mS_iff]; omega) | (simp only [mS_iff] at *; omega)⟩) ?_
            refine ct_63 (by omega) ⟨by omega, by omega⟩ (hA.lay (by omega) (by omega)) (hB.lay (by omega) (by omega)) (fun v4 h5 => ?_)
            refine And.intro (show -2147483648 ≤ n + v4 ∧ n + v4 ≤ 2147483647 by first | omega | (simp only [mS_iff]; omega) | (simp only [mS_iff] at *; omega)) ?_
            refine And.intro (show -2147483648 ≤ k + 1 ∧ k + 1 ≤ 2147483647 by first | omega | (simp only [mS_iff]; omega) | (simp only [mS_iff] at *; omega)) ?_
            refine ih _ ?_ _ _ _ (Eq.refl _) ?_ ?_
            · omega
            · first | omega | (simp only [mS_iff]; omega) | (simp only [mS_iff] at *; omega)
            · rw [s_sum_s (by omega)]; omega
  refine am_go 400 [89] (am_wpc_cm _ _ _) wf_61 ?_
  refine And.intro (show (m r (-1)) = 4 by first | assumption | omega | (simp only [mS_iff]; omega) | (simp only [mS_iff] at *; omega)) ?_
  refine And.intro (show (m q (-1)) = 4 by first | assumption | omega | (simp only [mS_iff]; omega) | (simp only [mS_iff] at *; omega)) ?_
  refine And.intro (show (m (m r 0) (-1)) = 5 by first | assumption | omega | (simp only [mS_iff]; omega) | (simp only [mS_iff] at *; omega)) ?_
  refine And.intro (show (m (m q 0) (-1)) = 5 by first | assumption | omega | (simp only [mS_iff]; omega) | (simp only [mS_iff] at *; omega)) ?_
  refine ct_62 (by omega) (fun v6 h7 h8 => ?_)
  refine And.intro (show (m (m r 0) (-1)) = 5 by first | assumption | omega | (simp only [mS_iff]; omega) | (simp only [mS_iff] at *; omega)) ?_
  refine And.intro (show (m (m q 0) (-1)) = 5 by first | assumption | omega | (simp only [mS_iff]; omega) | (simp only [mS_iff] at *; omega)) ?_
  refine ct_62 (by omega) (fun v9 h10 h11 => ?_)
  refine And.intro (show -2147483648 ≤ v6 + v9 ∧ v6 + v9 ≤ 2147483647 by first | omega | (simp only [mS_iff]; omega) | (simp only [mS_iff] at *; omega)) ?_
  refine And.intro (show (m (m r 0) (-1)) = 5 by first | assumption | omega | (simp only [mS_iff]; omega) | (simp only [mS_iff] at *; omega)) ?_
  refine And.intro (show (m (m q 0) (-1)) = 5 by first | assumption | omega | (simp only [mS_iff]; omega) | (simp only [mS_iff] at *; omega)) ?_
  refine ct_62 (by omega) (fun v12 h13 h14 => ?_)
  refine And.intro (show -2147483648 ≤ (v6 + v9) + v12 ∧ (v6 + v9) + v12 ≤ 2147483647 by first | omega | (simp only [mS_iff]; omega) | (simp only [mS_iff] at *; omega)) ?_
  refine And.intro (show (m (m r 0) (-1)) = 5 by first | assumption | omega | (simp only [mS_iff]; omega) | (simp only [mS_iff] at *; omega)) ?_
  refine And.intro (show (m (m q 0) (-1)) = 5 by first | assumption | omega | (simp only [mS_iff]; omega) | (simp only [mS_iff] at *; omega)) ?_
  refine ct_62 (by omega) (fun v15 h16 h17 => ?_)
  refine And.intro (show -2147483648 ≤ ((v6 + v9) + v12) + v15 ∧ ((v6 + v9) + v12) + v15 ≤ 2147483647 by first | omega | (simp only [mS_iff]; omega) | (simp only [mS_iff] at *; omega)) ?_
  refine And.intro (show (m (m r 0) (-1)) = 5 by first | assumption | omega | (simp only [mS_iff]; omega) | (simp only [mS_iff] at *; omega)) ?_
  refine And.intro (show (m (m q 0) (-1)) = 5 by first | assumption | omega | (simp only [mS_iff]; omega) | (simp only [mS_iff] at *; omega)) ?_
  refine ct_62 (by omega) (fun v18 h19 h20 => ?_)
  refine And.intro (show -2147483648 ≤ (((v6 + v9) + v12) + v15) + v18 ∧ (((v6 + v9) + v12) + v15) + v18 ≤ 2147483647 by first | omega | (simp only [mS_iff]; omega) | (simp only [mS_iff] at *; omega)) ?_
  refine And.intro (show (m r (-1)) = 4 by first | assumption | omega | (simp only [mS_iff]; omega) | (simp only [mS_iff] at *; omega)) ?_
  refine And.intro (by first | omega | (simp only [mS_iff]; omega) | (simp only [mS_iff] at *; omega)) ?_
  refine And.intro (show (m q (-1)) = 4 by first | assumption | omega | (simp only [mS_iff]; omega) | (simp only [mS_iff] at *; omega)) ?_
  refine And.intro (by first | omega | (simp only [mS_iff]; omega) | (simp only [mS_iff] at *; omega)) ?_
  refine ct_27 (by omega) (fun v21 h22 => ?_)
  refine K89 _ _ _ _ (Eq.refl _) ?_ ?_
  · first | omega | (simp only [mS_iff]; omega) | (simp only [mS_iff] at *; omega)
  · simp only [s_sum, Int.toNat_zero, s_fp]; simp only [*]; omega
