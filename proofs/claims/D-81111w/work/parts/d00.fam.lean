/-! needs: c20 -/
/-! THE FAMILY, plain: the row of a place, the clean ones, the first of what fits -/
set_option maxRecDepth 100000
set_option maxHeartbeats 4000000
/-- the first from 0 on below N that fits; -1 -/
noncomputable def s_fst (P : Int → Prop) (N : Int) : Int := @dite Int (∃ e, (0 ≤ e ∧ e < N) ∧ P e ∧ ∀ x, 0 ≤ x → x < e → ¬ P x) (Classical.propDecidable _) (fun h => Classical.choose h) (fun _ => -1)
theorem s_fst_i {P : Int → Prop} {N e : Int} (h : 0 ≤ e ∧ e < N) (p : P e) (n : ∀ x, 0 ≤ x → x < e → ¬ P x) : s_fst P N = e := by
  have hh : ∃ e, (0 ≤ e ∧ e < N) ∧ P e ∧ ∀ x, 0 ≤ x → x < e → ¬ P x := ⟨e, h, p, n⟩
  unfold s_fst
  rw [dif_pos hh]
  obtain ⟨a, b, c⟩ := Classical.choose_spec hh
  generalize Classical.choose hh = z at a b c
  rcases Int.lt_trichotomy z e with q | q | q
  · exact absurd b (n z a.1 q)
  · exact q
  · exact absurd p (c e h.1 q)
theorem s_fst_n {P : Int → Prop} {N : Int} (n : ∀ x, 0 ≤ x → x < N → ¬ P x) : s_fst P N = -1 := by
  unfold s_fst
  rw [dif_neg]
  intro ⟨e, a, b, c⟩
  exact n e a.1 a.2 b
theorem s_fst_b (P : Int → Prop) (N : Int) : -1 ≤ s_fst P N ∧ (s_fst P N < N ∨ s_fst P N = -1) := by
  unfold s_fst
  by_cases h : ∃ e, (0 ≤ e ∧ e < N) ∧ P e ∧ ∀ x, 0 ≤ x → x < e → ¬ P x
  · rw [dif_pos h]
    obtain ⟨a, b, c⟩ := Classical.choose_spec h
    omega
  · rw [dif_neg h]; omega
theorem s_fst_p {P : Int → Prop} {N : Int} (h : s_fst P N ≠ -1) : (0 ≤ s_fst P N ∧ s_fst P N < N) ∧ P (s_fst P N) := by
  unfold s_fst at h ⊢
  by_cases g : ∃ e, (0 ≤ e ∧ e < N) ∧ P e ∧ ∀ x, 0 ≤ x → x < e → ¬ P x
  · rw [dif_pos g]
    obtain ⟨a, b, c⟩ := Classical.choose_spec g
    exact ⟨a, b⟩
  · rw [dif_neg g] at h; exact absurd rfl h
/-- the row of a place of the family -/
def fw (i : Int) : Int → Int := fun k =>
  if k = 0 then (if i / 73 < 9 then 0 else 1 + (i / 73 - 9) / 72)
  else if k = 3 then (if i / 73 < 9 then i / 73 else (i / 73 - 9) % 72 / 8)
  else if k = 4 then (if i / 73 < 9 then -1 else if (i / 73 - 9) % 72 % 8 < (i / 73 - 9) % 72 / 8 then (i / 73 - 9) % 72 % 8 else (i / 73 - 9) % 72 % 8 + 1)
  else if k < 5 then 0
  else if k = 5 then (if i % 73 = 0 then 0 else 1)
  else if k = 7 then (if i % 73 = 0 then -1 else (i % 73 - 1) / 9)
  else if k = 9 then (if i % 73 = 0 then -1 else (i % 73 - 1) % 9)
  else l_no ((k - 6) % 10)
theorem fw_0 (i : Int) : fw i 0 = (if i / 73 < 9 then 0 else 1 + (i / 73 - 9) / 72) := rfl
theorem fw_1 (i : Int) : fw i 1 = 0 := rfl
theorem fw_2 (i : Int) : fw i 2 = 0 := rfl
theorem fw_3 (i : Int) : fw i 3 = (if i / 73 < 9 then i / 73 else (i / 73 - 9) % 72 / 8) := rfl
theorem fw_4 (i : Int) : fw i 4 = (if i / 73 < 9 then -1 else if (i / 73 - 9) % 72 % 8 < (i / 73 - 9) % 72 / 8 then (i / 73 - 9) % 72 % 8 else (i / 73 - 9) % 72 % 8 + 1) := rfl
theorem fw_5 (i : Int) : fw i 5 = (if i % 73 = 0 then 0 else 1) := rfl
theorem fw_7 (i : Int) : fw i 7 = (if i % 73 = 0 then -1 else (i % 73 - 1) / 9) := rfl
theorem fw_9 (i : Int) : fw i 9 = (if i % 73 = 0 then -1 else (i % 73 - 1) % 9) := rfl
theorem fw_l {i k : Int} (h : 6 ≤ k) (h7 : k ≠ 7) (h9 : k ≠ 9) : fw i k = l_no ((k - 6) % 10) := by
  unfold fw
  rw [if_neg (by omega), if_neg (by omega), if_neg (by omega), if_neg (by omega), if_neg (by omega), if_neg h7, if_neg h9]
theorem fw_ok {i : Int} (h : 0 ≤ i ∧ i < 21681) : okRow (fw i) := by
  have e0 := fw_0 i
  have e1 := fw_1 i
  have e2 := fw_2 i
  have e3 := fw_3 i
  have e4 := fw_4 i
  have e5 := fw_5 i
  have L : ∀ l j, 0 ≤ l → 0 ≤ j → j ≤ 9 → (l ≠ 0 ∨ (j ≠ 1 ∧ j ≠ 3)) → fw i (6 + 10 * l + j) = l_no j := fun l j a b c e => by
    rw [fw_l (by omega) (by omega) (by omega), show (6 + 10 * l + j - 6) % 10 = j by omega]
  have L0 : ∀ l, 0 ≤ l → fw i (6 + 10 * l) = 0 := fun l a => by
    have := L l 0 a (by omega) (by omega) (by omega)
    rw [Int.add_zero] at this
    exact this
  refine ⟨by rw [e0]; split <;> omega, by omega, by omega, by rw [e3]; split <;> omega, ?_, fun _ => e2, by rw [e5]; split <;> omega, fun l a b => ?_, fun l a b => ?_⟩
  · rw [e0, e4, e1, e2]
    split
    · omega
    · split <;> omega
  · have hl : l = 0 ∧ i % 73 ≠ 0 := by rw [e5] at b; split at b <;> omega
    obtain ⟨rfl, hr⟩ := hl
    have f7 : fw i (6 + 10 * 0 + 1) = (i % 73 - 1) / 9 := by show fw i 7 = _; rw [fw_7, if_neg hr]
    have f9 : fw i (6 + 10 * 0 + 3) = (i % 73 - 1) % 9 := by show fw i 9 = _; rw [fw_9, if_neg hr]
    have g2 := L 0 2 (by omega) (by omega) (by omega) (by omega)
    have g4 := L 0 4 (by omega) (by omega) (by omega) (by omega)
    have g5 := L 0 5 (by omega) (by omega) (by omega) (by omega)
    have g6 := L 0 6 (by omega) (by omega) (by omega) (by omega)
    have g7 := L 0 7 (by omega) (by omega) (by omega) (by omega)
    have g8 := L 0 8 (by omega) (by omega) (by omega) (by omega)
    have g9 := L 0 9 (by omega) (by omega) (by omega) (by omega)
    unfold okLay okOrd noGrp
    rw [L0 0 (by omega), f7, f9, g2, g4, g5, g6, g7, g8, g9]
    simp only [l_no]
    refine ⟨by first | simp; done | omega, Or.inl ⟨by omega, by omega, by simp, by simp, by omega, by omega⟩, Or.inr (by simp), ?_, by simp⟩
    rw [if_neg (by omega)]
    omega
  · have z : ∀ j, 0 ≤ j → j ≤ 9 → fw i (6 + 10 * l + j) = l_no j := fun j u v => by
      by_cases k : l = 0
      · subst k
        have hr : i % 73 = 0 := by rw [e5] at a; split at a <;> omega
        by_cases k1 : j = 1
        · subst k1; show fw i 7 = _; rw [fw_7, if_pos hr]; rfl
        · by_cases k3 : j = 3
          · subst k3; show fw i 9 = _; rw [fw_9, if_pos hr]; rfl
          · exact L 0 j (by omega) u v (by omega)
      · exact L l j (by rw [e5] at a; split at a <;> omega) u v (by omega)
    have l0 : 0 ≤ l := by rw [e5] at a; split at a <;> omega
    unfold noLay noOrd noGrp
    rw [L0 l l0, z 1 (by omega) (by omega), z 2 (by omega) (by omega), z 3 (by omega) (by omega), z 4 (by omega) (by omega), z 5 (by omega) (by omega), z 6 (by omega) (by omega), z 7 (by omega) (by omega), z 8 (by omega) (by omega), z 9 (by omega) (by omega)]
    simp [l_no]
/-- clean ones: how many below k, which -/
def gn : Nat → Int
  | 0 => 0
  | k + 1 => if s_bt (fw k) = 0 then gn k + 1 else gn k
def gl : Nat → Int → Int
  | 0 => fun _ => 0
  | k + 1 => if s_bt (fw k) = 0 then (fun r => if r = gn k then k else gl k r) else gl k
theorem gn_y {k : Nat} (h : s_bt (fw k) = 0) : gn (k + 1) = gn k + 1 := by show (if s_bt (fw k) = 0 then gn k + 1 else gn k) = _; rw [if_pos h]
theorem gn_n {k : Nat} (h : s_bt (fw k) ≠ 0) : gn (k + 1) = gn k := by show (if s_bt (fw k) = 0 then gn k + 1 else gn k) = _; rw [if_neg h]
theorem gl_y {k : Nat} (h : s_bt (fw k) = 0) : gl (k + 1) = fun r => if r = gn k then (k : Int) else gl k r := by show (if s_bt (fw k) = 0 then (fun r => if r = gn k then (k : Int) else gl k r) else gl k) = _; rw [if_pos h]
theorem gl_n {k : Nat} (h : s_bt (fw k) ≠ 0) : gl (k + 1) = gl k := by show (if s_bt (fw k) = 0 then (fun r => if r = gn k then (k : Int) else gl k r) else gl k) = _; rw [if_neg h]
theorem gn_b : ∀ k : Nat, 0 ≤ gn k ∧ gn k ≤ k
  | 0 => ⟨Int.le_refl _, Int.le_refl _⟩
  | k + 1 => by
    have := gn_b k
    by_cases h : s_bt (fw k) = 0
    · rw [gn_y h]; omega
    · rw [gn_n h]; omega
theorem gn_mo {j : Nat} : ∀ {k : Nat}, j ≤ k → gn j ≤ gn k
  | 0, h => by rw [show j = 0 by omega]; exact Int.le_refl _
  | k + 1, h => by
    by_cases q : j = k + 1
    · rw [q]; exact Int.le_refl _
    · have := gn_mo (j := j) (k := k) (by omega)
      by_cases h : s_bt (fw k) = 0
      · rw [gn_y h]; omega
      · rw [gn_n h]; omega
/-- each rank's place, its clean row, its rank again -/
theorem gl_p : ∀ (k : Nat) (r : Int), 0 ≤ r → r < gn k → ∃ i : Nat, i < k ∧ gl k r = i ∧ s_bt (fw i) = 0 ∧ gn i = r
  | 0, r, a, b => by have : gn 0 = 0 := rfl; omega
  | k + 1, r, a, b => by
    by_cases h : s_bt (fw k) = 0
    · rw [gn_y h] at b
      rw [gl_y h]
      by_cases q : r = gn k
      · exact ⟨k, by omega, by dsimp only; rw [if_pos q], h, q.symm⟩
      · obtain ⟨i, i1, i2, i3, i4⟩ := gl_p k r a (by omega)
        exact ⟨i, by omega, by dsimp only; rw [if_neg q]; exact i2, i3, i4⟩
    · rw [gn_n h] at b
      rw [gl_n h]
      obtain ⟨i, i1, i2, i3, i4⟩ := gl_p k r a b
      exact ⟨i, by omega, i2, i3, i4⟩
theorem gl_r {i : Nat} (h : s_bt (fw i) = 0) : ∀ {k : Nat}, i < k → gl k (gn i) = i
  | 0, a => by omega
  | k + 1, a => by
    by_cases q : i = k
    · subst q; rw [gl_y h]; dsimp only; rw [if_pos rfl]
    · have := gl_r h (k := k) (by omega)
      by_cases g : s_bt (fw k) = 0
      · rw [gl_y g]
        have m1 := gn_mo (j := i + 1) (k := k) (by omega)
        rw [gn_y h] at m1
        dsimp only; rw [if_neg (by omega)]; exact this
      · rw [gl_n g]; exact this
/-- kept shut, so that nothing works them out -/
noncomputable def fX : {p : Int × (Int → Int) // p = (gn 21681, gl 21681)} := Classical.choice ⟨⟨_, rfl⟩⟩
noncomputable def fN : Int := fX.1.1
noncomputable def fG : Int → Int := fX.1.2
theorem fN_eq : fN = gn 21681 := by unfold fN; rw [fX.2]
theorem fG_eq : fG = gl 21681 := by unfold fG; rw [fX.2]
theorem fN_b : 0 ≤ fN ∧ fN ≤ 21681 := by rw [fN_eq]; exact gn_b 21681
theorem fG_p {r : Int} (a : 0 ≤ r) (b : r < fN) : (0 ≤ fG r ∧ fG r < 21681) ∧ s_bt (fw (fG r)) = 0 ∧ gn (fG r).toNat = r := by
  rw [fN_eq] at b
  obtain ⟨i, i1, i2, i3, i4⟩ := gl_p 21681 r a b
  have e : fG r = i := by rw [fG_eq]; exact i2
  rw [e]
  exact ⟨by omega, i3, by rw [show (i : Int).toNat = i by omega]; exact i4⟩
theorem fG_mo (a b : Int) (ha : 0 ≤ a) (hab : a < b) (hb : b < fN) : fG a < fG b := by
  obtain ⟨p1, p2, p3⟩ := fG_p ha (by omega)
  obtain ⟨q1, q2, q3⟩ := fG_p (r := b) (by omega) hb
  rcases Int.lt_or_le (fG a) (fG b) with q | q
  · exact q
  · have := gn_mo (j := (fG b).toNat) (k := (fG a).toNat) (by omega)
    omega
theorem fG_r {i : Int} (h : 0 ≤ i ∧ i < 21681) (e : s_bt (fw i) = 0) : (0 ≤ gn i.toNat ∧ gn i.toNat < fN) ∧ fG (gn i.toNat) = i := by
  have e' : s_bt (fw (i.toNat : Nat)) = 0 := by rw [show ((i.toNat : Nat) : Int) = i by omega]; exact e
  have := gn_b i.toNat
  have m := gn_mo (j := i.toNat + 1) (k := 21681) (by omega)
  rw [gn_y e'] at m
  have r := gl_r e' (k := 21681) (by omega)
  refine ⟨⟨by omega, by rw [fN_eq]; omega⟩, ?_⟩
  rw [fG_eq, r]; omega
/-- the rank of a place -/
def fK (i : Int) : Int := if s_bt (fw i) = 0 then gn i.toNat else -1
/-- whether a clause tells a whole other than 0 -/
def t_y (f : aD) (w : Int → Int) : Prop := ∃ v, f w = .inr (0, v) ∧ v ≠ 0
theorem t_y1 {f : aD} {w : Int → Int} {v : Int} (h : f w = .inr (0, v)) (n : v ≠ 0) : t_y f w := ⟨v, h, n⟩
theorem t_y0 {f : aD} {w : Int → Int} {v : Int} (h : f w = .inr (0, v)) (n : v = 0) : ¬ t_y f w := fun ⟨x, e, k⟩ => by rw [h] at e; injection e with e; injection e with e1 e2; omega
theorem t_yc {f : aD} {w : Int → Int} {s v : Int} (h : f w = .inr (s, v)) (n : s ≠ 0) : ¬ t_y f w := fun ⟨x, e, k⟩ => by rw [h] at e; injection e with e; injection e with e1 e2; omega
theorem t_ye {f : aD} {w : Int → Int} {c q : Int} (h : f w = .inl (c, q)) : ¬ t_y f w := fun ⟨x, e, k⟩ => by rw [h] at e; injection e
