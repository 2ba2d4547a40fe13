/-! needs: b00 -/
/-! CLAUSES, plain: what a text of a clause means, or its fault. Modes: 0 either, 1 its loop, 2 both, 3 its loop, 4 no, 5 added, 6 its loop, 7 multiplied, 8 its loop, 9 unary -/
abbrev xC : Type := (Int × Int) ⊕ (Int × Int × aD)
def c_bd (r : xC) (g : Int → Int → aD → xC) : xC := match r with
  | .inl e => .inl e
  | .inr (q, k, f) => g q k f
theorem c_bd_l {r : xC} {g : Int → Int → aD → xC} {e : Int × Int} (h : r = .inl e) : c_bd r g = .inl e := by rw [h]; rfl
theorem c_bd_r {r : xC} {g : Int → Int → aD → xC} {q k : Int} {f : aD} (h : r = .inr (q, k, f)) : c_bd r g = g q k f := by rw [h]; rfl
/-- what may begin -/
def c_beg (s : Int) : Prop := s = 51 ∨ s = 145 ∨ s = 70 ∨ s = 140 ∨ (52 ≤ s ∧ s ≤ 65)
theorem c_beg_d (s : Int) : c_beg s ∨ ¬ c_beg s := Classical.em _
/-- whether one may begin at q, within dep others -/
noncomputable def c_may (K A : Int → Int) (u dep q : Int) (r : xC) : xC := @ite _ (c_beg (K q) ∧ (u = 1 → K q ≠ 51)) (Classical.propDecidable _) (if 15 ≤ dep then .inl (5, A q) else r) (.inl (x_wr (K q), A q))
/-- one part more, at q -/
def c_pt (A : Int → Int) (q k : Int) (r : xC) : xC := if 24 ≤ k then .inl (5, A q) else r
def c_wt (K A : Int → Int) (s q : Int) (r : xC) : xC := if K q = s then r else .inl (x_wr (K q), A q)
theorem c_may_w {K A : Int → Int} {u dep q : Int} {r : xC} (h : ¬ (c_beg (K q) ∧ (u = 1 → K q ≠ 51))) : c_may K A u dep q r = .inl (x_wr (K q), A q) := if_neg h
theorem c_may_d {K A : Int → Int} {u dep q : Int} {r : xC} (h : c_beg (K q) ∧ (u = 1 → K q ≠ 51)) (g : 15 ≤ dep) : c_may K A u dep q r = .inl (5, A q) := (if_pos h).trans (if_pos g)
theorem c_may_y {K A : Int → Int} {u dep q : Int} {r : xC} (h : c_beg (K q) ∧ (u = 1 → K q ≠ 51)) (g : ¬ 15 ≤ dep) : c_may K A u dep q r = r := (if_pos h).trans (if_neg g)
theorem c_pt_n {A : Int → Int} {q k : Int} {r : xC} (h : 24 ≤ k) : c_pt A q k r = .inl (5, A q) := if_pos h
theorem c_pt_y {A : Int → Int} {q k : Int} {r : xC} (h : ¬ 24 ≤ k) : c_pt A q k r = r := if_neg h
theorem c_wt_y {K A : Int → Int} {s q : Int} {r : xC} (h : K q = s) : c_wt K A s q r = r := if_pos h
theorem c_wt_n {K A : Int → Int} {s q : Int} {r : xC} (h : ¬ K q = s) : c_wt K A s q r = .inl (x_wr (K q), A q) := if_neg h
/-- one step: X tells what is below -/
noncomputable def c_st (K A V : Int → Int) (X : Int → Int → Int → Int → aD → xC) (j dep q k : Int) (f : aD) : xC :=
  if j = 0 then c_may K A 0 dep q (c_bd (X 2 dep q k f) (fun q k g => X 1 dep q k g))
  else if j = 1 then (if K q = 0 then c_pt A q k (c_bd (X 2 dep (q + 1) (k + 1) f) (fun q1 k1 g => X 1 dep q1 k1 (d_two (A q) 0 f g))) else .inr (q, k, f))
  else if j = 2 then c_bd (X 4 (dep + 1) q k f) (fun q k g => X 3 dep q k g)
  else if j = 3 then (if K q = 34 then c_pt A q k (c_bd (X 4 (dep + 1) (q + 1) (k + 1) f) (fun q1 k1 g => X 3 dep q1 k1 (d_two (A q) 34 f g))) else .inr (q, k, f))
  else if j = 4 then c_may K A 0 dep q (if K q = 51 then c_pt A q k (c_bd (X 4 (dep + 1) (q + 1) (k + 1) f) (fun q1 k1 g => .inr (q1, k1, d_one (A q) 51 g))) else c_bd (X 5 dep q k f) (fun q1 k1 g => if K q1 = 160 ∨ K q1 = 161 then c_pt A q1 k1 (c_bd (X 5 dep (q1 + 1) (k1 + 1) f) (fun q2 k2 h => .inr (q2, k2, d_two (A q1) (K q1) g h))) else .inr (q1, k1, g)))
  else if j = 5 then c_bd (X 7 dep q k f) (fun q k g => X 6 dep q k g)
  else if j = 6 then (if K q = 143 ∨ K q = 145 then c_pt A q k (c_bd (X 7 dep (q + 1) (k + 1) f) (fun q1 k1 g => X 6 dep q1 k1 (d_two (A q) (K q) f g))) else .inr (q, k, f))
  else if j = 7 then c_bd (X 9 (dep + 1) q k f) (fun q k g => X 8 dep q k g)
  else if j = 8 then (if K q = 142 ∨ K q = 147 then c_pt A q k (c_bd (X 9 (dep + 1) (q + 1) (k + 1) f) (fun q1 k1 g => X 8 dep q1 k1 (d_two (A q) (K q) f g))) else .inr (q, k, f))
  else c_may K A 1 dep q (if K q = 140 then c_bd (X 0 (dep + 1) (q + 1) k f) (fun q1 k1 g => c_wt K A 141 q1 (.inr (q1 + 1, k1, g)))
    else c_pt A q k (if K q = 70 then .inr (q + 1, k + 1, d_num (V q))
      else if 52 ≤ K q ∧ K q ≤ 54 then .inr (q + 1, k + 1, d_pl (K q))
      else if K q = 145 then c_bd (X 9 (dep + 1) (q + 1) (k + 1) f) (fun q1 k1 g => .inr (q1, k1, d_one (A q) 145 g))
      else if K q = 65 then c_bd (X 9 (dep + 1) (q + 1) (k + 1) f) (fun q1 k1 g => c_wt K A 66 q1 (c_bd (X 9 (dep + 1) (q1 + 1) k1 f) (fun q2 k2 h => .inr (q2, k2, d_try g h))))
      else c_wt K A 140 (q + 1) (c_bd (X 0 (dep + 1) (q + 1 + 1) (k + 1) f) (fun q1 k1 g => c_wt K A 141 q1 (.inr (q1 + 1, k1, d_one (A q) (K q) g))))))
/-- n steps at the most -/
noncomputable def c_x (K A V : Int → Int) : Nat → Int → Int → Int → Int → aD → xC
  | 0, _, _, q, _, _ => .inl (2, A q)
  | n + 1, j, dep, q, k, f => c_st K A V (c_x K A V n) j dep q k f
theorem c_x_0 {K A V : Int → Int} {n : Nat} {dep q k : Int} {f : aD} : c_x K A V (n + 1) 0 dep q k f = c_may K A 0 dep q (c_bd (c_x K A V n 2 dep q k f) (fun q k g => c_x K A V n 1 dep q k g)) := rfl
theorem c_x_1 {K A V : Int → Int} {n : Nat} {dep q k : Int} {f : aD} : c_x K A V (n + 1) 1 dep q k f = (if K q = 0 then c_pt A q k (c_bd (c_x K A V n 2 dep (q + 1) (k + 1) f) (fun q1 k1 g => c_x K A V n 1 dep q1 k1 (d_two (A q) 0 f g))) else .inr (q, k, f)) := rfl
theorem c_x_2 {K A V : Int → Int} {n : Nat} {dep q k : Int} {f : aD} : c_x K A V (n + 1) 2 dep q k f = c_bd (c_x K A V n 4 (dep + 1) q k f) (fun q k g => c_x K A V n 3 dep q k g) := rfl
theorem c_x_3 {K A V : Int → Int} {n : Nat} {dep q k : Int} {f : aD} : c_x K A V (n + 1) 3 dep q k f = (if K q = 34 then c_pt A q k (c_bd (c_x K A V n 4 (dep + 1) (q + 1) (k + 1) f) (fun q1 k1 g => c_x K A V n 3 dep q1 k1 (d_two (A q) 34 f g))) else .inr (q, k, f)) := rfl
theorem c_x_4 {K A V : Int → Int} {n : Nat} {dep q k : Int} {f : aD} : c_x K A V (n + 1) 4 dep q k f = c_may K A 0 dep q (if K q = 51 then c_pt A q k (c_bd (c_x K A V n 4 (dep + 1) (q + 1) (k + 1) f) (fun q1 k1 g => .inr (q1, k1, d_one (A q) 51 g))) else c_bd (c_x K A V n 5 dep q k f) (fun q1 k1 g => if K q1 = 160 ∨ K q1 = 161 then c_pt A q1 k1 (c_bd (c_x K A V n 5 dep (q1 + 1) (k1 + 1) f) (fun q2 k2 h => .inr (q2, k2, d_two (A q1) (K q1) g h))) else .inr (q1, k1, g))) := rfl
theorem c_x_5 {K A V : Int → Int} {n : Nat} {dep q k : Int} {f : aD} : c_x K A V (n + 1) 5 dep q k f = c_bd (c_x K A V n 7 dep q k f) (fun q k g => c_x K A V n 6 dep q k g) := rfl
theorem c_x_6 {K A V : Int → Int} {n : Nat} {dep q k : Int} {f : aD} : c_x K A V (n + 1) 6 dep q k f = (if K q = 143 ∨ K q = 145 then c_pt A q k (c_bd (c_x K A V n 7 dep (q + 1) (k + 1) f) (fun q1 k1 g => c_x K A V n 6 dep q1 k1 (d_two (A q) (K q) f g))) else .inr (q, k, f)) := rfl
theorem c_x_7 {K A V : Int → Int} {n : Nat} {dep q k : Int} {f : aD} : c_x K A V (n + 1) 7 dep q k f = c_bd (c_x K A V n 9 (dep + 1) q k f) (fun q k g => c_x K A V n 8 dep q k g) := rfl
theorem c_x_8 {K A V : Int → Int} {n : Nat} {dep q k : Int} {f : aD} : c_x K A V (n + 1) 8 dep q k f = (if K q = 142 ∨ K q = 147 then c_pt A q k (c_bd (c_x K A V n 9 (dep + 1) (q + 1) (k + 1) f) (fun q1 k1 g => c_x K A V n 8 dep q1 k1 (d_two (A q) (K q) f g))) else .inr (q, k, f)) := rfl
theorem c_x_9 {K A V : Int → Int} {n : Nat} {dep q k : Int} {f : aD} : c_x K A V (n + 1) 9 dep q k f = c_may K A 1 dep q (if K q = 140 then c_bd (c_x K A V n 0 (dep + 1) (q + 1) k f) (fun q1 k1 g => c_wt K A 141 q1 (.inr (q1 + 1, k1, g)))
    else c_pt A q k (if K q = 70 then .inr (q + 1, k + 1, d_num (V q))
      else if 52 ≤ K q ∧ K q ≤ 54 then .inr (q + 1, k + 1, d_pl (K q))
      else if K q = 145 then c_bd (c_x K A V n 9 (dep + 1) (q + 1) (k + 1) f) (fun q1 k1 g => .inr (q1, k1, d_one (A q) 145 g))
      else if K q = 65 then c_bd (c_x K A V n 9 (dep + 1) (q + 1) (k + 1) f) (fun q1 k1 g => c_wt K A 66 q1 (c_bd (c_x K A V n 9 (dep + 1) (q1 + 1) k1 f) (fun q2 k2 h => .inr (q2, k2, d_try g h))))
      else c_wt K A 140 (q + 1) (c_bd (c_x K A V n 0 (dep + 1) (q + 1 + 1) (k + 1) f) (fun q1 k1 g => c_wt K A 141 q1 (.inr (q1 + 1, k1, d_one (A q) (K q) g)))))) := rfl
