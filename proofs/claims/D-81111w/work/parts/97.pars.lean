/-! needs: 96 -/
/-! BLAZONS, plain: what a text means, or its fault -/
abbrev xP (α : Type) : Type := (Int × Int) ⊕ (Int × α)
def p_bd {α β : Type} (r : xP α) (g : Int → α → xP β) : xP β := match r with
  | .inl e => .inl e
  | .inr (q, a) => g q a
theorem p_bd_l {α β : Type} {r : xP α} {g : Int → α → xP β} {e : Int × Int} (h : r = .inl e) : p_bd r g = .inl e := by rw [h]; rfl
theorem p_bd_r {α β : Type} {r : xP α} {g : Int → α → xP β} {q : Int} {a : α} (h : r = .inr (q, a)) : p_bd r g = g q a := by rw [h]; rfl
def p_wr (K A : Int → Int) (q : Int) : Int × Int := (x_wr (K q), A q)
def p_want (K A : Int → Int) (l n q : Int) : xP Int := if l ≤ K q ∧ K q < l + n then .inr (q + 1, K q - l) else .inl (p_wr K A q)
def p_ln (K : Int → Int) (q : Int) : Int × Int := if K q = 41 then (q + 1, 1) else if K q = 42 then (q + 1, 2) else (q, 0)
/-- a number from l on, even ones alone if v is 1 -/
def p_num (K A V : Int → Int) (l v q : Int) : xP Int := if K q = 70 then (if V q < l ∨ 12 < V q ∨ (v = 1 ∧ V q % 2 = 1) then .inl (3, A q) else .inr (q + 1, V q)) else .inl (p_wr K A q)
/-- two tinctures; a field of two like ones is one -/
def p_mk (s l n a b : Int) : Int → Int := fun k => if a = b then (if k = 3 then a else if k = 4 then -1 else 0) else (if k = 0 then s else if k = 1 then l else if k = 2 then n else if k = 3 then a else b)
def p_two (K A : Int → Int) (s l n q : Int) : xP (Int → Int) := p_bd (p_want K A 0 9 q) (fun q a => p_bd (p_want K A 34 1 q) (fun q _ => p_bd (p_want K A 0 9 q) (fun q b => .inr (q, p_mk s l n a b))))
def p_bar (K A V : Int → Int) (s q : Int) : xP (Int → Int) := if s < 9 ∧ K q = 40 then p_bd (p_num K A V 4 1 (q + 1)) (fun q n => p_two K A s 0 n q) else p_two K A s 0 (if s < 9 then 6 else 0) q
def p_field (K A V : Int → Int) (q : Int) : xP (Int → Int) :=
  if 0 ≤ K q ∧ K q < 9 then .inr (q + 1, fun k => if k = 3 then K q else if k = 4 then -1 else 0)
  else if K q = 33 then p_bd (p_want K A 25 4 (q + 1)) (fun q d => p_two K A (1 + d) (p_ln K q).2 0 (p_ln K q).1)
  else if K q = 35 then p_two K A 5 0 0 (q + 1)
  else p_bd (p_want K A 36 4 q) (fun q s => p_bar K A V (6 + s) q)
/-- an attitude that a thing may have -/
def s_ms (t a : Int) : Prop := a = s_fa t ∨ a = (if t = 10 then 2 else if t = 11 then 3 else if t = 8 ∨ t = 3 then 4 else 0)
/-- behind the number: thing, attitude, tincture -/
noncomputable def p_att (K A : Int → Int) (t q : Int) : xP Int := if 21 ≤ K q ∧ K q < 25 then (@ite _ (s_ms t (1 + (K q - 21))) (Classical.propDecidable _) (.inr (q + 1, 1 + (K q - 21))) (.inl (4, A q))) else .inr (q, s_fa t)
/-- number, thing, attitude, tincture: 5 .. 8 of a layer -/
noncomputable def p_th (K A : Int → Int) (n q : Int) : xP (Int → Int) := p_bd (p_want K A 9 12 q) (fun q t => p_bd (p_att K A t q) (fun q a => p_bd (p_want K A 0 9 q) (fun q c => .inr (q, fun k => if k = 5 then n else if k = 6 then t else if k = 7 then a else c))))
noncomputable def p_grp (K A V : Int → Int) (q : Int) : xP (Int → Int) := if K q = 70 then p_bd (p_num K A V 2 0 q) (fun q n => p_th K A n q) else p_bd (p_want K A 43 1 q) (fun q _ => p_th K A 1 q)
/-- an ordinary: 1 .. 3 of a layer; c, b: a chief, a bordure was told -/
def p_ord (K A : Int → Int) (c b q : Int) : xP (Int → Int) := p_bd (p_want K A 25 8 q) (fun q1 o => if (o = 6 ∧ c = 1) ∨ (o = 7 ∧ b = 1) then .inl (5, A q) else p_bd (p_want K A 0 9 (p_ln K q1).1) (fun q2 t => .inr (q2, fun k => if k = 1 then o else if k = 2 then (p_ln K q1).2 else t)))
/-- a layer out of: overall, an ordinary (or none), how, a group (or none), a part -/
def l_no (k : Int) : Int := if k = 1 ∨ k = 3 ∨ k = 6 ∨ k = 7 ∨ k = 8 then -1 else 0
def l_mk (v h p : Int) (o g : Int → Int) : Int → Int := fun k => if k = 0 then v else if k ≤ 3 then o k else if k = 4 then h else if k = 9 then p else g k
def p_part (K A : Int → Int) (q : Int) : xP Int := if K q = 47 then (if K (q + 1) = 31 then .inr (q + 2, 1) else p_bd (p_want K A 48 3 (q + 1)) (fun q s => .inr (q, 2 + s))) else .inr (q, 0)
noncomputable def p_lay1 (K A V : Int → Int) (c b v q : Int) : xP (Int → Int) :=
  if K q = 45 then p_bd (p_want K A 43 1 (q + 1)) (fun q _ => p_bd (p_ord K A c b q) (fun q o => p_bd (p_grp K A V q) (fun q g => .inr (q, l_mk v 3 0 o g))))
  else if K q = 43 ∧ 25 ≤ K (q + 1) ∧ K (q + 1) < 33 then p_bd (p_ord K A c b (q + 1)) (fun q o => if K q = 46 then p_bd (p_grp K A V (q + 1)) (fun q g => .inr (q, l_mk v 2 0 o g)) else .inr (q, l_mk v 0 0 o l_no))
  else if K q = 43 ∨ K q = 70 then p_bd (p_grp K A V q) (fun q g => p_bd (p_part K A q) (fun q p => .inr (q, l_mk v 1 p l_no g)))
  else .inl (p_wr K A q)
noncomputable def p_lay (K A V : Int → Int) (c b q : Int) : xP (Int → Int) := if K q = 44 then p_lay1 K A V c b 1 (q + 1) else p_lay1 K A V c b 0 q
/-- whether a layer may begin -/
def p_beg (K : Int → Int) (q : Int) : Prop := K q = 44 ∨ K q = 45 ∨ K q = 43 ∨ K q = 70
/-- the layers from q on, behind those told (ls); fuel: tokens left -/
noncomputable def p_lays (K A V : Int → Int) : Nat → List (Int → Int) → Int → Int → Int → xP (List (Int → Int))
  | 0, _, _, _, q => .inl (p_wr K A q)
  | n + 1, ls, c, b, q => if K q = 71 then .inr (q, ls) else if K q ≠ 144 then .inl (p_wr K A q) else
    @ite _ (¬ p_beg K (q + 1)) (Classical.propDecidable _) (.inl (p_wr K A (q + 1))) (if ls.length = 6 then .inl (if K (q + 1) = 70 ∧ (V (q + 1) < 2 ∨ 12 < V (q + 1)) then 3 else 5, A (q + 1)) else p_bd (p_lay K A V c b (q + 1)) (fun q l => p_lays K A V n (ls ++ [l]) (if l 1 = 6 then 1 else c) (if l 1 = 7 then 1 else b) q))
/-- the text as it is told: field and layers, not yet settled -/
noncomputable def p_read (K A V : Int → Int) (n : Nat) : xP ((Int → Int) × List (Int → Int)) := p_bd (p_field K A V 0) (fun q f => p_bd (p_lays K A V n [] 0 0 q) (fun q ls => .inr (q, (f, ls))))
