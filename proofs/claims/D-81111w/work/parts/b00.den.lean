/-! needs: a19 -/
/-! CLAUSES, plain: what a clause says of arms: a fault (code, place) or a value (sort, number); sorts: 0 a whole number, 1 the field, 2 a layer, 3 a group -/
abbrev aD : Type := (Int → Int) → (Int × Int) ⊕ (Int × Int)
def d_num (v : Int) : aD := fun _ => .inr (0, v)
noncomputable def d_pl (s : Int) : aD := fun w => if s = 52 then .inr (1, 0) else if s = 53 then .inr (0, w 5) else .inr (0, s_bt w)
/-- a value or a fault out of a number that may be none -/
def d_my (a x : Int) : (Int × Int) ⊕ (Int × Int) := if x = -1 then .inl (1, a) else .inr (0, x)
/-- a call, or a sign ahead of one value -/
def d_c1 (w : Int → Int) (a s t v : Int) : (Int × Int) ⊕ (Int × Int) :=
  if s = 51 then (if t = 0 then .inr (0, if v = 0 then 1 else 0) else .inl (2, a))
  else if s = 145 then (if t = 0 then .inr (0, am_lneg v) else .inl (2, a))
  else if s = 55 then (if t = 0 then (if 0 ≤ v ∧ v < w 5 then .inr (2, v) else .inl (3, a)) else .inl (2, a))
  else if s = 56 then (if t = 2 then (if w (6 + 10 * v + 4) = 0 then .inl (1, a) else .inr (3, v)) else .inl (2, a))
  else if s = 57 then (if t = 1 then .inr (0, w 3) else .inl (2, a))
  else if s = 58 then (if t = 1 then d_my a (w 4) else .inl (2, a))
  else if s = 59 then (if t = 1 then d_my a (if w 0 = 0 then w 3 else -1) else if t = 2 then d_my a (w (6 + 10 * v + 3)) else if t = 3 then d_my a (w (6 + 10 * v + 8)) else .inl (2, a))
  else if s = 60 then (if t = 3 then .inr (0, w (6 + 10 * v + 5)) else .inl (2, a))
  else if s = 61 then (if t = 3 then .inr (0, w (6 + 10 * v + 6)) else .inl (2, a))
  else if s = 62 then (if t = 2 then d_my a (w (6 + 10 * v + 1)) else .inl (2, a))
  else if s = 63 then (if t = 0 then (if 0 ≤ v ∧ v < 9 then .inr (0, s_kd v) else .inl (3, a)) else .inl (2, a))
  else (if t = 2 then d_my a (if w (6 + 10 * v + 4) = 1 then w (6 + 10 * v + 9) else -1) else .inl (2, a))
def d_bd (r : (Int × Int) ⊕ (Int × Int)) (g : Int → Int → (Int × Int) ⊕ (Int × Int)) : (Int × Int) ⊕ (Int × Int) := match r with
  | .inl e => .inl e
  | .inr (t, v) => g t v
theorem d_bd_l {r : (Int × Int) ⊕ (Int × Int)} {g : Int → Int → (Int × Int) ⊕ (Int × Int)} {e : Int × Int} (h : r = .inl e) : d_bd r g = .inl e := by rw [h]; rfl
theorem d_bd_r {r : (Int × Int) ⊕ (Int × Int)} {g : Int → Int → (Int × Int) ⊕ (Int × Int)} {t v : Int} (h : r = .inr (t, v)) : d_bd r g = g t v := by rw [h]; rfl
def d_one (a s : Int) (f : aD) : aD := fun w => d_bd (f w) (fun t v => d_c1 w a s t v)
def d_try (f g : aD) : aD := fun w => match f w with
  | .inl _ => g w
  | .inr x => .inr x
theorem d_try_l {f g : aD} {w : Int → Int} {e : Int × Int} (h : f w = .inl e) : d_try f g w = g w := by unfold d_try; rw [h]
theorem d_try_r {f g : aD} {w : Int → Int} {e : Int × Int} (h : f w = .inr e) : d_try f g w = .inr e := by unfold d_try; rw [h]
/-- a sign between two numbers -/
def d_c2 (a s x y : Int) : (Int × Int) ⊕ (Int × Int) :=
  if s = 160 then .inr (0, if x < y then 1 else 0)
  else if s = 143 then .inr (0, am_ladd x y)
  else if s = 145 then .inr (0, am_lsub x y)
  else if s = 142 then .inr (0, am_lmul x y)
  else (if y = 0 then .inl (4, a) else .inr (0, am_ldiv x y))
def d_tw (v : Int) : Int := if v = 0 then 0 else 1
def d_two (a s : Int) (f g : aD) : aD := fun w => d_bd (f w) (fun t v =>
  if s = 0 ∨ s = 34 then (if t = 0 then (if (v ≠ 0 ∧ s = 0) ∨ (v = 0 ∧ s = 34) then .inr (0, d_tw v) else d_bd (g w) (fun t v => if t = 0 then .inr (0, d_tw v) else .inl (2, a))) else .inl (2, a))
  else d_bd (g w) (fun u x => if s = 161 then .inr (0, if t = u ∧ v = x then 1 else 0) else if t = 0 ∧ u = 0 then d_c2 a s v x else .inl (2, a)))
