/-! needs: 18 60 -/
/-! WHAT A METHOD MAY WRITE: a table for each method, checked row by row, and the theorem that it writes nothing else; by tools/gen62.py -/
set_option maxRecDepth 100000
def am_wm (W : List (Int × Int)) (r j : Int) : Bool := W.any (fun q => decide (q.1 = r) && (decide (q.2 = -3) || decide (q.2 = j)))
def am_wa (W : List (Int × Int)) (r : Int) : Bool := W.any (fun q => decide (q.1 = r) && decide (q.2 = -3))
def fr_fz (W : List (Int × Int)) (D : List Int) (r j t : Int) : Bool := (!(am_wm W r j) && !(D.elem t)) || decide (r < 0) || decide (j < 0)
def fr_tg (x : Int) : List Int := if x = 12 then [13, 14, 15, 16, 17] else if x = 18 then [5, 7, 8, 10] else if x = 19 then [8, 10] else [x]
theorem fr_tg_ok {x t : Int} (h : am_ok x t) : t ∈ fr_tg x := by
  unfold am_ok at h
  unfold fr_tg
  split at h
  · rw [if_pos rfl]; simp; omega
  · rw [if_neg (by decide), if_pos rfl]; simp; omega
  · rw [if_neg (by decide), if_neg (by decide), if_pos rfl]; simp; omega
  · next h1 h2 h3 => rw [if_neg h1, if_neg h2, if_neg h3]; simp; exact h
/-- from m to m' nothing is written but what W (reference, place; -3 any place) and D (tags) tell; N: cells may be made -/
def am_fb (W : List (Int × Int)) (D : List Int) (N : Bool) (m m' : aM) : Prop :=
  0 ≤ m 0 0 → m 0 0 ≤ m' 0 0 ∧ (∀ r j, r ≠ 0 → r ≤ m 0 0 → fr_fz W D r j (m r (-1)) = true → m' r j = m r j) ∧ ((∀ r, m 0 0 < r → m r (-1) = 0) → ∀ r, m' 0 0 < r → m' r (-1) = 0) ∧ ((m 0 2 = 1 → m' 0 2 = 1) ∧ (m 0 3 = 1 → m' 0 3 = 1)) ∧ (N = false → ∀ j, m' 0 j = m 0 j)
theorem am_fb.rfl {W : List (Int × Int)} {D : List Int} {N : Bool} (m : aM) : am_fb W D N m m := fun _ => ⟨Int.le_refl _, fun _ _ _ _ _ => Eq.refl _, id, ⟨id, id⟩, fun _ _ => Eq.refl _⟩
theorem am_fb.trans {W : List (Int × Int)} {D : List Int} {N : Bool} {a b c : aM} (h : am_fb W D N a b) (g : am_fb W D N b c) : am_fb W D N a c := fun z => by
  obtain ⟨h1, h2, h3, h4, h5⟩ := h z
  obtain ⟨g1, g2, g3, g4, g5⟩ := g (by omega)
  refine ⟨by omega, fun r j hr hl hz => ?_, fun q => g3 (h3 q), ⟨fun q => g4.1 (h4.1 q), fun q => g4.2 (h4.2 q)⟩, fun q j => (g5 q j).trans (h5 q j)⟩
  have e := h2 r (-1) hr hl (by unfold fr_fz; simp)
  rw [g2 r j hr (by omega) (by rw [e]; exact hz), h2 r j hr hl hz]
theorem am_fb_S {W : List (Int × Int)} {D : List Int} {N : Bool} {m : aM} {x y v : Int} (hy : 0 ≤ y) (hx : 0 < x) (hw : am_wm W x y = true) : am_fb W D N m (mS m x y v) := fun z => by
  have e0 : ∀ j, mS m x y v 0 j = m 0 j := fun j => mS_a _ _ _ _ (by omega)
  refine ⟨by rw [e0]; omega, fun r j hr hl hz => ?_, fun q r hr => ?_, ⟨fun q => by rw [e0]; exact q, fun q => by rw [e0]; exact q⟩, fun _ j => e0 j⟩
  · rw [mS_iff]
    split
    · next h =>
      rw [h.1, h.2] at hz
      unfold fr_fz at hz
      rw [hw] at hz
      simp at hz
      omega
    · rfl
  · rw [e0] at hr
    rw [mS_i _ _ _ _ (by omega)]
    exact q r hr
theorem am_fb_A {W : List (Int × Int)} {D : List Int} {N : Bool} {m : aM} {x i v : Int} (hi : 0 ≤ i) (hx : 0 < x) (hw : am_wa W x = true) : am_fb W D N m (mS m x i v) := am_fb_S hi hx (by
  unfold am_wa at hw
  unfold am_wm
  rw [List.any_eq_true] at hw ⊢
  obtain ⟨q, q1, q2⟩ := hw
  rw [Bool.and_eq_true] at q2
  exact ⟨q, q1, by rw [q2.1, q2.2]; rfl⟩)
theorem am_fb_D {W : List (Int × Int)} {D : List Int} {N : Bool} {m : aM} {a i v : Int} (hi : 0 ≤ i) (ha : 0 < a) (hd : D.elem (m a (-1)) = true) : am_fb W D N m (mS m a i v) := fun z => by
  have e0 : ∀ j, mS m a i v 0 j = m 0 j := fun j => mS_a _ _ _ _ (by omega)
  refine ⟨by rw [e0]; omega, fun r j hr hl hz => ?_, fun q r hr => ?_, ⟨fun q => by rw [e0]; exact q, fun q => by rw [e0]; exact q⟩, fun _ j => e0 j⟩
  · rw [mS_iff]
    split
    · next h =>
      rw [h.1, h.2] at hz
      unfold fr_fz at hz
      rw [hd] at hz
      simp at hz
      omega
    · rfl
  · rw [e0] at hr
    rw [mS_i _ _ _ _ (by omega)]
    exact q r hr
theorem am_fb_C {W : List (Int × Int)} {D : List Int} {N : Bool} {m : aM} {a sp b dp n : Int} (hi : 0 ≤ dp) (hb : 0 < b) (hd : D.elem (m b (-1)) = true) : am_fb W D N m (mC m a sp b dp n) := fun z => by
  have e : ∀ r j, r ≠ b ∨ j < 0 → mC m a sp b dp n r j = m r j := fun r j h => by
    unfold mC
    split
    · rw [if_neg (by omega)]
    · rfl
  have e0 : ∀ j, mC m a sp b dp n 0 j = m 0 j := fun j => e 0 j (by omega)
  refine ⟨by rw [e0]; omega, fun r j hr hl hz => ?_, fun q r hr => ?_, ⟨fun q => by rw [e0]; exact q, fun q => by rw [e0]; exact q⟩, fun _ j => e0 j⟩
  · by_cases h : r = b
    · rw [h] at hz
      unfold fr_fz at hz
      rw [hd] at hz
      simp at hz
      exact e r j (by omega)
    · exact e r j (Or.inl h)
  · rw [e0] at hr
    rw [e r _ (by omega)]
    exact q r hr
theorem am_fb_new {W : List (Int × Int)} {D : List Int} {N : Bool} {m m' : aM} {k : Int} (hN : N = true) (hk : 0 < k) (h0 : 0 ≤ m 0 0 → m' 0 0 = m 0 0 + k ∧ m' 0 2 = m 0 2 ∧ m' 0 3 = m 0 3) (h1 : ∀ r j, 0 ≤ m 0 0 → r ≠ 0 → r ≠ m 0 0 + k → m' r j = m r j) : am_fb W D N m m' := fun z => by
  obtain ⟨e0, e2, e3⟩ := h0 z
  refine ⟨by omega, fun r j hr hl _ => h1 r j z hr (by omega), fun q r hr => ?_, ⟨fun q => by rw [e2]; exact q, fun q => by rw [e3]; exact q⟩, fun h => by rw [hN] at h; cases h⟩
  rw [h1 r (-1) z (by omega) (by omega)]
  exact q r (by omega)
theorem am_fb_N {W : List (Int × Int)} {D : List Int} {N : Bool} {m : aM} {t n : Int} (hN : N = true) : am_fb W D N m (mN m t n) := am_fb_new (k := 1) hN (by decide) (fun z => by
  obtain ⟨e0, e1, e2⟩ := mN_0 (t := t) (n := n) z
  exact ⟨e0, e2 2 (by decide) (by decide), e2 3 (by decide) (by decide)⟩) (fun r j z h1 h2 => by simp [mN, h1, h2])
theorem am_fb_Ar {W : List (Int × Int)} {D : List Int} {N : Bool} {m : aM} {t n : Int} (hN : N = true) : am_fb W D N m (mA m t n) := am_fb_new (k := 1) hN (by decide) (fun z => by
  obtain ⟨e0, e1, e2⟩ := mA_0 (t := t) (n := n) z
  exact ⟨e0, e2 2 (by decide) (by decide), e2 3 (by decide) (by decide)⟩) (fun r j z h1 h2 => by simp [mA, h1, h2])
theorem am_fb_X {W : List (Int × Int)} {D : List Int} {N : Bool} {m : aM} {t k n : Int} (hN : N = true) (hk : 0 < k) : am_fb W D N m (mX m t k n) := am_fb_new (k := k) hN hk (fun z => by
  obtain ⟨e0, e1, e2⟩ := mX_0 (t := t) (n := n) z hk
  exact ⟨e0, e2 2 (by decide) (by decide), e2 3 (by decide) (by decide)⟩) (fun r j z h1 h2 => by simp [mX, h1, h2])
/-- a bigger table -/
def am_sub (W W' : List (Int × Int)) : Bool := W.all (fun q => W'.any (fun w => decide (w.1 = q.1) && (decide (w.2 = -3) || decide (w.2 = q.2))))
theorem am_fb.mono {W W' : List (Int × Int)} {D D' : List Int} {N N' : Bool} (hW : am_sub W W' = true) (hD : D.all (fun t => D'.elem t) = true) (hN : N = true → N' = true) {m m' : aM} (h : am_fb W D N m m') : am_fb W' D' N' m m' := fun z => by
  obtain ⟨h1, h2, h3, h4, h5⟩ := h z
  refine ⟨h1, fun r j hr hl hz => h2 r j hr hl ?_, h3, h4, fun q => h5 (by cases hn : N with | false => rfl | true => rw [hN hn] at q; cases q)⟩
  unfold fr_fz at hz ⊢
  simp only [Bool.or_eq_true, Bool.and_eq_true, decide_eq_true_eq, Bool.not_eq_true'] at hz ⊢
  rcases hz with (⟨z1, z2⟩ | hz) | hz
  rotate_left
  · exact Or.inl (Or.inr hz)
  · exact Or.inr hz
  · refine Or.inl (Or.inl ⟨?_, ?_⟩)
    · cases hw : am_wm W r j with
      | false => rfl
      | true =>
        unfold am_wm at hw z1
        rw [List.any_eq_true] at hw
        obtain ⟨q, q1, q2⟩ := hw
        have := List.all_eq_true.mp hW q q1
        rw [List.any_eq_true] at this
        obtain ⟨w, w1, w2⟩ := this
        have hf := List.any_eq_false.mp z1 w w1
        simp only [Bool.and_eq_true, Bool.or_eq_true, decide_eq_true_eq] at q2 w2 hf
        omega
    · cases hd : D.elem (m r (-1)) with
      | false => rfl
      | true =>
        have := List.all_eq_true.mp hD (m r (-1)) (List.elem_iff.mp hd)
        rw [z2] at this
        cases this
/-- which methods a call may reach -/
def am_cs0 (x : Int) (y : Int) : List Nat := bif Nat.ble x.toNat 999 then [x.toNat] else if x = 1000 then [1, 2, 3, 4, 5] else if x = 1001 then [6, 7, 8] else if x = 1002 then [9, 10] else [11, 12]
def fr_cy (x y : Int) : Bool := Nat.ble x.toNat 999 || (decide (x = 1000) && decide (y = 12)) || (decide (x = 1001) && decide (y = 18)) || (decide (x = 1002) && decide (y = 19)) || (decide (x = 1003) && decide (y = 19))
theorem am_cs0_ok {x y a : Int} {m : aM} (hy : fr_cy x y = true) (h : am_rcv y a m) : am_dsp x.toNat (m a (-1)) ∈ am_cs0 x y := by
  unfold am_cs0 am_dsp
  cases hb : Nat.ble x.toNat 999 with
  | true => simp
  | false =>
    unfold fr_cy at hy
    simp only [hb, Bool.false_or, Bool.or_eq_true, Bool.and_eq_true, decide_eq_true_eq] at hy
    simp only [cond_false]
    rcases hy with ((⟨rfl, rfl⟩ | ⟨rfl, rfl⟩) | ⟨rfl, rfl⟩) | ⟨rfl, rfl⟩
    · have h' : 13 ≤ m a (-1) ∧ m a (-1) ≤ 17 := h
      rw [if_pos rfl]
      show (m a (-1) - 12).toNat ∈ _
      have : (m a (-1) - 12).toNat = 1 ∨ (m a (-1) - 12).toNat = 2 ∨ (m a (-1) - 12).toNat = 3 ∨ (m a (-1) - 12).toNat = 4 ∨ (m a (-1) - 12).toNat = 5 := by omega
      simp only [List.mem_cons, List.not_mem_nil, or_false]
      exact this
    · have h' : m a (-1) = 5 ∨ m a (-1) = 7 ∨ m a (-1) = 8 ∨ m a (-1) = 10 := h
      rcases h' with e | e | e | e <;> rw [e] <;> decide
    · have h' : m a (-1) = 8 ∨ m a (-1) = 10 := h
      rcases h' with e | e <;> rw [e] <;> decide
    · have h' : m a (-1) = 8 ∨ m a (-1) = 10 := h
      rcases h' with e | e <;> rw [e] <;> decide
def am_W_1 : List (Int × Int) := [(1, 5), (1, 32), (1, 33), (5, (-3))]
def am_W_2 : List (Int × Int) := []
def am_W_3 : List (Int × Int) := [(1, 5), (5, (-3))]
def am_W_4 : List (Int × Int) := [(1, 5), (1, 32), (1, 33), (5, (-3))]
def am_W_5 : List (Int × Int) := [(1, 5), (1, 32), (1, 33), (5, (-3))]
def am_W_6 : List (Int × Int) := []
def am_W_7 : List (Int × Int) := []
def am_W_8 : List (Int × Int) := []
def am_W_9 : List (Int × Int) := []
def am_W_10 : List (Int × Int) := []
def am_W_11 : List (Int × Int) := []
def am_W_12 : List (Int × Int) := []
def am_W_20 : List (Int × Int) := []
def am_W_21 : List (Int × Int) := []
def am_W_22 : List (Int × Int) := []
def am_W_23 : List (Int × Int) := []
def am_W_24 : List (Int × Int) := []
def am_W_25 : List (Int × Int) := []
def am_W_26 : List (Int × Int) := []
def am_W_27 : List (Int × Int) := []
def am_W_28 : List (Int × Int) := []
def am_W_29 : List (Int × Int) := []
def am_W_30 : List (Int × Int) := [(1, 3), (1, 5), (1, 13), (1, 14), (1, 17), (1, 18), (1, 20), (1, 22), (1, 25), (1, 29), (1, 30), (1, 32), (1, 33), (1, 34), (1, 37), (1, 38), (1, 39), (1, 40), (1, 41), (1, 45), (1, 46), (3, (-3)), (4, (-3)), (5, (-3)), (6, (-3)), (7, (-3)), (8, (-3)), (9, (-3)), (10, (-3)), (11, (-3)), (12, (-3)), (13, 4), (13, 5), (13, 6), (13, 7), (13, 8), (15, (-3)), (16, (-3)), (17, (-3)), (18, (-3)), (19, (-3)), (20, (-3)), (21, (-3)), (22, (-3)), (23, (-3)), (24, (-3)), (25, (-3)), (27, (-3)), (28, (-3)), (37, (-3)), (41, 1), (41, 3), (41, 5), (41, 12), (41, 13), (41, 14), (41, 15), (41, 16), (41, 17), (41, 18), (41, 19), (41, 20), (41, 23), (41, 27), (41, 28), (41, 36), (41, 39), (41, 40), (41, 45), (41, 46), (41, 53), (41, 54), (41, 55), (41, 56), (41, 57), (41, 58), (41, 59), (41, 60), (41, 61), (41, 62), (41, 63), (41, 66), (41, 67), (42, (-3)), (43, (-3)), (44, (-3)), (51, (-3)), (52, (-3)), (53, (-3)), (54, (-3)), (55, (-3)), (56, (-3)), (57, (-3)), (58, (-3)), (59, (-3)), (60, (-3)), (61, (-3)), (62, (-3)), (63, (-3)), (64, (-3)), (65, (-3)), (66, (-3)), (67, (-3)), (68, (-3)), (69, (-3)), (70, (-3)), (71, (-3)), (72, (-3)), (73, (-3)), (74, (-3)), (75, (-3)), (76, (-3))]
def am_W_31 : List (Int × Int) := [(1, 5), (1, 45), (5, (-3)), (37, (-3))]
def am_W_32 : List (Int × Int) := [(1, 5), (1, 45), (5, (-3)), (37, (-3))]
def am_W_33 : List (Int × Int) := []
def am_W_34 : List (Int × Int) := [(1, 5), (5, (-3))]
def am_W_35 : List (Int × Int) := [(1, 5), (5, (-3))]
def am_W_36 : List (Int × Int) := []
def am_W_37 : List (Int × Int) := [(1, 5), (5, (-3))]
def am_W_38 : List (Int × Int) := [(1, 17), (18, (-3))]
def am_W_39 : List (Int × Int) := []
def am_W_40 : List (Int × Int) := [(1, 17)]
def am_W_41 : List (Int × Int) := [(1, 17)]
def am_W_42 : List (Int × Int) := []
def am_W_43 : List (Int × Int) := [(1, 17), (1, 18), (1, 20), (3, (-3)), (13, 4), (13, 5), (13, 6), (13, 7), (13, 8), (15, (-3)), (16, (-3)), (17, (-3)), (19, (-3))]
def am_W_44 : List (Int × Int) := [(1, 17), (13, 4), (13, 5), (13, 6), (13, 7), (13, 8), (15, (-3)), (16, (-3)), (17, (-3))]
def am_W_45 : List (Int × Int) := [(3, (-3)), (13, 5), (13, 6), (13, 7)]
def am_W_46 : List (Int × Int) := [(13, 5), (13, 6), (13, 7)]
def am_W_47 : List (Int × Int) := [(13, 5)]
def am_W_48 : List (Int × Int) := [(13, 5), (13, 6), (13, 7)]
def am_W_49 : List (Int × Int) := [(13, 5), (13, 6), (13, 7)]
def am_W_50 : List (Int × Int) := [(13, 5), (13, 6), (13, 7)]
def am_W_51 : List (Int × Int) := [(13, 5), (13, 6), (13, 7)]
def am_W_52 : List (Int × Int) := []
def am_W_53 : List (Int × Int) := []
def am_W_54 : List (Int × Int) := []
def am_W_55 : List (Int × Int) := [(1, 18)]
def am_W_56 : List (Int × Int) := [(1, 20), (19, (-3))]
def am_W_57 : List (Int × Int) := []
def am_W_58 : List (Int × Int) := []
def am_W_59 : List (Int × Int) := []
def am_W_60 : List (Int × Int) := []
def am_W_61 : List (Int × Int) := []
def am_W_62 : List (Int × Int) := []
def am_W_63 : List (Int × Int) := []
def am_W_64 : List (Int × Int) := []
def am_W_65 : List (Int × Int) := []
def am_W_66 : List (Int × Int) := []
def am_W_67 : List (Int × Int) := []
def am_W_68 : List (Int × Int) := [(1, 3), (4, (-3))]
def am_W_69 : List (Int × Int) := [(1, 3), (4, (-3))]
def am_W_70 : List (Int × Int) := [(1, 3), (4, (-3))]
def am_W_71 : List (Int × Int) := [(1, 3), (4, (-3))]
def am_W_72 : List (Int × Int) := [(1, 3), (4, (-3))]
def am_W_73 : List (Int × Int) := [(1, 3), (4, (-3))]
def am_W_74 : List (Int × Int) := [(1, 3), (4, (-3))]
def am_W_75 : List (Int × Int) := [(1, 3), (4, (-3))]
def am_W_76 : List (Int × Int) := [(1, 5), (5, (-3))]
def am_W_77 : List (Int × Int) := [(1, 5), (5, (-3))]
def am_W_78 : List (Int × Int) := [(1, 13), (1, 14), (6, (-3)), (7, (-3)), (8, (-3)), (9, (-3)), (10, (-3)), (11, (-3)), (12, (-3))]
def am_W_79 : List (Int × Int) := [(1, 13), (1, 14), (6, (-3)), (7, (-3)), (8, (-3)), (9, (-3)), (10, (-3)), (11, (-3)), (12, (-3))]
def am_W_80 : List (Int × Int) := []
def am_W_81 : List (Int × Int) := []
def am_W_82 : List (Int × Int) := []
def am_W_83 : List (Int × Int) := [(1, 14), (6, (-3)), (8, (-3)), (9, (-3)), (10, (-3)), (11, (-3)), (12, (-3))]
def am_W_84 : List (Int × Int) := []
def am_W_85 : List (Int × Int) := [(11, (-3)), (12, (-3))]
def am_W_86 : List (Int × Int) := [(11, (-3)), (12, (-3))]
def am_W_87 : List (Int × Int) := [(1, 14), (9, (-3))]
def am_W_88 : List (Int × Int) := []
def am_W_89 : List (Int × Int) := [(9, (-3))]
def am_W_90 : List (Int × Int) := [(6, (-3))]
def am_W_91 : List (Int × Int) := [(1, 13), (1, 14), (6, (-3)), (7, (-3)), (8, (-3)), (9, (-3)), (10, (-3)), (11, (-3)), (12, (-3))]
def am_W_92 : List (Int × Int) := [(1, 13), (1, 14), (6, (-3)), (7, (-3)), (8, (-3)), (9, (-3)), (10, (-3)), (11, (-3)), (12, (-3))]
def am_W_93 : List (Int × Int) := [(1, 22), (20, (-3))]
def am_W_94 : List (Int × Int) := []
def am_W_95 : List (Int × Int) := []
def am_W_96 : List (Int × Int) := []
def am_W_97 : List (Int × Int) := []
def am_W_98 : List (Int × Int) := [(21, (-3)), (22, (-3))]
def am_W_99 : List (Int × Int) := [(21, (-3)), (22, (-3))]
def am_W_100 : List (Int × Int) := [(21, (-3)), (22, (-3))]
def am_W_101 : List (Int × Int) := [(21, (-3)), (22, (-3))]
def am_W_102 : List (Int × Int) := []
def am_W_103 : List (Int × Int) := []
def am_W_104 : List (Int × Int) := []
def am_W_105 : List (Int × Int) := [(1, 25), (21, (-3)), (22, (-3))]
def am_W_106 : List (Int × Int) := [(1, 25), (21, (-3)), (22, (-3))]
def am_W_107 : List (Int × Int) := []
def am_W_108 : List (Int × Int) := [(1, 25), (21, (-3)), (22, (-3))]
def am_W_109 : List (Int × Int) := [(1, 29), (23, (-3)), (24, (-3)), (25, (-3))]
def am_W_110 : List (Int × Int) := [(25, (-3))]
def am_W_111 : List (Int × Int) := []
def am_W_112 : List (Int × Int) := [(1, 30)]
def am_W_113 : List (Int × Int) := [(1, 30)]
def am_W_114 : List (Int × Int) := [(1, 30)]
def am_W_115 : List (Int × Int) := [(1, 5), (1, 20), (1, 30), (5, (-3)), (19, (-3))]
def am_W_116 : List (Int × Int) := [(1, 5), (1, 30), (5, (-3))]
def am_W_117 : List (Int × Int) := [(1, 5), (1, 30), (5, (-3))]
def am_W_118 : List (Int × Int) := []
def am_W_119 : List (Int × Int) := [(1, 5), (1, 30), (5, (-3))]
def am_W_120 : List (Int × Int) := []
def am_W_121 : List (Int × Int) := [(1, 5), (1, 30), (5, (-3))]
def am_W_122 : List (Int × Int) := [(1, 17), (1, 18), (1, 34), (1, 37), (13, 4), (13, 5), (13, 6), (13, 7), (13, 8), (15, (-3)), (16, (-3)), (17, (-3)), (27, (-3)), (28, (-3))]
def am_W_123 : List (Int × Int) := [(1, 34), (13, 5), (13, 6), (13, 7)]
def am_W_124 : List (Int × Int) := [(13, 6), (13, 7)]
def am_W_125 : List (Int × Int) := []
def am_W_126 : List (Int × Int) := [(1, 34), (13, 5), (13, 6), (13, 7)]
def am_W_127 : List (Int × Int) := [(1, 34), (13, 5), (13, 6), (13, 7)]
def am_W_128 : List (Int × Int) := [(1, 34), (13, 6), (13, 7)]
def am_W_129 : List (Int × Int) := [(1, 34), (13, 5), (13, 6), (13, 7)]
def am_W_130 : List (Int × Int) := [(1, 34), (13, 5), (13, 6), (13, 7)]
def am_W_131 : List (Int × Int) := [(1, 34), (13, 5), (13, 6), (13, 7)]
def am_W_132 : List (Int × Int) := [(1, 5), (1, 32), (1, 33), (1, 38), (1, 39), (1, 40), (1, 41), (5, (-3))]
def am_W_133 : List (Int × Int) := [(1, 5), (1, 32), (1, 33), (1, 39), (1, 40), (5, (-3))]
def am_W_134 : List (Int × Int) := [(1, 5), (1, 32), (1, 33), (1, 39), (5, (-3))]
def am_W_135 : List (Int × Int) := []
def am_W_136 : List (Int × Int) := []
def am_W_137 : List (Int × Int) := [(1, 20), (19, (-3))]
def am_W_138 : List (Int × Int) := []
def am_W_139 : List (Int × Int) := []
def am_W_140 : List (Int × Int) := []
def am_W_141 : List (Int × Int) := [(1, 5), (1, 30), (1, 32), (1, 33), (1, 39), (1, 40), (5, (-3))]
def am_W_142 : List (Int × Int) := [(1, 5), (1, 32), (1, 33), (1, 39), (1, 40), (5, (-3))]
def am_W_143 : List (Int × Int) := [(1, 5), (1, 32), (1, 33), (1, 39), (1, 40), (5, (-3))]
def am_W_144 : List (Int × Int) := [(1, 5), (1, 32), (1, 33), (1, 39), (1, 40), (1, 46), (5, (-3))]
def am_W_145 : List (Int × Int) := []
def am_W_146 : List (Int × Int) := []
def am_W_147 : List (Int × Int) := []
def am_W_148 : List (Int × Int) := [(13, 4), (13, 5), (13, 6), (13, 7), (13, 8), (15, (-3)), (16, (-3)), (17, (-3))]
def am_W_149 : List (Int × Int) := [(15, (-3)), (17, (-3))]
def am_W_150 : List (Int × Int) := []
def am_W_151 : List (Int × Int) := []
def am_W_152 : List (Int × Int) := []
def am_W_153 : List (Int × Int) := []
def am_W_154 : List (Int × Int) := [(13, 5), (13, 6), (13, 7)]
def am_W_155 : List (Int × Int) := [(13, 6), (13, 7)]
def am_W_156 : List (Int × Int) := [(13, 6), (13, 7)]
def am_W_157 : List (Int × Int) := [(13, 5)]
def am_W_158 : List (Int × Int) := []
def am_W_159 : List (Int × Int) := [(13, 5), (13, 6), (13, 7)]
def am_W_160 : List (Int × Int) := []
def am_W_161 : List (Int × Int) := []
def am_W_162 : List (Int × Int) := []
def am_W_163 : List (Int × Int) := []
def am_W_164 : List (Int × Int) := []
def am_W_165 : List (Int × Int) := []
def am_W_166 : List (Int × Int) := []
def am_W_167 : List (Int × Int) := []
def am_W_168 : List (Int × Int) := []
def am_W_169 : List (Int × Int) := []
def am_W_170 : List (Int × Int) := []
def am_W_171 : List (Int × Int) := []
def am_W_172 : List (Int × Int) := []
def am_W_173 : List (Int × Int) := []
def am_W_174 : List (Int × Int) := []
def am_W_175 : List (Int × Int) := [(41, 3), (43, (-3))]
def am_W_176 : List (Int × Int) := [(41, 3)]
def am_W_177 : List (Int × Int) := [(41, 3), (43, (-3))]
def am_W_178 : List (Int × Int) := []
def am_W_179 : List (Int × Int) := [(41, 66), (42, (-3)), (75, (-3)), (76, (-3))]
def am_W_180 : List (Int × Int) := [(41, 66), (42, (-3)), (75, (-3)), (76, (-3))]
def am_W_181 : List (Int × Int) := [(42, (-3))]
def am_W_182 : List (Int × Int) := [(42, (-3))]
def am_W_183 : List (Int × Int) := [(42, (-3))]
def am_W_184 : List (Int × Int) := [(42, (-3))]
def am_W_185 : List (Int × Int) := []
def am_W_186 : List (Int × Int) := []
def am_W_187 : List (Int × Int) := []
def am_W_188 : List (Int × Int) := []
def am_W_189 : List (Int × Int) := []
def am_W_190 : List (Int × Int) := []
def am_W_191 : List (Int × Int) := [(41, 1), (41, 3), (41, 12), (41, 13), (41, 14), (41, 15), (41, 16), (41, 17), (41, 18), (41, 19), (41, 20), (42, (-3))]
def am_W_192 : List (Int × Int) := [(41, 12), (41, 13), (41, 14), (41, 15), (41, 16), (41, 17), (41, 18), (41, 19), (41, 20), (42, (-3))]
def am_W_193 : List (Int × Int) := [(41, 12), (41, 13), (41, 14), (41, 15), (41, 16), (41, 17)]
def am_W_194 : List (Int × Int) := [(41, 12), (41, 13), (41, 14), (41, 15)]
def am_W_195 : List (Int × Int) := []
def am_W_196 : List (Int × Int) := []
def am_W_197 : List (Int × Int) := [(41, 12), (41, 13), (41, 14), (41, 15), (41, 16), (41, 17), (41, 18), (42, (-3))]
def am_W_198 : List (Int × Int) := []
def am_W_199 : List (Int × Int) := [(41, 12), (41, 13), (41, 14), (41, 15)]
def am_W_200 : List (Int × Int) := []
def am_W_201 : List (Int × Int) := [(41, 16), (41, 17), (41, 18)]
def am_W_202 : List (Int × Int) := [(41, 12), (41, 13), (41, 14), (41, 15)]
def am_W_203 : List (Int × Int) := [(41, 12), (41, 13), (41, 14), (41, 15), (41, 16), (41, 17), (41, 18), (42, (-3))]
def am_W_204 : List (Int × Int) := [(41, 12), (41, 13), (41, 14), (41, 15), (41, 16), (41, 17), (41, 18)]
def am_W_205 : List (Int × Int) := [(41, 12), (41, 13), (41, 14), (41, 15), (41, 16), (41, 17), (41, 18)]
def am_W_206 : List (Int × Int) := []
def am_W_207 : List (Int × Int) := [(41, 16), (41, 17), (41, 18)]
def am_W_208 : List (Int × Int) := [(41, 12), (41, 13), (41, 14), (41, 15), (41, 16), (41, 17), (41, 18), (41, 19), (41, 20), (42, (-3))]
def am_W_209 : List (Int × Int) := [(41, 12), (41, 13), (41, 14), (41, 15), (41, 16), (41, 17), (41, 18), (41, 19), (41, 20), (42, (-3))]
def am_W_210 : List (Int × Int) := [(41, 12), (41, 13), (41, 14), (41, 15), (41, 16), (41, 17), (41, 18), (42, (-3))]
def am_W_211 : List (Int × Int) := [(41, 12), (41, 13), (41, 14), (41, 15), (41, 16), (41, 17), (41, 18), (42, (-3))]
def am_W_212 : List (Int × Int) := []
def am_W_213 : List (Int × Int) := []
def am_W_214 : List (Int × Int) := []
def am_W_215 : List (Int × Int) := [(41, 12), (41, 13), (41, 14), (41, 15), (41, 16), (41, 17), (41, 18), (42, (-3))]
def am_W_216 : List (Int × Int) := [(42, (-3))]
def am_W_217 : List (Int × Int) := []
def am_W_218 : List (Int × Int) := [(41, 1), (42, (-3))]
def am_W_219 : List (Int × Int) := [(42, (-3))]
def am_W_220 : List (Int × Int) := []
def am_W_221 : List (Int × Int) := []
def am_W_222 : List (Int × Int) := []
def am_W_223 : List (Int × Int) := []
def am_W_224 : List (Int × Int) := []
def am_W_225 : List (Int × Int) := []
def am_W_226 : List (Int × Int) := [(41, 5), (44, (-3))]
def am_W_227 : List (Int × Int) := [(41, 5), (44, (-3))]
def am_W_228 : List (Int × Int) := [(41, 5), (44, (-3))]
def am_W_229 : List (Int × Int) := [(41, 5), (44, (-3))]
def am_W_230 : List (Int × Int) := [(41, 5), (44, (-3))]
def am_W_231 : List (Int × Int) := [(41, 5), (44, (-3))]
def am_W_232 : List (Int × Int) := [(41, 5), (44, (-3))]
def am_W_233 : List (Int × Int) := []
def am_W_234 : List (Int × Int) := []
def am_W_235 : List (Int × Int) := []
def am_W_236 : List (Int × Int) := [(41, 23), (41, 27), (51, (-3)), (52, (-3)), (53, (-3)), (54, (-3)), (55, (-3))]
def am_W_237 : List (Int × Int) := [(41, 23), (41, 27), (51, (-3)), (52, (-3)), (53, (-3)), (54, (-3)), (55, (-3))]
def am_W_238 : List (Int × Int) := []
def am_W_239 : List (Int × Int) := []
def am_W_240 : List (Int × Int) := []
def am_W_241 : List (Int × Int) := []
def am_W_242 : List (Int × Int) := [(41, 27), (51, (-3)), (52, (-3)), (53, (-3)), (54, (-3)), (55, (-3))]
def am_W_243 : List (Int × Int) := []
def am_W_244 : List (Int × Int) := []
def am_W_245 : List (Int × Int) := [(53, (-3)), (54, (-3))]
def am_W_246 : List (Int × Int) := [(53, (-3)), (54, (-3))]
def am_W_247 : List (Int × Int) := []
def am_W_248 : List (Int × Int) := [(41, 27), (55, (-3))]
def am_W_249 : List (Int × Int) := []
def am_W_250 : List (Int × Int) := [(41, 23), (41, 27), (51, (-3)), (52, (-3)), (53, (-3)), (54, (-3)), (55, (-3))]
def am_W_251 : List (Int × Int) := [(41, 23), (41, 27), (51, (-3)), (52, (-3)), (53, (-3)), (54, (-3)), (55, (-3))]
def am_W_252 : List (Int × Int) := [(41, 28), (56, (-3)), (57, (-3)), (58, (-3)), (59, (-3)), (60, (-3)), (61, (-3))]
def am_W_253 : List (Int × Int) := []
def am_W_254 : List (Int × Int) := []
def am_W_255 : List (Int × Int) := [(60, (-3))]
def am_W_256 : List (Int × Int) := [(41, 36), (62, (-3)), (63, (-3))]
def am_W_257 : List (Int × Int) := [(41, 36), (62, (-3)), (63, (-3))]
def am_W_258 : List (Int × Int) := [(41, 36), (62, (-3)), (63, (-3))]
def am_W_259 : List (Int × Int) := []
def am_W_260 : List (Int × Int) := []
def am_W_261 : List (Int × Int) := []
def am_W_262 : List (Int × Int) := []
def am_W_263 : List (Int × Int) := []
def am_W_264 : List (Int × Int) := [(41, 36), (41, 39), (62, (-3)), (63, (-3)), (64, (-3))]
def am_W_265 : List (Int × Int) := [(41, 36), (41, 39), (62, (-3)), (63, (-3)), (64, (-3))]
def am_W_266 : List (Int × Int) := [(41, 36), (62, (-3)), (63, (-3)), (64, (-3))]
def am_W_267 : List (Int × Int) := [(41, 36), (41, 39), (62, (-3)), (63, (-3)), (64, (-3))]
def am_W_268 : List (Int × Int) := [(41, 40), (65, (-3)), (66, (-3)), (67, (-3))]
def am_W_269 : List (Int × Int) := [(67, (-3))]
def am_W_270 : List (Int × Int) := []
def am_W_271 : List (Int × Int) := []
def am_W_272 : List (Int × Int) := []
def am_W_273 : List (Int × Int) := []
def am_W_274 : List (Int × Int) := []
def am_W_275 : List (Int × Int) := []
def am_W_276 : List (Int × Int) := []
def am_W_277 : List (Int × Int) := []
def am_W_278 : List (Int × Int) := [(41, 1), (41, 45), (42, (-3)), (68, (-3))]
def am_W_279 : List (Int × Int) := []
def am_W_280 : List (Int × Int) := [(41, 45), (68, (-3))]
def am_W_281 : List (Int × Int) := [(42, (-3))]
def am_W_282 : List (Int × Int) := [(41, 3), (41, 12), (41, 13), (41, 14), (41, 15), (41, 16), (41, 17), (41, 18), (41, 46), (41, 53), (41, 54), (41, 55), (41, 56), (69, (-3)), (70, (-3)), (71, (-3)), (72, (-3)), (73, (-3)), (74, (-3))]
def am_W_283 : List (Int × Int) := [(41, 12), (41, 13), (41, 14), (41, 15), (41, 16), (41, 17), (41, 18), (41, 53), (41, 55), (41, 56), (71, (-3)), (72, (-3)), (73, (-3)), (74, (-3))]
def am_W_284 : List (Int × Int) := [(41, 16), (41, 17), (41, 18), (41, 55)]
def am_W_285 : List (Int × Int) := []
def am_W_286 : List (Int × Int) := [(41, 12), (41, 13), (41, 14), (41, 15), (41, 16), (41, 17), (41, 18), (41, 53), (41, 55), (41, 56), (71, (-3)), (72, (-3)), (73, (-3)), (74, (-3))]
def am_W_287 : List (Int × Int) := [(41, 12), (41, 13), (41, 14), (41, 15), (41, 16), (41, 17), (41, 18), (41, 53), (41, 55), (41, 56), (71, (-3)), (72, (-3)), (73, (-3)), (74, (-3))]
def am_W_288 : List (Int × Int) := [(41, 16), (41, 17), (41, 18), (41, 56)]
def am_W_289 : List (Int × Int) := [(41, 53), (71, (-3)), (72, (-3)), (73, (-3)), (74, (-3))]
def am_W_290 : List (Int × Int) := [(41, 12), (41, 13), (41, 14), (41, 15), (41, 16), (41, 17), (41, 18), (41, 53), (41, 55), (41, 56), (71, (-3)), (72, (-3)), (73, (-3)), (74, (-3))]
def am_W_291 : List (Int × Int) := [(41, 12), (41, 13), (41, 14), (41, 15), (41, 16), (41, 17), (41, 18), (41, 53), (41, 55), (41, 56), (71, (-3)), (72, (-3)), (73, (-3)), (74, (-3))]
def am_W_292 : List (Int × Int) := [(41, 12), (41, 13), (41, 14), (41, 15), (41, 16), (41, 17), (41, 18), (41, 53), (41, 55), (41, 56), (71, (-3)), (72, (-3)), (73, (-3)), (74, (-3))]
def am_W_293 : List (Int × Int) := [(41, 12), (41, 13), (41, 14), (41, 15), (41, 16), (41, 17), (41, 18), (41, 53), (41, 55), (41, 56), (71, (-3)), (72, (-3)), (73, (-3)), (74, (-3))]
def am_W_294 : List (Int × Int) := [(41, 12), (41, 13), (41, 14), (41, 15), (41, 16), (41, 17), (41, 18)]
def am_W_295 : List (Int × Int) := [(41, 12), (41, 13), (41, 14), (41, 15), (41, 16), (41, 17), (41, 18), (41, 53), (41, 55), (41, 56), (71, (-3)), (72, (-3)), (73, (-3)), (74, (-3))]
def am_W_296 : List (Int × Int) := [(41, 53), (71, (-3)), (72, (-3)), (73, (-3)), (74, (-3))]
def am_W_297 : List (Int × Int) := [(41, 57), (41, 58), (41, 59), (41, 60), (41, 61), (41, 62), (41, 63)]
def am_W_298 : List (Int × Int) := [(41, 57), (41, 58), (41, 59), (41, 60), (41, 61)]
def am_W_299 : List (Int × Int) := [(41, 57), (41, 58), (41, 59), (41, 60)]
def am_W_300 : List (Int × Int) := [(41, 57), (41, 58), (41, 59), (41, 60)]
def am_W_301 : List (Int × Int) := [(41, 57), (41, 58)]
def am_W_302 : List (Int × Int) := [(41, 59), (41, 60)]
def am_W_303 : List (Int × Int) := [(41, 57), (41, 58), (41, 59), (41, 60)]
def am_W_304 : List (Int × Int) := [(41, 57), (41, 58), (41, 59), (41, 60)]
def am_W_305 : List (Int × Int) := [(41, 59), (41, 60)]
def am_W_306 : List (Int × Int) := []
def am_W_307 : List (Int × Int) := []
def am_W_308 : List (Int × Int) := [(41, 1), (42, (-3))]
def am_W_309 : List (Int × Int) := []
def am_W_310 : List (Int × Int) := []
def am_W_311 : List (Int × Int) := [(41, 57), (41, 58), (41, 59), (41, 60), (41, 61), (42, (-3))]
def am_W_312 : List (Int × Int) := []
def am_W_313 : List (Int × Int) := []
def am_W_314 : List (Int × Int) := [(41, 57), (41, 58), (41, 59), (41, 60), (41, 61)]
def am_W_315 : List (Int × Int) := [(41, 57), (41, 58), (41, 59), (41, 60), (41, 61), (42, (-3))]
def am_W_316 : List (Int × Int) := [(41, 57), (41, 58), (41, 59), (41, 60), (41, 61), (41, 67), (42, (-3))]
def am_W_317 : List (Int × Int) := []
def am_W_318 : List (Int × Int) := []
def am_W_319 : List (Int × Int) := []
def am_W_320 : List (Int × Int) := []
def am_W_321 : List (Int × Int) := []
def am_W_322 : List (Int × Int) := []
def am_W_323 : List (Int × Int) := [(1, 5), (1, 32), (1, 33), (5, (-3))]
def am_W_324 : List (Int × Int) := []
def am_W_325 : List (Int × Int) := []
def am_W_326 : List (Int × Int) := []
def am_W_327 : List (Int × Int) := []
def am_W_328 : List (Int × Int) := []
def am_W_329 : List (Int × Int) := []
def am_W_330 : List (Int × Int) := []
def am_W_331 : List (Int × Int) := []
def am_W_332 : List (Int × Int) := []
def am_W_333 : List (Int × Int) := []
def am_W_334 : List (Int × Int) := []
def am_W_335 : List (Int × Int) := []
def am_W (y : Nat) : List (Int × Int) := (bif Nat.ble y 171 then (bif Nat.ble y 89 then (bif Nat.ble y 48 then (bif Nat.ble y 27 then (bif Nat.ble y 10 then (bif Nat.ble y 5 then (bif Nat.ble y 2 then (bif Nat.ble y 1 then am_W_1 else am_W_2) else (bif Nat.ble y 3 then am_W_3 else (bif Nat.ble y 4 then am_W_4 else am_W_5))) else (bif Nat.ble y 7 then (bif Nat.ble y 6 then am_W_6 else am_W_7) else (bif Nat.ble y 8 then am_W_8 else (bif Nat.ble y 9 then am_W_9 else am_W_10)))) else (bif Nat.ble y 22 then (bif Nat.ble y 12 then (bif Nat.ble y 11 then am_W_11 else am_W_12) else (bif Nat.ble y 20 then am_W_20 else (bif Nat.ble y 21 then am_W_21 else am_W_22))) else (bif Nat.ble y 24 then (bif Nat.ble y 23 then am_W_23 else am_W_24) else (bif Nat.ble y 25 then am_W_25 else (bif Nat.ble y 26 then am_W_26 else am_W_27))))) else (bif Nat.ble y 37 then (bif Nat.ble y 32 then (bif Nat.ble y 29 then (bif Nat.ble y 28 then am_W_28 else am_W_29) else (bif Nat.ble y 30 then am_W_30 else (bif Nat.ble y 31 then am_W_31 else am_W_32))) else (bif Nat.ble y 34 then (bif Nat.ble y 33 then am_W_33 else am_W_34) else (bif Nat.ble y 35 then am_W_35 else (bif Nat.ble y 36 then am_W_36 else am_W_37)))) else (bif Nat.ble y 42 then (bif Nat.ble y 39 then (bif Nat.ble y 38 then am_W_38 else am_W_39) else (bif Nat.ble y 40 then am_W_40 else (bif Nat.ble y 41 then am_W_41 else am_W_42))) else (bif Nat.ble y 45 then (bif Nat.ble y 43 then am_W_43 else (bif Nat.ble y 44 then am_W_44 else am_W_45)) else (bif Nat.ble y 46 then am_W_46 else (bif Nat.ble y 47 then am_W_47 else am_W_48)))))) else (bif Nat.ble y 68 then (bif Nat.ble y 58 then (bif Nat.ble y 53 then (bif Nat.ble y 50 then (bif Nat.ble y 49 then am_W_49 else am_W_50) else (bif Nat.ble y 51 then am_W_51 else (bif Nat.ble y 52 then am_W_52 else am_W_53))) else (bif Nat.ble y 55 then (bif Nat.ble y 54 then am_W_54 else am_W_55) else (bif Nat.ble y 56 then am_W_56 else (bif Nat.ble y 57 then am_W_57 else am_W_58)))) else (bif Nat.ble y 63 then (bif Nat.ble y 60 then (bif Nat.ble y 59 then am_W_59 else am_W_60) else (bif Nat.ble y 61 then am_W_61 else (bif Nat.ble y 62 then am_W_62 else am_W_63))) else (bif Nat.ble y 65 then (bif Nat.ble y 64 then am_W_64 else am_W_65) else (bif Nat.ble y 66 then am_W_66 else (bif Nat.ble y 67 then am_W_67 else am_W_68))))) else (bif Nat.ble y 78 then (bif Nat.ble y 73 then (bif Nat.ble y 70 then (bif Nat.ble y 69 then am_W_69 else am_W_70) else (bif Nat.ble y 71 then am_W_71 else (bif Nat.ble y 72 then am_W_72 else am_W_73))) else (bif Nat.ble y 75 then (bif Nat.ble y 74 then am_W_74 else am_W_75) else (bif Nat.ble y 76 then am_W_76 else (bif Nat.ble y 77 then am_W_77 else am_W_78)))) else (bif Nat.ble y 83 then (bif Nat.ble y 80 then (bif Nat.ble y 79 then am_W_79 else am_W_80) else (bif Nat.ble y 81 then am_W_81 else (bif Nat.ble y 82 then am_W_82 else am_W_83))) else (bif Nat.ble y 86 then (bif Nat.ble y 84 then am_W_84 else (bif Nat.ble y 85 then am_W_85 else am_W_86)) else (bif Nat.ble y 87 then am_W_87 else (bif Nat.ble y 88 then am_W_88 else am_W_89))))))) else (bif Nat.ble y 130 then (bif Nat.ble y 109 then (bif Nat.ble y 99 then (bif Nat.ble y 94 then (bif Nat.ble y 91 then (bif Nat.ble y 90 then am_W_90 else am_W_91) else (bif Nat.ble y 92 then am_W_92 else (bif Nat.ble y 93 then am_W_93 else am_W_94))) else (bif Nat.ble y 96 then (bif Nat.ble y 95 then am_W_95 else am_W_96) else (bif Nat.ble y 97 then am_W_97 else (bif Nat.ble y 98 then am_W_98 else am_W_99)))) else (bif Nat.ble y 104 then (bif Nat.ble y 101 then (bif Nat.ble y 100 then am_W_100 else am_W_101) else (bif Nat.ble y 102 then am_W_102 else (bif Nat.ble y 103 then am_W_103 else am_W_104))) else (bif Nat.ble y 106 then (bif Nat.ble y 105 then am_W_105 else am_W_106) else (bif Nat.ble y 107 then am_W_107 else (bif Nat.ble y 108 then am_W_108 else am_W_109))))) else (bif Nat.ble y 119 then (bif Nat.ble y 114 then (bif Nat.ble y 111 then (bif Nat.ble y 110 then am_W_110 else am_W_111) else (bif Nat.ble y 112 then am_W_112 else (bif Nat.ble y 113 then am_W_113 else am_W_114))) else (bif Nat.ble y 116 then (bif Nat.ble y 115 then am_W_115 else am_W_116) else (bif Nat.ble y 117 then am_W_117 else (bif Nat.ble y 118 then am_W_118 else am_W_119)))) else (bif Nat.ble y 124 then (bif Nat.ble y 121 then (bif Nat.ble y 120 then am_W_120 else am_W_121) else (bif Nat.ble y 122 then am_W_122 else (bif Nat.ble y 123 then am_W_123 else am_W_124))) else (bif Nat.ble y 127 then (bif Nat.ble y 125 then am_W_125 else (bif Nat.ble y 126 then am_W_126 else am_W_127)) else (bif Nat.ble y 128 then am_W_128 else (bif Nat.ble y 129 then am_W_129 else am_W_130)))))) else (bif Nat.ble y 150 then (bif Nat.ble y 140 then (bif Nat.ble y 135 then (bif Nat.ble y 132 then (bif Nat.ble y 131 then am_W_131 else am_W_132) else (bif Nat.ble y 133 then am_W_133 else (bif Nat.ble y 134 then am_W_134 else am_W_135))) else (bif Nat.ble y 137 then (bif Nat.ble y 136 then am_W_136 else am_W_137) else (bif Nat.ble y 138 then am_W_138 else (bif Nat.ble y 139 then am_W_139 else am_W_140)))) else (bif Nat.ble y 145 then (bif Nat.ble y 142 then (bif Nat.ble y 141 then am_W_141 else am_W_142) else (bif Nat.ble y 143 then am_W_143 else (bif Nat.ble y 144 then am_W_144 else am_W_145))) else (bif Nat.ble y 147 then (bif Nat.ble y 146 then am_W_146 else am_W_147) else (bif Nat.ble y 148 then am_W_148 else (bif Nat.ble y 149 then am_W_149 else am_W_150))))) else (bif Nat.ble y 160 then (bif Nat.ble y 155 then (bif Nat.ble y 152 then (bif Nat.ble y 151 then am_W_151 else am_W_152) else (bif Nat.ble y 153 then am_W_153 else (bif Nat.ble y 154 then am_W_154 else am_W_155))) else (bif Nat.ble y 157 then (bif Nat.ble y 156 then am_W_156 else am_W_157) else (bif Nat.ble y 158 then am_W_158 else (bif Nat.ble y 159 then am_W_159 else am_W_160)))) else (bif Nat.ble y 165 then (bif Nat.ble y 162 then (bif Nat.ble y 161 then am_W_161 else am_W_162) else (bif Nat.ble y 163 then am_W_163 else (bif Nat.ble y 164 then am_W_164 else am_W_165))) else (bif Nat.ble y 168 then (bif Nat.ble y 166 then am_W_166 else (bif Nat.ble y 167 then am_W_167 else am_W_168)) else (bif Nat.ble y 169 then am_W_169 else (bif Nat.ble y 170 then am_W_170 else am_W_171)))))))) else (bif Nat.ble y 253 then (bif Nat.ble y 212 then (bif Nat.ble y 191 then (bif Nat.ble y 181 then (bif Nat.ble y 176 then (bif Nat.ble y 173 then (bif Nat.ble y 172 then am_W_172 else am_W_173) else (bif Nat.ble y 174 then am_W_174 else (bif Nat.ble y 175 then am_W_175 else am_W_176))) else (bif Nat.ble y 178 then (bif Nat.ble y 177 then am_W_177 else am_W_178) else (bif Nat.ble y 179 then am_W_179 else (bif Nat.ble y 180 then am_W_180 else am_W_181)))) else (bif Nat.ble y 186 then (bif Nat.ble y 183 then (bif Nat.ble y 182 then am_W_182 else am_W_183) else (bif Nat.ble y 184 then am_W_184 else (bif Nat.ble y 185 then am_W_185 else am_W_186))) else (bif Nat.ble y 188 then (bif Nat.ble y 187 then am_W_187 else am_W_188) else (bif Nat.ble y 189 then am_W_189 else (bif Nat.ble y 190 then am_W_190 else am_W_191))))) else (bif Nat.ble y 201 then (bif Nat.ble y 196 then (bif Nat.ble y 193 then (bif Nat.ble y 192 then am_W_192 else am_W_193) else (bif Nat.ble y 194 then am_W_194 else (bif Nat.ble y 195 then am_W_195 else am_W_196))) else (bif Nat.ble y 198 then (bif Nat.ble y 197 then am_W_197 else am_W_198) else (bif Nat.ble y 199 then am_W_199 else (bif Nat.ble y 200 then am_W_200 else am_W_201)))) else (bif Nat.ble y 206 then (bif Nat.ble y 203 then (bif Nat.ble y 202 then am_W_202 else am_W_203) else (bif Nat.ble y 204 then am_W_204 else (bif Nat.ble y 205 then am_W_205 else am_W_206))) else (bif Nat.ble y 209 then (bif Nat.ble y 207 then am_W_207 else (bif Nat.ble y 208 then am_W_208 else am_W_209)) else (bif Nat.ble y 210 then am_W_210 else (bif Nat.ble y 211 then am_W_211 else am_W_212)))))) else (bif Nat.ble y 232 then (bif Nat.ble y 222 then (bif Nat.ble y 217 then (bif Nat.ble y 214 then (bif Nat.ble y 213 then am_W_213 else am_W_214) else (bif Nat.ble y 215 then am_W_215 else (bif Nat.ble y 216 then am_W_216 else am_W_217))) else (bif Nat.ble y 219 then (bif Nat.ble y 218 then am_W_218 else am_W_219) else (bif Nat.ble y 220 then am_W_220 else (bif Nat.ble y 221 then am_W_221 else am_W_222)))) else (bif Nat.ble y 227 then (bif Nat.ble y 224 then (bif Nat.ble y 223 then am_W_223 else am_W_224) else (bif Nat.ble y 225 then am_W_225 else (bif Nat.ble y 226 then am_W_226 else am_W_227))) else (bif Nat.ble y 229 then (bif Nat.ble y 228 then am_W_228 else am_W_229) else (bif Nat.ble y 230 then am_W_230 else (bif Nat.ble y 231 then am_W_231 else am_W_232))))) else (bif Nat.ble y 242 then (bif Nat.ble y 237 then (bif Nat.ble y 234 then (bif Nat.ble y 233 then am_W_233 else am_W_234) else (bif Nat.ble y 235 then am_W_235 else (bif Nat.ble y 236 then am_W_236 else am_W_237))) else (bif Nat.ble y 239 then (bif Nat.ble y 238 then am_W_238 else am_W_239) else (bif Nat.ble y 240 then am_W_240 else (bif Nat.ble y 241 then am_W_241 else am_W_242)))) else (bif Nat.ble y 247 then (bif Nat.ble y 244 then (bif Nat.ble y 243 then am_W_243 else am_W_244) else (bif Nat.ble y 245 then am_W_245 else (bif Nat.ble y 246 then am_W_246 else am_W_247))) else (bif Nat.ble y 250 then (bif Nat.ble y 248 then am_W_248 else (bif Nat.ble y 249 then am_W_249 else am_W_250)) else (bif Nat.ble y 251 then am_W_251 else (bif Nat.ble y 252 then am_W_252 else am_W_253))))))) else (bif Nat.ble y 294 then (bif Nat.ble y 273 then (bif Nat.ble y 263 then (bif Nat.ble y 258 then (bif Nat.ble y 255 then (bif Nat.ble y 254 then am_W_254 else am_W_255) else (bif Nat.ble y 256 then am_W_256 else (bif Nat.ble y 257 then am_W_257 else am_W_258))) else (bif Nat.ble y 260 then (bif Nat.ble y 259 then am_W_259 else am_W_260) else (bif Nat.ble y 261 then am_W_261 else (bif Nat.ble y 262 then am_W_262 else am_W_263)))) else (bif Nat.ble y 268 then (bif Nat.ble y 265 then (bif Nat.ble y 264 then am_W_264 else am_W_265) else (bif Nat.ble y 266 then am_W_266 else (bif Nat.ble y 267 then am_W_267 else am_W_268))) else (bif Nat.ble y 270 then (bif Nat.ble y 269 then am_W_269 else am_W_270) else (bif Nat.ble y 271 then am_W_271 else (bif Nat.ble y 272 then am_W_272 else am_W_273))))) else (bif Nat.ble y 283 then (bif Nat.ble y 278 then (bif Nat.ble y 275 then (bif Nat.ble y 274 then am_W_274 else am_W_275) else (bif Nat.ble y 276 then am_W_276 else (bif Nat.ble y 277 then am_W_277 else am_W_278))) else (bif Nat.ble y 280 then (bif Nat.ble y 279 then am_W_279 else am_W_280) else (bif Nat.ble y 281 then am_W_281 else (bif Nat.ble y 282 then am_W_282 else am_W_283)))) else (bif Nat.ble y 288 then (bif Nat.ble y 285 then (bif Nat.ble y 284 then am_W_284 else am_W_285) else (bif Nat.ble y 286 then am_W_286 else (bif Nat.ble y 287 then am_W_287 else am_W_288))) else (bif Nat.ble y 291 then (bif Nat.ble y 289 then am_W_289 else (bif Nat.ble y 290 then am_W_290 else am_W_291)) else (bif Nat.ble y 292 then am_W_292 else (bif Nat.ble y 293 then am_W_293 else am_W_294)))))) else (bif Nat.ble y 314 then (bif Nat.ble y 304 then (bif Nat.ble y 299 then (bif Nat.ble y 296 then (bif Nat.ble y 295 then am_W_295 else am_W_296) else (bif Nat.ble y 297 then am_W_297 else (bif Nat.ble y 298 then am_W_298 else am_W_299))) else (bif Nat.ble y 301 then (bif Nat.ble y 300 then am_W_300 else am_W_301) else (bif Nat.ble y 302 then am_W_302 else (bif Nat.ble y 303 then am_W_303 else am_W_304)))) else (bif Nat.ble y 309 then (bif Nat.ble y 306 then (bif Nat.ble y 305 then am_W_305 else am_W_306) else (bif Nat.ble y 307 then am_W_307 else (bif Nat.ble y 308 then am_W_308 else am_W_309))) else (bif Nat.ble y 311 then (bif Nat.ble y 310 then am_W_310 else am_W_311) else (bif Nat.ble y 312 then am_W_312 else (bif Nat.ble y 313 then am_W_313 else am_W_314))))) else (bif Nat.ble y 324 then (bif Nat.ble y 319 then (bif Nat.ble y 316 then (bif Nat.ble y 315 then am_W_315 else am_W_316) else (bif Nat.ble y 317 then am_W_317 else (bif Nat.ble y 318 then am_W_318 else am_W_319))) else (bif Nat.ble y 321 then (bif Nat.ble y 320 then am_W_320 else am_W_321) else (bif Nat.ble y 322 then am_W_322 else (bif Nat.ble y 323 then am_W_323 else am_W_324)))) else (bif Nat.ble y 329 then (bif Nat.ble y 326 then (bif Nat.ble y 325 then am_W_325 else am_W_326) else (bif Nat.ble y 327 then am_W_327 else (bif Nat.ble y 328 then am_W_328 else am_W_329))) else (bif Nat.ble y 332 then (bif Nat.ble y 330 then am_W_330 else (bif Nat.ble y 331 then am_W_331 else am_W_332)) else (bif Nat.ble y 333 then am_W_333 else (bif Nat.ble y 334 then am_W_334 else am_W_335)))))))))
def am_D (y : Nat) : List Int := (bif Nat.ble y 171 then (bif Nat.ble y 89 then (bif Nat.ble y 48 then (bif Nat.ble y 27 then (bif Nat.ble y 10 then (bif Nat.ble y 5 then (bif Nat.ble y 2 then (bif Nat.ble y 1 then [6] else [6]) else (bif Nat.ble y 3 then [6] else (bif Nat.ble y 4 then [6] else [6]))) else (bif Nat.ble y 7 then (bif Nat.ble y 6 then [6] else [6]) else (bif Nat.ble y 8 then [6] else (bif Nat.ble y 9 then [] else [])))) else (bif Nat.ble y 22 then (bif Nat.ble y 12 then (bif Nat.ble y 11 then [] else []) else (bif Nat.ble y 20 then [] else (bif Nat.ble y 21 then [] else []))) else (bif Nat.ble y 24 then (bif Nat.ble y 23 then [] else []) else (bif Nat.ble y 25 then [] else (bif Nat.ble y 26 then [] else []))))) else (bif Nat.ble y 37 then (bif Nat.ble y 32 then (bif Nat.ble y 29 then (bif Nat.ble y 28 then [] else []) else (bif Nat.ble y 30 then [1, 2, 3, 4, 5, 6, 7, 8, 9, 10, 11, 13, 14, 15, 16, 17, 40, 41, 44, 45] else (bif Nat.ble y 31 then [1, 2, 3, 4, 5, 7, 8, 44, 45] else [5, 7, 8, 45]))) else (bif Nat.ble y 34 then (bif Nat.ble y 33 then [5, 8] else []) else (bif Nat.ble y 35 then [] else (bif Nat.ble y 36 then [] else [])))) else (bif Nat.ble y 42 then (bif Nat.ble y 39 then (bif Nat.ble y 38 then [] else []) else (bif Nat.ble y 40 then [] else (bif Nat.ble y 41 then [40] else []))) else (bif Nat.ble y 45 then (bif Nat.ble y 43 then [4, 5, 7, 8, 10, 40, 45] else (bif Nat.ble y 44 then [40] else [4, 5, 7, 8, 10, 45])) else (bif Nat.ble y 46 then [5] else (bif Nat.ble y 47 then [] else [])))))) else (bif Nat.ble y 68 then (bif Nat.ble y 58 then (bif Nat.ble y 53 then (bif Nat.ble y 50 then (bif Nat.ble y 49 then [7, 8, 10] else [8]) else (bif Nat.ble y 51 then [10] else (bif Nat.ble y 52 then [] else []))) else (bif Nat.ble y 55 then (bif Nat.ble y 54 then [7, 45] else []) else (bif Nat.ble y 56 then [] else (bif Nat.ble y 57 then [] else [])))) else (bif Nat.ble y 63 then (bif Nat.ble y 60 then (bif Nat.ble y 59 then [] else []) else (bif Nat.ble y 61 then [] else (bif Nat.ble y 62 then [] else []))) else (bif Nat.ble y 65 then (bif Nat.ble y 64 then [] else []) else (bif Nat.ble y 66 then [] else (bif Nat.ble y 67 then [] else []))))) else (bif Nat.ble y 78 then (bif Nat.ble y 73 then (bif Nat.ble y 70 then (bif Nat.ble y 69 then [] else []) else (bif Nat.ble y 71 then [] else (bif Nat.ble y 72 then [] else []))) else (bif Nat.ble y 75 then (bif Nat.ble y 74 then [] else []) else (bif Nat.ble y 76 then [] else (bif Nat.ble y 77 then [] else [])))) else (bif Nat.ble y 83 then (bif Nat.ble y 80 then (bif Nat.ble y 79 then [] else []) else (bif Nat.ble y 81 then [] else (bif Nat.ble y 82 then [] else []))) else (bif Nat.ble y 86 then (bif Nat.ble y 84 then [] else (bif Nat.ble y 85 then [] else [])) else (bif Nat.ble y 87 then [] else (bif Nat.ble y 88 then [] else []))))))) else (bif Nat.ble y 130 then (bif Nat.ble y 109 then (bif Nat.ble y 99 then (bif Nat.ble y 94 then (bif Nat.ble y 91 then (bif Nat.ble y 90 then [] else []) else (bif Nat.ble y 92 then [] else (bif Nat.ble y 93 then [11] else []))) else (bif Nat.ble y 96 then (bif Nat.ble y 95 then [] else [11]) else (bif Nat.ble y 97 then [] else (bif Nat.ble y 98 then [] else [])))) else (bif Nat.ble y 104 then (bif Nat.ble y 101 then (bif Nat.ble y 100 then [] else []) else (bif Nat.ble y 102 then [] else (bif Nat.ble y 103 then [] else []))) else (bif Nat.ble y 106 then (bif Nat.ble y 105 then [] else []) else (bif Nat.ble y 107 then [] else (bif Nat.ble y 108 then [] else []))))) else (bif Nat.ble y 119 then (bif Nat.ble y 114 then (bif Nat.ble y 111 then (bif Nat.ble y 110 then [] else []) else (bif Nat.ble y 112 then [] else (bif Nat.ble y 113 then [] else []))) else (bif Nat.ble y 116 then (bif Nat.ble y 115 then [4, 5, 7, 8, 10, 45] else []) else (bif Nat.ble y 117 then [5, 8, 10] else (bif Nat.ble y 118 then [] else [5, 8, 10])))) else (bif Nat.ble y 124 then (bif Nat.ble y 121 then (bif Nat.ble y 120 then [5, 8, 10] else [5, 8, 10]) else (bif Nat.ble y 122 then [13, 14, 15, 16, 17, 40] else (bif Nat.ble y 123 then [13, 14, 15, 16, 17] else []))) else (bif Nat.ble y 127 then (bif Nat.ble y 125 then [] else (bif Nat.ble y 126 then [13, 14, 15, 16, 17] else [13, 14, 15, 16, 17])) else (bif Nat.ble y 128 then [] else (bif Nat.ble y 129 then [13, 14, 15, 16, 17] else [13, 14, 15, 16, 17])))))) else (bif Nat.ble y 150 then (bif Nat.ble y 140 then (bif Nat.ble y 135 then (bif Nat.ble y 132 then (bif Nat.ble y 131 then [13, 14, 15, 16, 17] else [6]) else (bif Nat.ble y 133 then [6] else (bif Nat.ble y 134 then [6] else []))) else (bif Nat.ble y 137 then (bif Nat.ble y 136 then [] else [4, 5, 7, 8, 10, 45]) else (bif Nat.ble y 138 then [] else (bif Nat.ble y 139 then [] else [])))) else (bif Nat.ble y 145 then (bif Nat.ble y 142 then (bif Nat.ble y 141 then [5, 6, 8] else [6]) else (bif Nat.ble y 143 then [5, 6, 8] else (bif Nat.ble y 144 then [5, 6, 8] else []))) else (bif Nat.ble y 147 then (bif Nat.ble y 146 then [] else [2]) else (bif Nat.ble y 148 then [40] else (bif Nat.ble y 149 then [] else []))))) else (bif Nat.ble y 160 then (bif Nat.ble y 155 then (bif Nat.ble y 152 then (bif Nat.ble y 151 then [] else []) else (bif Nat.ble y 153 then [] else (bif Nat.ble y 154 then [] else []))) else (bif Nat.ble y 157 then (bif Nat.ble y 156 then [] else []) else (bif Nat.ble y 158 then [] else (bif Nat.ble y 159 then [] else [])))) else (bif Nat.ble y 165 then (bif Nat.ble y 162 then (bif Nat.ble y 161 then [] else [4]) else (bif Nat.ble y 163 then [4, 5, 7, 8, 10, 45] else (bif Nat.ble y 164 then [5] else []))) else (bif Nat.ble y 168 then (bif Nat.ble y 166 then [5] else (bif Nat.ble y 167 then [] else [])) else (bif Nat.ble y 169 then [] else (bif Nat.ble y 170 then [] else [])))))))) else (bif Nat.ble y 253 then (bif Nat.ble y 212 then (bif Nat.ble y 191 then (bif Nat.ble y 181 then (bif Nat.ble y 176 then (bif Nat.ble y 173 then (bif Nat.ble y 172 then [7, 8, 10] else [6]) else (bif Nat.ble y 174 then [8] else (bif Nat.ble y 175 then [] else []))) else (bif Nat.ble y 178 then (bif Nat.ble y 177 then [] else []) else (bif Nat.ble y 179 then [9, 41] else (bif Nat.ble y 180 then [] else [])))) else (bif Nat.ble y 186 then (bif Nat.ble y 183 then (bif Nat.ble y 182 then [] else []) else (bif Nat.ble y 184 then [] else (bif Nat.ble y 185 then [] else []))) else (bif Nat.ble y 188 then (bif Nat.ble y 187 then [] else []) else (bif Nat.ble y 189 then [] else (bif Nat.ble y 190 then [] else []))))) else (bif Nat.ble y 201 then (bif Nat.ble y 196 then (bif Nat.ble y 193 then (bif Nat.ble y 192 then [] else []) else (bif Nat.ble y 194 then [] else (bif Nat.ble y 195 then [] else []))) else (bif Nat.ble y 198 then (bif Nat.ble y 197 then [] else []) else (bif Nat.ble y 199 then [] else (bif Nat.ble y 200 then [] else [])))) else (bif Nat.ble y 206 then (bif Nat.ble y 203 then (bif Nat.ble y 202 then [] else []) else (bif Nat.ble y 204 then [] else (bif Nat.ble y 205 then [] else []))) else (bif Nat.ble y 209 then (bif Nat.ble y 207 then [] else (bif Nat.ble y 208 then [] else [])) else (bif Nat.ble y 210 then [] else (bif Nat.ble y 211 then [] else [])))))) else (bif Nat.ble y 232 then (bif Nat.ble y 222 then (bif Nat.ble y 217 then (bif Nat.ble y 214 then (bif Nat.ble y 213 then [] else []) else (bif Nat.ble y 215 then [] else (bif Nat.ble y 216 then [] else []))) else (bif Nat.ble y 219 then (bif Nat.ble y 218 then [] else []) else (bif Nat.ble y 220 then [] else (bif Nat.ble y 221 then [] else [])))) else (bif Nat.ble y 227 then (bif Nat.ble y 224 then (bif Nat.ble y 223 then [] else []) else (bif Nat.ble y 225 then [] else (bif Nat.ble y 226 then [] else []))) else (bif Nat.ble y 229 then (bif Nat.ble y 228 then [] else []) else (bif Nat.ble y 230 then [] else (bif Nat.ble y 231 then [] else []))))) else (bif Nat.ble y 242 then (bif Nat.ble y 237 then (bif Nat.ble y 234 then (bif Nat.ble y 233 then [] else []) else (bif Nat.ble y 235 then [] else (bif Nat.ble y 236 then [] else []))) else (bif Nat.ble y 239 then (bif Nat.ble y 238 then [] else []) else (bif Nat.ble y 240 then [] else (bif Nat.ble y 241 then [] else [])))) else (bif Nat.ble y 247 then (bif Nat.ble y 244 then (bif Nat.ble y 243 then [] else []) else (bif Nat.ble y 245 then [] else (bif Nat.ble y 246 then [] else []))) else (bif Nat.ble y 250 then (bif Nat.ble y 248 then [] else (bif Nat.ble y 249 then [] else [])) else (bif Nat.ble y 251 then [] else (bif Nat.ble y 252 then [] else []))))))) else (bif Nat.ble y 294 then (bif Nat.ble y 273 then (bif Nat.ble y 263 then (bif Nat.ble y 258 then (bif Nat.ble y 255 then (bif Nat.ble y 254 then [] else []) else (bif Nat.ble y 256 then [] else (bif Nat.ble y 257 then [] else []))) else (bif Nat.ble y 260 then (bif Nat.ble y 259 then [] else []) else (bif Nat.ble y 261 then [] else (bif Nat.ble y 262 then [] else [])))) else (bif Nat.ble y 268 then (bif Nat.ble y 265 then (bif Nat.ble y 264 then [] else []) else (bif Nat.ble y 266 then [] else (bif Nat.ble y 267 then [] else []))) else (bif Nat.ble y 270 then (bif Nat.ble y 269 then [] else []) else (bif Nat.ble y 271 then [] else (bif Nat.ble y 272 then [] else []))))) else (bif Nat.ble y 283 then (bif Nat.ble y 278 then (bif Nat.ble y 275 then (bif Nat.ble y 274 then [] else []) else (bif Nat.ble y 276 then [] else (bif Nat.ble y 277 then [] else []))) else (bif Nat.ble y 280 then (bif Nat.ble y 279 then [] else []) else (bif Nat.ble y 281 then [] else (bif Nat.ble y 282 then [] else [])))) else (bif Nat.ble y 288 then (bif Nat.ble y 285 then (bif Nat.ble y 284 then [] else []) else (bif Nat.ble y 286 then [] else (bif Nat.ble y 287 then [] else []))) else (bif Nat.ble y 291 then (bif Nat.ble y 289 then [] else (bif Nat.ble y 290 then [] else [])) else (bif Nat.ble y 292 then [] else (bif Nat.ble y 293 then [] else [])))))) else (bif Nat.ble y 314 then (bif Nat.ble y 304 then (bif Nat.ble y 299 then (bif Nat.ble y 296 then (bif Nat.ble y 295 then [] else []) else (bif Nat.ble y 297 then [] else (bif Nat.ble y 298 then [] else []))) else (bif Nat.ble y 301 then (bif Nat.ble y 300 then [] else []) else (bif Nat.ble y 302 then [] else (bif Nat.ble y 303 then [] else [])))) else (bif Nat.ble y 309 then (bif Nat.ble y 306 then (bif Nat.ble y 305 then [] else []) else (bif Nat.ble y 307 then [] else (bif Nat.ble y 308 then [] else []))) else (bif Nat.ble y 311 then (bif Nat.ble y 310 then [] else []) else (bif Nat.ble y 312 then [] else (bif Nat.ble y 313 then [] else []))))) else (bif Nat.ble y 324 then (bif Nat.ble y 319 then (bif Nat.ble y 316 then (bif Nat.ble y 315 then [] else []) else (bif Nat.ble y 317 then [] else (bif Nat.ble y 318 then [] else [10]))) else (bif Nat.ble y 321 then (bif Nat.ble y 320 then [11] else []) else (bif Nat.ble y 322 then [13, 14, 15, 16, 17] else (bif Nat.ble y 323 then [6] else [6])))) else (bif Nat.ble y 329 then (bif Nat.ble y 326 then (bif Nat.ble y 325 then [] else [6]) else (bif Nat.ble y 327 then [13, 14, 15, 16, 17] else (bif Nat.ble y 328 then [] else []))) else (bif Nat.ble y 332 then (bif Nat.ble y 330 then [6] else (bif Nat.ble y 331 then [6] else [13, 14, 15, 16, 17])) else (bif Nat.ble y 333 then [13, 14, 15, 16, 17] else (bif Nat.ble y 334 then [13, 14, 15, 16, 17] else [13, 14, 15, 16, 17])))))))))
def am_N (y : Nat) : Bool := (bif Nat.ble y 171 then (bif Nat.ble y 89 then (bif Nat.ble y 48 then (bif Nat.ble y 27 then (bif Nat.ble y 10 then (bif Nat.ble y 5 then (bif Nat.ble y 2 then (bif Nat.ble y 1 then true else false) else (bif Nat.ble y 3 then false else (bif Nat.ble y 4 then true else true))) else (bif Nat.ble y 7 then (bif Nat.ble y 6 then false else true) else (bif Nat.ble y 8 then false else (bif Nat.ble y 9 then false else false)))) else (bif Nat.ble y 22 then (bif Nat.ble y 12 then (bif Nat.ble y 11 then false else false) else (bif Nat.ble y 20 then false else (bif Nat.ble y 21 then false else false))) else (bif Nat.ble y 24 then (bif Nat.ble y 23 then false else false) else (bif Nat.ble y 25 then false else (bif Nat.ble y 26 then false else false))))) else (bif Nat.ble y 37 then (bif Nat.ble y 32 then (bif Nat.ble y 29 then (bif Nat.ble y 28 then false else false) else (bif Nat.ble y 30 then true else (bif Nat.ble y 31 then true else true))) else (bif Nat.ble y 34 then (bif Nat.ble y 33 then false else false) else (bif Nat.ble y 35 then false else (bif Nat.ble y 36 then false else false)))) else (bif Nat.ble y 42 then (bif Nat.ble y 39 then (bif Nat.ble y 38 then false else false) else (bif Nat.ble y 40 then false else (bif Nat.ble y 41 then false else false))) else (bif Nat.ble y 45 then (bif Nat.ble y 43 then true else (bif Nat.ble y 44 then false else true)) else (bif Nat.ble y 46 then true else (bif Nat.ble y 47 then false else false)))))) else (bif Nat.ble y 68 then (bif Nat.ble y 58 then (bif Nat.ble y 53 then (bif Nat.ble y 50 then (bif Nat.ble y 49 then true else true) else (bif Nat.ble y 51 then true else (bif Nat.ble y 52 then false else false))) else (bif Nat.ble y 55 then (bif Nat.ble y 54 then false else false) else (bif Nat.ble y 56 then false else (bif Nat.ble y 57 then false else true)))) else (bif Nat.ble y 63 then (bif Nat.ble y 60 then (bif Nat.ble y 59 then true else true) else (bif Nat.ble y 61 then false else (bif Nat.ble y 62 then false else false))) else (bif Nat.ble y 65 then (bif Nat.ble y 64 then true else true) else (bif Nat.ble y 66 then false else (bif Nat.ble y 67 then false else true))))) else (bif Nat.ble y 78 then (bif Nat.ble y 73 then (bif Nat.ble y 70 then (bif Nat.ble y 69 then false else false) else (bif Nat.ble y 71 then false else (bif Nat.ble y 72 then false else false))) else (bif Nat.ble y 75 then (bif Nat.ble y 74 then false else false) else (bif Nat.ble y 76 then true else (bif Nat.ble y 77 then true else true)))) else (bif Nat.ble y 83 then (bif Nat.ble y 80 then (bif Nat.ble y 79 then false else false) else (bif Nat.ble y 81 then false else (bif Nat.ble y 82 then false else false))) else (bif Nat.ble y 86 then (bif Nat.ble y 84 then false else (bif Nat.ble y 85 then false else false)) else (bif Nat.ble y 87 then false else (bif Nat.ble y 88 then false else false))))))) else (bif Nat.ble y 130 then (bif Nat.ble y 109 then (bif Nat.ble y 99 then (bif Nat.ble y 94 then (bif Nat.ble y 91 then (bif Nat.ble y 90 then false else true) else (bif Nat.ble y 92 then true else (bif Nat.ble y 93 then true else false))) else (bif Nat.ble y 96 then (bif Nat.ble y 95 then false else false) else (bif Nat.ble y 97 then false else (bif Nat.ble y 98 then false else false)))) else (bif Nat.ble y 104 then (bif Nat.ble y 101 then (bif Nat.ble y 100 then false else false) else (bif Nat.ble y 102 then false else (bif Nat.ble y 103 then false else false))) else (bif Nat.ble y 106 then (bif Nat.ble y 105 then false else false) else (bif Nat.ble y 107 then false else (bif Nat.ble y 108 then false else true))))) else (bif Nat.ble y 119 then (bif Nat.ble y 114 then (bif Nat.ble y 111 then (bif Nat.ble y 110 then false else true) else (bif Nat.ble y 112 then true else (bif Nat.ble y 113 then false else true))) else (bif Nat.ble y 116 then (bif Nat.ble y 115 then true else false) else (bif Nat.ble y 117 then false else (bif Nat.ble y 118 then false else false)))) else (bif Nat.ble y 124 then (bif Nat.ble y 121 then (bif Nat.ble y 120 then false else false) else (bif Nat.ble y 122 then true else (bif Nat.ble y 123 then true else false))) else (bif Nat.ble y 127 then (bif Nat.ble y 125 then false else (bif Nat.ble y 126 then true else true)) else (bif Nat.ble y 128 then false else (bif Nat.ble y 129 then true else true)))))) else (bif Nat.ble y 150 then (bif Nat.ble y 140 then (bif Nat.ble y 135 then (bif Nat.ble y 132 then (bif Nat.ble y 131 then true else true) else (bif Nat.ble y 133 then true else (bif Nat.ble y 134 then true else false))) else (bif Nat.ble y 137 then (bif Nat.ble y 136 then false else true) else (bif Nat.ble y 138 then false else (bif Nat.ble y 139 then false else false)))) else (bif Nat.ble y 145 then (bif Nat.ble y 142 then (bif Nat.ble y 141 then true else true) else (bif Nat.ble y 143 then true else (bif Nat.ble y 144 then true else false))) else (bif Nat.ble y 147 then (bif Nat.ble y 146 then false else true) else (bif Nat.ble y 148 then false else (bif Nat.ble y 149 then false else false))))) else (bif Nat.ble y 160 then (bif Nat.ble y 155 then (bif Nat.ble y 152 then (bif Nat.ble y 151 then false else false) else (bif Nat.ble y 153 then false else (bif Nat.ble y 154 then false else false))) else (bif Nat.ble y 157 then (bif Nat.ble y 156 then false else false) else (bif Nat.ble y 158 then false else (bif Nat.ble y 159 then false else false)))) else (bif Nat.ble y 165 then (bif Nat.ble y 162 then (bif Nat.ble y 161 then false else true) else (bif Nat.ble y 163 then true else (bif Nat.ble y 164 then true else false))) else (bif Nat.ble y 168 then (bif Nat.ble y 166 then true else (bif Nat.ble y 167 then false else false)) else (bif Nat.ble y 169 then false else (bif Nat.ble y 170 then false else false)))))))) else (bif Nat.ble y 253 then (bif Nat.ble y 212 then (bif Nat.ble y 191 then (bif Nat.ble y 181 then (bif Nat.ble y 176 then (bif Nat.ble y 173 then (bif Nat.ble y 172 then true else true) else (bif Nat.ble y 174 then true else (bif Nat.ble y 175 then false else false))) else (bif Nat.ble y 178 then (bif Nat.ble y 177 then false else false) else (bif Nat.ble y 179 then true else (bif Nat.ble y 180 then false else false)))) else (bif Nat.ble y 186 then (bif Nat.ble y 183 then (bif Nat.ble y 182 then false else false) else (bif Nat.ble y 184 then false else (bif Nat.ble y 185 then false else false))) else (bif Nat.ble y 188 then (bif Nat.ble y 187 then false else false) else (bif Nat.ble y 189 then false else (bif Nat.ble y 190 then false else false))))) else (bif Nat.ble y 201 then (bif Nat.ble y 196 then (bif Nat.ble y 193 then (bif Nat.ble y 192 then false else false) else (bif Nat.ble y 194 then false else (bif Nat.ble y 195 then false else false))) else (bif Nat.ble y 198 then (bif Nat.ble y 197 then false else false) else (bif Nat.ble y 199 then false else (bif Nat.ble y 200 then false else false)))) else (bif Nat.ble y 206 then (bif Nat.ble y 203 then (bif Nat.ble y 202 then false else false) else (bif Nat.ble y 204 then false else (bif Nat.ble y 205 then false else false))) else (bif Nat.ble y 209 then (bif Nat.ble y 207 then false else (bif Nat.ble y 208 then false else false)) else (bif Nat.ble y 210 then false else (bif Nat.ble y 211 then false else false)))))) else (bif Nat.ble y 232 then (bif Nat.ble y 222 then (bif Nat.ble y 217 then (bif Nat.ble y 214 then (bif Nat.ble y 213 then false else false) else (bif Nat.ble y 215 then false else (bif Nat.ble y 216 then false else false))) else (bif Nat.ble y 219 then (bif Nat.ble y 218 then false else false) else (bif Nat.ble y 220 then false else (bif Nat.ble y 221 then false else false)))) else (bif Nat.ble y 227 then (bif Nat.ble y 224 then (bif Nat.ble y 223 then false else false) else (bif Nat.ble y 225 then false else (bif Nat.ble y 226 then true else true))) else (bif Nat.ble y 229 then (bif Nat.ble y 228 then true else false) else (bif Nat.ble y 230 then true else (bif Nat.ble y 231 then false else true))))) else (bif Nat.ble y 242 then (bif Nat.ble y 237 then (bif Nat.ble y 234 then (bif Nat.ble y 233 then false else false) else (bif Nat.ble y 235 then false else (bif Nat.ble y 236 then false else false))) else (bif Nat.ble y 239 then (bif Nat.ble y 238 then false else false) else (bif Nat.ble y 240 then false else (bif Nat.ble y 241 then false else false)))) else (bif Nat.ble y 247 then (bif Nat.ble y 244 then (bif Nat.ble y 243 then false else false) else (bif Nat.ble y 245 then false else (bif Nat.ble y 246 then false else false))) else (bif Nat.ble y 250 then (bif Nat.ble y 248 then false else (bif Nat.ble y 249 then false else false)) else (bif Nat.ble y 251 then false else (bif Nat.ble y 252 then false else false))))))) else (bif Nat.ble y 294 then (bif Nat.ble y 273 then (bif Nat.ble y 263 then (bif Nat.ble y 258 then (bif Nat.ble y 255 then (bif Nat.ble y 254 then false else false) else (bif Nat.ble y 256 then false else (bif Nat.ble y 257 then false else false))) else (bif Nat.ble y 260 then (bif Nat.ble y 259 then false else false) else (bif Nat.ble y 261 then false else (bif Nat.ble y 262 then false else false)))) else (bif Nat.ble y 268 then (bif Nat.ble y 265 then (bif Nat.ble y 264 then false else false) else (bif Nat.ble y 266 then false else (bif Nat.ble y 267 then false else false))) else (bif Nat.ble y 270 then (bif Nat.ble y 269 then false else false) else (bif Nat.ble y 271 then false else (bif Nat.ble y 272 then false else false))))) else (bif Nat.ble y 283 then (bif Nat.ble y 278 then (bif Nat.ble y 275 then (bif Nat.ble y 274 then false else false) else (bif Nat.ble y 276 then false else (bif Nat.ble y 277 then false else false))) else (bif Nat.ble y 280 then (bif Nat.ble y 279 then false else false) else (bif Nat.ble y 281 then false else (bif Nat.ble y 282 then false else false)))) else (bif Nat.ble y 288 then (bif Nat.ble y 285 then (bif Nat.ble y 284 then false else false) else (bif Nat.ble y 286 then false else (bif Nat.ble y 287 then false else false))) else (bif Nat.ble y 291 then (bif Nat.ble y 289 then false else (bif Nat.ble y 290 then false else false)) else (bif Nat.ble y 292 then false else (bif Nat.ble y 293 then false else false)))))) else (bif Nat.ble y 314 then (bif Nat.ble y 304 then (bif Nat.ble y 299 then (bif Nat.ble y 296 then (bif Nat.ble y 295 then false else false) else (bif Nat.ble y 297 then true else (bif Nat.ble y 298 then true else true))) else (bif Nat.ble y 301 then (bif Nat.ble y 300 then true else false) else (bif Nat.ble y 302 then false else (bif Nat.ble y 303 then false else false)))) else (bif Nat.ble y 309 then (bif Nat.ble y 306 then (bif Nat.ble y 305 then false else false) else (bif Nat.ble y 307 then false else (bif Nat.ble y 308 then false else false))) else (bif Nat.ble y 311 then (bif Nat.ble y 310 then false else true) else (bif Nat.ble y 312 then false else (bif Nat.ble y 313 then false else true))))) else (bif Nat.ble y 324 then (bif Nat.ble y 319 then (bif Nat.ble y 316 then (bif Nat.ble y 315 then true else true) else (bif Nat.ble y 317 then false else (bif Nat.ble y 318 then false else true))) else (bif Nat.ble y 321 then (bif Nat.ble y 320 then false else false) else (bif Nat.ble y 322 then true else (bif Nat.ble y 323 then true else false)))) else (bif Nat.ble y 329 then (bif Nat.ble y 326 then (bif Nat.ble y 325 then true else false) else (bif Nat.ble y 327 then true else (bif Nat.ble y 328 then false else true))) else (bif Nat.ble y 332 then (bif Nat.ble y 330 then true else (bif Nat.ble y 331 then true else true)) else (bif Nat.ble y 333 then true else (bif Nat.ble y 334 then true else true)))))))))
/-- what method y may do -/
def am_fr (y : Nat) : aM → aM → Prop := am_fb (am_W y) (am_D y) (am_N y)
/-- a call of c by one that may W, D, N -/
def am_cc (W : List (Int × Int)) (D : List Int) (N : Bool) (c : Nat) : Bool := am_sub (am_W c) W && (am_D c).all (fun t => D.elem t) && (!(am_N c) || N)
theorem am_cc_ok {W : List (Int × Int)} {D : List Int} {N : Bool} {c : Nat} (h : am_cc W D N c = true) {m m' : aM} (k : am_fr c m m') : am_fb W D N m m' := by
  unfold am_cc at h
  simp only [Bool.and_eq_true, Bool.or_eq_true, Bool.not_eq_true'] at h
  refine am_fb.mono h.1.1 h.1.2 (fun q => ?_) k
  rcases h.2 with e | e
  · rw [e] at q; cases q
  · exact e
/-- one row of a table -/
def am_wc (W : List (Int × Int)) (D : List Int) (N : Bool) (e : aE) : Bool := match e with
  | (_, i, _, x, y, z) => match i with
    | .putfield _ => decide (0 ≤ y) && decide (0 < x) && (bif Nat.ble 4 z && Nat.ble z 7 then am_wm W x y else bif Nat.ble z 3 then (fr_tg x).all (fun t => D.elem t) else D.elem x)
    | .iastore => bif Nat.beq z 0 then D.elem 40 else decide (0 < x) && am_wa W x
    | .lastore => bif Nat.beq z 0 then D.elem 41 else decide (0 < x) && am_wa W x
    | .bastore => bif Nat.beq z 0 then D.elem 42 else decide (0 < x) && am_wa W x
    | .aastore => bif Nat.beq z 0 then D.elem (am_over x) else decide (0 < x) && am_wa W x
    | .new _ => N
    | .newarray _ => N
    | .anewarray _ => N
    | .ldiv => N
    | .checkcast _ => N
    | .iaload => (Nat.beq z 0 || Nat.beq z 1 || Nat.beq z 3) || N
    | .aaload => !(Nat.beq z 2 || Nat.beq z 3) || N
    | .getfield _ => !(Nat.ble 7 z) || N
    | .invokestatic _ => bif decide (x = -1) then D.elem 40 else bif decide (x = -2) then D.elem 45 else decide (x < 0) || (am_cc W D N x.toNat && (Nat.beq (z / 10) 0 || Nat.ble 3 (z / 10) || N))
    | .invokespecial _ => decide (x = -1) || (bif decide (x < 0) then D.elem 3 else am_cc W D N x.toNat)
    | .invokevirtual _ => fr_cy x y && (am_cs0 x y).all (am_cc W D N) && (Nat.beq (z / 10) 0 || Nat.ble 3 (z / 10) || N) && (Nat.beq (z / 10) 0 || Nat.ble x.toNat 999)
    | .invokeinterface _ _ => fr_cy x y && (am_cs0 x y).all (am_cc W D N) && (Nat.beq z 0 || N)
    | _ => true
theorem am_elem_of {D : List Int} {t t' : Int} (h : D.elem t = true) (e : t' = t) : D.elem t' = true := by rw [e]; exact h
theorem am_elem_all {D l : List Int} {t : Int} (h : l.all (fun t => D.elem t) = true) (e : t ∈ l) : D.elem t = true := List.all_eq_true.mp h t e
set_option maxHeartbeats 8000000 in
theorem am_pst_fb {W : List (Int × Int)} {D : List Int} {N : Bool} {pc len : Nat} {i : Instr} {x y : Int} {z : Nat} {ls st : List aV} {m : aM} {P : Option Prop} {st' : List aV} {m' : aM} (hp : am_wc W D N (pc, i, len, x, y, z) = true) (h : am_pst i x y z ls st m = some (P, st', m')) (hP : ∀ q, P = some q → q) : am_fb W D N m m' := by
  unfold am_pst at h
  simp only [am_ld, am_ldl, am_lda, am_xld, am_xst] at h
  split at h
  all_goals (repeat' split at h)
  all_goals (try cases h)
  all_goals first
    | exact am_fb.rfl _
    | exact am_fb_N hp
    | exact am_fb_Ar hp
    | (have q := hP _ rfl
       simp only [am_wc, Nat.beq, Nat.ble, cond_true, cond_false, Bool.and_eq_true, decide_eq_true_eq, Bool.and_true, Bool.and_false, Bool.false_and, Bool.true_and] at hp
       first
         | exact am_fb_A q.2.1 hp.1 hp.2
         | exact am_fb_A q.2.2.1 hp.1 hp.2
         | exact am_fb_D q.2.2.1 q.1 (am_elem_of hp q.2.1)
         | exact am_fb_D q.2.2.2.1 q.1 (am_elem_of hp q.2.1)
         | exact am_fb_S hp.1.1 hp.1.2 hp.2
         | exact am_fb_D hp.1.1 q.1 (am_elem_all hp.2 (fr_tg_ok q.2))
         | exact am_fb_D hp.1.1 q.1 (am_elem_all hp.2 (fr_tg_ok q.2.1))
         | exact am_fb_D hp.1.1 q.1 (am_elem_of hp.2 q.2.1))
/-- a whole method -/
def am_cf (ca : aC) : Prop := ∀ y as m Q, ca y as m Q → ca y as m (fun o m' => Q o m' ∧ am_fr y m m')
theorem am_gh_fb {W : List (Int × Int)} {D : List Int} {N : Bool} {G : Nat → aM → Prop} {z : Nat} (hz : (Nat.beq z 0 || Nat.ble 3 z || N) = true) {m : aM} {k k' : aM → Prop} (hk : ∀ m', am_fb W D N m m' → k m' → k' m') (h : am_gh G z m k) : am_gh G z m k' := by
  have h2 : ∀ j, N = true → (j = 2 ∨ j = 3) → am_fb W D N m (mS m 0 j 1) := fun j hN hj => fun z0 => by
    have e : ∀ i, mS m 0 j 1 0 i = if i = j then 1 else m 0 i := fun i => by rw [mS_iff]; simp
    have e0 : mS m 0 j 1 0 0 = m 0 0 := by rw [e, if_neg (by omega)]
    refine ⟨by rw [e0]; omega, fun r i hr _ _ => mS_a _ _ _ _ hr, fun q r hr => ?_, ⟨fun q => ?_, fun q => ?_⟩, fun q => by rw [hN] at q; cases q⟩
    · rw [e0] at hr
      rw [mS_a _ _ _ _ (by omega)]
      exact q r hr
    · rw [e]; split
      · rfl
      · exact q
    · rw [e]; split
      · rfl
      · exact q
  unfold am_gh at *
  split at h
  · exact hk _ (am_fb.rfl _) h
  · exact ⟨h.1, hk _ (h2 2 (by simpa [Nat.beq, Nat.ble] using hz) (Or.inl rfl)) h.2⟩
  · exact ⟨h.1, hk _ (h2 3 (by simpa [Nat.beq, Nat.ble] using hz) (Or.inr rfl)) h.2⟩
  · exact ⟨h.1, hk _ (am_fb.rfl _) h.2⟩
  · exact ⟨h.1, hk _ (am_fb.rfl _) h.2⟩
theorem am_exc_fb {R : aM → Prop} {hs : aH} {Q : aO → aM → Prop} {jp : Nat → List aV → List aV → aM → Prop} {pc : Nat} {ls : List aV} {c q : Int} {m : aM} (k : R m) (h : am_exc hs Q jp pc ls c q m) : am_exc hs (fun o m => Q o m ∧ R m) (fun t ls st m => jp t ls st m ∧ R m) pc ls c q m := by
  unfold am_exc at *
  cases hh : am_hnd hs pc c with
  | none => rw [hh] at h; exact ⟨h, k⟩
  | some w => rw [hh] at h; exact ⟨h, k⟩
theorem am_ret_fb {R : aM → Prop} {hs : aH} {Q : aO → aM → Prop} {nx : List aV → List aV → aM → Prop} {jp : Nat → List aV → List aV → aM → Prop} {pc : Nat} {ls r : List aV} : ∀ (o : aO) (m : aM), am_ret hs Q nx jp pc ls r o m ∧ R m → am_ret hs (fun o m => Q o m ∧ R m) (fun ls st m => nx ls st m ∧ R m) (fun t ls st m => jp t ls st m ∧ R m) pc ls r o m := by
  intro o m h
  match o, h with
  | .inl none, h => exact h
  | .inl (some v), h => exact h
  | .inr (c, q), h => exact am_exc_fb h.2 h.1
set_option maxHeartbeats 8000000 in
theorem am_rst_fb {W : List (Int × Int)} {D : List Int} {N : Bool} {G : Nat → aM → Prop} {ca : aC} (hc : am_cm ca) (hc0 : am_cf ca) {hs : aH} {Q : aO → aM → Prop} {nx : List aV → List aV → aM → Prop} {jp : Nat → List aV → List aV → aM → Prop} {e : aE} (hp : am_wc W D N e = true) {ls st : List aV} {m : aM} (hno : am_pst e.2.1 e.2.2.2.1 e.2.2.2.2.1 e.2.2.2.2.2 ls st m = none) (h : am_rst G ca hs Q nx jp e ls st m) : am_rst G ca hs (fun o m' => Q o m' ∧ am_fb W D N m m') (fun ls st m' => nx ls st m' ∧ am_fb W D N m m') (fun t ls st m' => jp t ls st m' ∧ am_fb W D N m m') e ls st m := by
  obtain ⟨pc, i, len, x, y, z⟩ := e
  have k0 : am_fb W D N m m := am_fb.rfl m
  have hr : ∀ (l r : List aV) (c : Nat) (as : List aV) (m1 : aM), am_cc W D N c = true → am_fb W D N m m1 → ca c as m1 (am_ret hs Q nx jp pc l r) → ca c as m1 (am_ret hs (fun o m' => Q o m' ∧ am_fb W D N m m') (fun ls st m' => nx ls st m' ∧ am_fb W D N m m') (fun t ls st m' => jp t ls st m' ∧ am_fb W D N m m') pc l r) := fun l r c as m1 hcc k1 w => hc _ _ _ _ _ (fun o m' q => am_ret_fb o m' ⟨q.1, k1.trans (am_cc_ok hcc q.2)⟩) (hc0 _ _ _ _ w)
  have hx : N = true → ∀ (l : List aV) (c k : Int), 0 < k → am_vmx hs Q jp pc l c k m → am_vmx hs (fun o m' => Q o m' ∧ am_fb W D N m m') (fun t ls st m' => jp t ls st m' ∧ am_fb W D N m m') pc l c k m := fun hN l c k hk w => ⟨w.1, am_exc_fb (am_fb_X hN hk) w.2⟩
  cases i
  case invokestatic idx =>
    unfold am_rst at h ⊢
    dsimp only at h ⊢
    split at h
    · split at h
      · exact ⟨h.1, h.2, am_fb_C h.1.2.2.2.2.2.1 h.1.1 (am_elem_of (show D.elem 40 = true from hp) h.1.2.2.2.1)⟩
      · exact h.elim
    · split at h
      · exact ⟨h.1, h.2, am_fb_C h.1.2.2.2.2.2.1 h.1.1 (am_elem_of (show D.elem 45 = true from hp) h.1.2.2.2.1)⟩
      · exact h.elim
    · exact h.elim
    · next w =>
      have hp' : (am_cc W D N w && (Nat.beq (z / 10) 0 || Nat.ble 3 (z / 10) || N)) = true := by
        simp only [am_wc] at hp
        rw [show decide ((Int.ofNat w : Int) = -1) = false from decide_eq_false (by intro q; cases q), show decide ((Int.ofNat w : Int) = -2) = false from decide_eq_false (by intro q; cases q), show decide ((Int.ofNat w : Int) < 0) = false from decide_eq_false (by have := Int.natCast_nonneg w; exact Int.not_lt.mpr this)] at hp
        exact hp
      rw [Bool.and_eq_true] at hp'
      split at h
      · next as r e => exact am_gh_fb hp'.2 (fun m1 k1 w => hr _ _ _ _ _ hp'.1 k1 w) h
      · exact h.elim
  case invokespecial idx =>
    unfold am_rst at h ⊢
    dsimp only at h ⊢
    split at h
    · split at h
      · exact ⟨h.1, h.2, k0⟩
      · exact h.elim
    · next k hk =>
      have hp' : D.elem 3 = true := by
        simp only [am_wc] at hp
        rw [show decide ((Int.negSucc k : Int) = -1) = false from decide_eq_false (by intro q; exact hk (Int.negSucc.inj q)), show decide ((Int.negSucc k : Int) < 0) = true from decide_eq_true (Int.negSucc_lt_zero _)] at hp
        exact hp
      split at h
      · exact ⟨h.1, h.2, am_fb_D (Int.le_refl 0) h.1.1 (am_elem_of hp' h.1.2.1)⟩
      · exact h.elim
    · next w =>
      have hp' : am_cc W D N w = true := by
        simp only [am_wc] at hp
        rw [show decide ((Int.ofNat w : Int) = -1) = false from decide_eq_false (by intro q; cases q), show decide ((Int.ofNat w : Int) < 0) = false from decide_eq_false (by have := Int.natCast_nonneg w; exact Int.not_lt.mpr this)] at hp
        exact hp
      split at h
      · exact ⟨h.1, hr _ _ _ _ _ hp' k0 h.2⟩
      · exact h.elim
  case iaload =>
    unfold am_rst at h ⊢
    dsimp only at h ⊢
    split at h
    · have hN : N = true := by
        simp only [am_wc, Bool.or_eq_true] at hp
        rcases hp with ((e | e) | e) | e
        · have := Nat.eq_of_beq_eq_true e
          subst this
          cases hno
        · have := Nat.eq_of_beq_eq_true e
          subst this
          cases hno
        · have := Nat.eq_of_beq_eq_true e
          subst this
          cases hno
        · exact e
      exact ⟨h.1, fun q => ⟨h.2.1 q, k0⟩, fun q => hx hN _ _ _ (by decide) (h.2.2 q)⟩
    · exact h.elim
  case invokevirtual idx =>
    simp only [am_rst] at h ⊢
    simp only [am_wc, Bool.and_eq_true] at hp
    split at h
    · next as a r e =>
      by_cases hz : z / 10 = 0
      · rw [hz] at h ⊢
        exact ⟨h.1, hr _ _ _ _ _ (List.all_eq_true.mp hp.1.1.2 _ (am_cs0_ok hp.1.1.1 h.1)) k0 h.2⟩
      · have h9 : Nat.ble x.toNat 999 = true := by
          rcases (Bool.or_eq_true _ _).mp hp.2 with e | e
          · exact absurd (Nat.eq_of_beq_eq_true e) hz
          · exact e
        refine ⟨h.1, am_gh_fb (W := W) (D := D) hp.1.2 (fun m1 k1 w => hr _ _ _ _ _ ?_ k1 w) h.2⟩
        have e1 : am_dsp x.toNat (m1 a (-1)) = x.toNat := by unfold am_dsp; rw [h9]; rfl
        rw [e1]
        refine List.all_eq_true.mp hp.1.1.2 _ ?_
        unfold am_cs0
        rw [h9]
        exact List.mem_cons_self
    · exact h.elim
  case invokeinterface idx cnt =>
    simp only [am_rst] at h ⊢
    simp only [am_wc, Bool.and_eq_true] at hp
    split at h
    · split at h
      · exact ⟨h.1, hr _ _ _ _ _ (List.all_eq_true.mp hp.1.2 _ (am_cs0_ok hp.1.1 h.1)) k0 h.2⟩
      · next hz =>
        have hN : N = true := by
          rcases (Bool.or_eq_true _ _).mp hp.2 with e | e
          · exact absurd (Nat.eq_of_beq_eq_true e) (by intro q; exact hz q)
          · exact e
        exact ⟨fun q => ⟨(h.1 q).1, hr _ _ _ _ _ (List.all_eq_true.mp hp.1.2 _ (am_cs0_ok hp.1.1 (h.1 q).1)) k0 (h.1 q).2⟩, fun q => hx hN _ _ _ (by decide) (h.2 q)⟩
    · exact h.elim
  all_goals simp only [am_rst] at h ⊢
  all_goals (try exact h.elim)
  all_goals (try exact ⟨h, k0⟩)
  all_goals (repeat' split at h)
  all_goals (try exact h.elim)
  all_goals first
    | exact ⟨h, k0⟩
    | exact ⟨h.1, h.2, k0⟩
    | exact ⟨h.1, h.2.1, h.2.2, k0⟩
    | exact ⟨h.1, fun q => ⟨h.2.1 q, k0⟩, fun q => ⟨h.2.2 q, k0⟩⟩
    | exact ⟨fun q => ⟨h.1 q, k0⟩, fun q => hx hp _ _ _ (by decide) (h.2 q)⟩
    | exact ⟨fun q => ⟨(h.1 q).1, (h.1 q).2, k0⟩, fun q => hx (by simpa [am_wc, Nat.ble] using hp) _ _ _ (by decide) (h.2 q)⟩
    | exact ⟨h.1, fun q => ⟨h.2.1 q, k0⟩, fun q => hx (by simpa [am_wc, Nat.beq] using hp) _ _ _ (by decide) (h.2.2 q)⟩
    | exact ⟨h.1, fun q => ⟨h.2.1 q, k0⟩, fun q => ⟨(h.2.2 q).1, hx hp _ _ _ (by decide) (h.2.2 q).2⟩⟩
    | exact ⟨h.1, fun q => ⟨h.2.1 q, k0⟩, fun q => ⟨(h.2.2 q).1, (h.2.2 q).2, k0⟩⟩
    | exact ⟨h.1, am_swt_mono (fun t w => ⟨w, k0⟩) _ _ h.2.1, fun q => ⟨h.2.2 q, k0⟩⟩
    | exact ⟨am_swl_mono (fun t w => ⟨w, k0⟩) _ h.1, fun q => ⟨h.2 q, k0⟩⟩

theorem am_istep_fb {W : List (Int × Int)} {D : List Int} {N : Bool} {G : Nat → aM → Prop} {ca : aC} (hc : am_cm ca) (hc0 : am_cf ca) {hs : aH} {Q : aO → aM → Prop} {nx : List aV → List aV → aM → Prop} {jp : Nat → List aV → List aV → aM → Prop} {e : aE} (hp : am_wc W D N e = true) {ls st : List aV} {m : aM} (h : am_istep G ca hs Q nx jp e ls st m) : am_istep G ca hs (fun o m' => Q o m' ∧ am_fb W D N m m') (fun ls st m' => nx ls st m' ∧ am_fb W D N m m') (fun t ls st m' => jp t ls st m' ∧ am_fb W D N m m') e ls st m := by
  obtain ⟨pc, i, len, x, y, z⟩ := e
  unfold am_istep at h ⊢
  simp only [am_fL_eq] at h ⊢
  split at h
  · next st' m' hq => exact ⟨h, am_pst_fb hp hq (fun q e => by cases e)⟩
  · next P st' m' hq => exact ⟨h.1, h.2, am_pst_fb hp hq (fun q e => by cases e; exact h.1)⟩
  · next hno =>
    split at h
    · exact ⟨h, am_fb.rfl _⟩
    · exact ⟨h.1, h.2, am_fb.rfl _⟩
    · split at h
      · exact ⟨fun q => ⟨h.1 q, am_fb.rfl _⟩, fun q => ⟨h.2 q, am_fb.rfl _⟩⟩
      · exact am_rst_fb hc hc0 hp hno h
theorem am_WP_fb {W : List (Int × Int)} {D : List Int} {N : Bool} {G : Nat → aM → Prop} {ca : aC} (hc : am_cm ca) (hc0 : am_cf ca) {hs : aH} {code : List aE} (hp : ∀ e ∈ code, am_wc W D N e = true) {Q : aO → aM → Prop} {pc : Nat} {ls st : List aV} {m : aM} (h : am_WP G ca hs code Q pc ls st m) : am_WP G ca hs code (fun o m' => Q o m' ∧ am_fb W D N m m') pc ls st m := by
  have key := h (fun pc ls st m => ∀ m0, am_fb W D N m0 m → am_WP G ca hs code (fun o m' => Q o m' ∧ am_fb W D N m0 m') pc ls st m) ?_
  · exact key m (am_fb.rfl m)
  · intro pc ls st m hr m0 h0
    apply am_WP.fold hc
    unfold am_run at hr ⊢
    split at hr
    · exact hr.elim
    · next e tl hs1 =>
      have he : e ∈ code := by
        obtain ⟨pre, hpre⟩ := am_seek_is pc code
        rw [hs1] at hpre
        rw [hpre]
        exact List.mem_append_right _ List.mem_cons_self
      cases hbl : Nat.ble st.length 24 with
      | false => rw [hbl] at hr; exact hr.elim
      | true =>
      simp only [hbl, cond_true] at hr ⊢
      refine am_istep_mono hc (fun o m' q => ⟨q.1, h0.trans q.2⟩) (fun ls st m' q => q.1 m0 (h0.trans q.2)) (fun t ls st m' q => q.1 m0 (h0.trans q.2)) (am_istep_fb hc hc0 (hp e he) hr)
theorem am_wcL : ∀ y, y < 336 → (am_T y).2.2.all (am_wc (am_W y) (am_D y) (am_N y)) = true := by decide +kernel
theorem am_big {α : Type} {f : Nat → α} (h : ∀ y, 335 ≤ y → f y = f 335) {P : α → Prop} : (∀ y, y < 336 → P (f y)) → ∀ y, P (f y) := fun q y => by
  by_cases hy : y < 336
  · exact q y hy
  · rw [h y (by omega)]
    exact q 335 (by decide)
theorem am_bigs {y : Nat} (h : 335 ≤ y) : am_T y = am_T 335 ∧ am_W y = am_W 335 ∧ am_D y = am_D 335 ∧ am_N y = am_N 335 := by
  have key : ∀ k, k < 335 → Nat.ble y k = false := fun k hk => by
    cases hb : Nat.ble y k with
    | false => rfl
    | true => have := Nat.le_of_ble_eq_true hb; omega
  refine ⟨?_, ?_, ?_, ?_⟩
  · unfold am_T; simp (discharger := decide) only [key, cond_false]; rfl
  · unfold am_W; simp (discharger := decide) only [key, cond_false]; rfl
  · unfold am_D; simp (discharger := decide) only [key, cond_false]; rfl
  · unfold am_N; simp (discharger := decide) only [key, cond_false]; rfl
theorem am_wcT (y : Nat) : ∀ e ∈ (am_T y).2.2, am_wc (am_W y) (am_D y) (am_N y) e = true := by
  by_cases hy : y < 336
  · exact List.all_eq_true.mp (am_wcL y hy)
  · obtain ⟨e1, e2, e3, e4⟩ := am_bigs (y := y) (by omega)
    rw [e1, e2, e3, e4]
    exact List.all_eq_true.mp (am_wcL 335 (by decide))
theorem am_wpc_fb {G : Nat → aM → Prop} : ∀ d, am_cf (am_wpc G am_T d) := by
  intro d
  induction d with
  | zero => intro y as m Q h; exact h.elim
  | succ d ih =>
    intro y as m Q h
    unfold am_wpc at h ⊢
    cases hb : Nat.ble (am_wd as) (am_T y).1 with
    | false => rw [hb] at h; exact h.elim
    | true =>
      rw [hb] at h
      exact am_WP_fb (am_wpc_cm G am_T d) ih (am_wcT y) h
/-- HOW A CONTRACT IS USED: what the method may not write comes with it -/
theorem am_use {d y : Nat} {as : List aV} {m : aM} {Q : aO → aM → Prop} (h : am_wpc am_G am_T d y as m (fun o m' => am_fr y m m' → Q o m')) : am_wpc am_G am_T d y as m Q := am_wpc_cm am_G am_T d _ _ _ _ _ (fun _ _ q => q.1 q.2) (am_wpc_fb d _ _ _ _ h)
theorem am_fr.at {y : Nat} {m m' : aM} (h : am_fr y m m') (h0 : 0 ≤ m 0 0) {r j t : Int} (hr : r ≠ 0) (hl : r ≤ m 0 0) (ht : m r (-1) = t) (hz : fr_fz (am_W y) (am_D y) r j t = true) : m' r j = m r j := (h h0).2.1 r j hr hl (by rw [ht]; exact hz)
theorem am_fr.neg {y : Nat} {m m' : aM} (h : am_fr y m m') (h0 : 0 ≤ m 0 0) {r : Int} (hr : r < 0) : m' r = m r := funext fun j => (h h0).2.1 r j (by omega) (by omega) (by unfold fr_fz; simp [hr])
theorem am_fr.tag {y : Nat} {m m' : aM} (h : am_fr y m m') (h0 : 0 ≤ m 0 0) {r j : Int} (hr : r ≠ 0) (hl : r ≤ m 0 0) (hj : j < 0) : m' r j = m r j := (h h0).2.1 r j hr hl (by unfold fr_fz; simp [hj])
