/-! needs: a07 -/
/-! ROWS out of what is read: the row of a field and its layers, settled; the Arms that say it -/
set_option maxRecDepth 100000
def p_row (f : Int → Int) (ls : List (Int → Int)) : Int → Int := fun j => if j < 5 then f j else if j = 5 then (ls.length : Int) else (ls.getD ((j - 6) / 10).toNat l_no) ((j - 6) % 10)
theorem p_row_f {f : Int → Int} {ls : List (Int → Int)} {j : Int} (h : j < 5) : p_row f ls j = f j := by unfold p_row; rw [if_pos h]
theorem p_row_5 {f : Int → Int} {ls : List (Int → Int)} : p_row f ls 5 = ls.length := rfl
theorem p_row_l {f : Int → Int} {ls : List (Int → Int)} {k j : Int} (hk : 0 ≤ k) (h0 : 0 ≤ j) (h9 : j ≤ 9) : p_row f ls (6 + 10 * k + j) = (ls.getD k.toNat l_no) j := by
  unfold p_row
  rw [if_neg (by omega), if_neg (by omega), show (6 + 10 * k + j - 6) / 10 = k by omega, show (6 + 10 * k + j - 6) % 10 = j by omega]
/-- numbers of a field -/
def okF (w : Int → Int) : Prop := (0 ≤ w 0 ∧ w 0 ≤ 9) ∧ (0 ≤ w 1 ∧ w 1 ≤ 2) ∧ (0 ≤ w 2 ∧ w 2 ≤ 12) ∧ (0 ≤ w 3 ∧ w 3 ≤ 8) ∧ ((w 0 = 0 ∧ w 1 = 0 ∧ w 2 = 0 ∧ w 4 = -1) ∨ (1 ≤ w 0 ∧ 0 ≤ w 4 ∧ w 4 ≤ 8)) ∧ (w 0 ≤ 5 ∨ w 0 = 9 → w 2 = 0)
theorem p_two_ok {K A : Int → Int} {s l n q q' : Int} {w : Int → Int} (hs : 1 ≤ s ∧ s ≤ 9) (hl : 0 ≤ l ∧ l ≤ 2) (hn : 0 ≤ n ∧ n ≤ 12) (hsn : s ≤ 5 ∨ s = 9 → n = 0) (h : p_two K A s l n q = .inr (q', w)) : okF w := by
  unfold p_two at h
  obtain ⟨q1, a, h1, h2⟩ := p_bd_i h
  obtain ⟨q2, b, h3, h4⟩ := p_bd_i h2
  obtain ⟨q3, c, h5, h6⟩ := p_bd_i h4
  have i1 := p_want_i h1
  have i3 := p_want_i h5
  cases h6
  by_cases e : a = c
  · have z : p_mk s l n a c = fun k => (if k = 3 then a else if k = 4 then -1 else 0) := by unfold p_mk; funext k; rw [if_pos e]
    rw [z]
    unfold okF; simp; omega
  · have z : p_mk s l n a c = fun k => (if k = 0 then s else if k = 1 then l else if k = 2 then n else if k = 3 then a else c) := by unfold p_mk; funext k; rw [if_neg e]
    rw [z]
    unfold okF; simp; omega
theorem p_field_ok {K A V : Int → Int} {q q' : Int} {w : Int → Int} (h : p_field K A V q = .inr (q', w)) : okF w := by
  by_cases h1 : 0 ≤ K q ∧ K q < 9
  · rw [p_f1 h1] at h; cases h
    unfold okF; simp; omega
  · by_cases h2 : K q = 33
    · by_cases h3 : 25 ≤ K (q + 1) ∧ K (q + 1) < 29
      · rw [p_f2 h2 h3] at h
        have := p_ln_b K (q + 1 + 1)
        exact p_two_ok (by omega) (by omega) (by omega) (by omega) h
      · rw [p_f2e h2 h3] at h; cases h
    · by_cases h3 : K q = 35
      · rw [p_f3 h3] at h
        exact p_two_ok (by omega) (by omega) (by omega) (by omega) h
      · by_cases h4 : 36 ≤ K q ∧ K q < 40
        · by_cases h5 : K q = 39
          · rw [p_f6 h5] at h
            exact p_two_ok (by omega) (by omega) (by omega) (by omega) h
          · by_cases h6 : K (q + 1) = 40
            · rw [p_f7 (by omega) h6] at h
              obtain ⟨q1, n, h7, h8⟩ := p_bd_i h
              have := p_num_b h7 (by omega)
              exact p_two_ok (by omega) (by omega) (by omega) (by omega) h8
            · rw [p_f5 (by omega) h6] at h
              exact p_two_ok (by omega) (by omega) (by omega) (by omega) h
        · rw [p_f4e h1 h2 h3 h4] at h; cases h
theorem hLay.cg {m : aM} {lo hi r b : Int} {l w : Int → Int} (h : hLay m lo hi r l 0) (e : ∀ j, 0 ≤ j → j ≤ 9 → w (b + j) = l j) : hLay m lo hi r w b := by
  have e0 : w b = l 0 := by have := e 0 (by omega) (by omega); simpa using this
  have e1 := e 1 (by omega) (by omega)
  have e2 := e 2 (by omega) (by omega)
  have e3 := e 3 (by omega) (by omega)
  have e4 := e 4 (by omega) (by omega)
  have e5 := e 5 (by omega) (by omega)
  have e6 := e 6 (by omega) (by omega)
  have e7 := e 7 (by omega) (by omega)
  have e8 := e 8 (by omega) (by omega)
  have e9 := e 9 (by omega) (by omega)
  unfold hLay hOrd hGrp okOrd noOrd okGrp noGrp at *
  rw [e0, e1, e2, e3, e4, e5, e6, e7, e8, e9]
  simpa using h
theorem hLay.ok {m : aM} {lo hi r b : Int} {w : Int → Int} (h : hLay m lo hi r w b) : okLay w b := by
  obtain ⟨_, _, h3, _, h5, h6, _, _, h9, h10⟩ := h
  refine ⟨h3, ?_, ?_, h9, h10⟩
  · rcases h5 with h | h
    · exact Or.inr h.2
    · exact Or.inl h.2.2.2.1
  · rcases h6 with h | h
    · exact Or.inr h.2
    · exact Or.inl h.2.2.2.1
theorem hLay.wd {m : aM} {lo hi lo' hi' r b : Int} {w : Int → Int} (h : hLay m lo hi r w b) (x : lo' ≤ lo) (y : hi ≤ hi') : hLay m lo' hi' r w b := by
  obtain ⟨h1, h2, h3, h4, h5, h6, h7⟩ := h
  exact ⟨by omega, h2, h3, h4, h5.wd x y, h6.wd x y, h7⟩
theorem hFld.wd {m : aM} {lo hi lo' hi' r : Int} {w : Int → Int} (h : hFld m lo hi r w) (x : lo' ≤ lo) (y : hi ≤ hi') : hFld m lo' hi' r w := by
  obtain ⟨h1, h2, h3, h4, h5, h6, h7, h8⟩ := h
  exact ⟨by omega, h2, h3, h4, h5, h6, h7, h8.wd x y⟩
theorem hGrp.pl {m : aM} {lo hi o b x j v : Int} {w : Int → Int} (h : hGrp m lo hi o w b) (t : m x (-1) = 7) : hGrp (mS m x j v) lo hi o w b := by
  rcases h with h | ⟨h1, h2, h3, h4, h5, h6, h7, h8, h9⟩
  · exact Or.inl h
  · have n1 : o ≠ x := fun e => by subst e; omega
    have n2 : m o 4 ≠ x := fun e => by have := h9.2.2; rw [e] at this; omega
    refine Or.inr ⟨h1, h2, ?_, h4, ?_, ?_, ?_, ?_, ?_⟩
    · rw [mS_a _ _ _ _ n1]; exact h3
    · rw [mS_a _ _ _ _ n1]; exact h5
    · rw [mS_a _ _ _ _ n1]; exact h6
    · rw [mS_a _ _ _ _ n1]; exact h7
    · rw [mS_a _ _ _ _ n1]; exact h8
    · rw [mS_a _ _ _ _ n1]; exact ⟨h9.1, h9.2.1, by rw [mS_a _ _ _ _ n2]; exact h9.2.2⟩
/-- settled layers: the first is not overall; neighbours in parts stand in order -/
def p_z : List (Int → Int) → List (Int → Int)
  | [] => []
  | l :: ls => (fun k => if k = 0 then 0 else l k) :: ls
def e_kl (l : Int → Int) : Nat := if l 4 = 1 ∧ 0 < l 9 ∧ l 0 = 0 then (l 9).toNat else 0
def p_set (ls : List (Int → Int)) : List (Int → Int) := e_ins e_kl [] (p_z ls)
theorem hLay.z {m : aM} {lo hi r : Int} {l : Int → Int} (h : hLay m lo hi r l 0) : hLay (mS m r 0 0) lo hi r (fun k => if k = 0 then 0 else l k) 0 := by
  obtain ⟨h1, h2, h3, h4, h5, h6, h7, h8, h9, h10⟩ := h
  have t := h2
  refine ⟨h1, by rw [mS_iff, if_neg (by omega)]; exact h2, by simp, by rw [mS_iff, if_pos ⟨rfl, rfl⟩]; simp, ?_, ?_, ?_, ?_, ?_, ?_⟩
  · rw [mS_iff, if_neg (by omega)]; exact (h5.pl t).cg (by simp) (by simp) (by simp)
  · rw [mS_iff, if_neg (by omega)]
    have := h6.pl t (j := 0) (v := 0)
    unfold hGrp okGrp noGrp at this ⊢
    simpa using this
  · rw [mS_iff, if_neg (by omega), h7]; simp
  · rw [mS_iff, if_neg (by omega), h8]; simp
  · simpa using h9
  · simpa using h10
theorem e_kr_l {m : aM} {lo hi r : Int} {l : Int → Int} (h : hLay m lo hi r l 0) : e_kr m r = e_kl l := by
  obtain ⟨h1, h2, h3, h4, h5, h6, h7, h8, h9, h10⟩ := h
  simp only [Int.zero_add] at h7 h8
  by_cases c : e_ip m r
  · rw [e_kr_y c]
    unfold e_ip at c; rw [h4, h7, h8] at c
    unfold e_kl; rw [if_pos c, h8]
  · rw [e_kr_n c]
    unfold e_ip at c; rw [h4, h7, h8] at c
    unfold e_kl; rw [if_neg c]
/-- layers that are read: their objects lie between the bounds -/
def hLs (m : aM) (lo : Int) (e : Nat → Int) (ls : List (Int → Int)) : Prop := lo ≤ e 0 ∧ e ls.length ≤ m 0 0 ∧ (∀ k, k < ls.length → e k ≤ e (k + 1)) ∧ ∀ k : Nat, k < ls.length → hLay m (e k + 1) (e (k + 1)) (m 3 k) (ls.getD k l_no) 0
theorem hLs.mo {m : aM} {lo : Int} {e : Nat → Int} {ls : List (Int → Int)} (h : hLs m lo e ls) {j : Nat} : ∀ {k : Nat}, j ≤ k → k ≤ ls.length → e j ≤ e k
  | 0, a, _ => by rw [show j = 0 by omega]; omega
  | k + 1, a, b => by
    by_cases c : j = k + 1
    · rw [c]; omega
    · have := h.mo (j := j) (k := k) (by omega) (by omega)
      have := h.2.2.1 k (by omega)
      omega
theorem hLs.fr {c s : Int} {m m' : aM} {lo : Int} {e : Nat → Int} {ls : List (Int → Int)} (h : hLs m lo e ls) (f : fr_P c s m m') (hl : 14 ≤ lo) : hLs m' lo e ls := by
  refine ⟨h.1, by have := h.2.1; have := f.1; omega, h.2.2.1, fun k hk => ?_⟩
  have a := h.2.2.2 k hk
  have m1 := h.mo (j := 0) (k := k) (by omega) (by omega)
  have m2 := h.mo (j := k + 1) (k := ls.length) (by omega) (by omega)
  have m3 := h.2.2.1 k hk
  have h1 := h.1
  have h2 := h.2.1
  rw [f.2.2.1 3 k (by omega) (by omega) (by omega)]
  exact a.keep (fun r x y => (f.kp hl) r (by omega) (by omega))
theorem hLs.push {c s : Int} {m m' : aM} {lo r : Int} {e : Nat → Int} {ls : List (Int → Int)} {l : Int → Int} (h : hLs m lo e ls) (f : fr_P c s m m') (hl : 14 ≤ lo) (g : hLay m' (m 0 0 + 1) (m' 0 0) r l 0) {i : Int} (hi : i = ls.length) : hLs (mS m' 3 i r) lo (fun k => if k ≤ ls.length then e k else m' 0 0) (ls ++ [l]) := by
  have h' := h.fr f hl
  have h1 := h.1
  have h2 := h.2.1
  have f1 := f.1
  have z0 : mS m' 3 i r 0 0 = m' 0 0 := mS_a _ _ _ _ (by omega)
  have kp : ∀ a b, 14 ≤ a → hKeep m' (mS m' 3 i r) a b := fun a b ha x u v => ⟨mS_a _ _ _ _ (by omega), fun _ => funext fun j => mS_a _ _ _ _ (by omega)⟩
  refine ⟨by show lo ≤ (if 0 ≤ ls.length then e 0 else _); rw [if_pos (by omega)]; exact h1, ?_, fun k hk => ?_, fun k hk => ?_⟩
  · show (if (ls ++ [l]).length ≤ ls.length then _ else _) ≤ _
    rw [if_neg (by simp), z0]; omega
  · show (if k ≤ ls.length then _ else _) ≤ (if k + 1 ≤ ls.length then _ else _)
    have hk' : k ≤ ls.length := by simp at hk; omega
    rw [if_pos hk']
    by_cases q : k + 1 ≤ ls.length
    · rw [if_pos q]; exact h.2.2.1 k (by omega)
    · rw [if_neg q]
      rw [show k = ls.length by omega]; omega
  · have hk' : k ≤ ls.length := by simp at hk; omega
    show hLay _ ((if k ≤ ls.length then e k else _) + 1) (if k + 1 ≤ ls.length then _ else _) _ _ 0
    rw [if_pos hk']
    by_cases q : k + 1 ≤ ls.length
    · rw [if_pos q, mS_iff, if_neg (by omega), List.getD_eq_getElem?_getD, List.getElem?_append_left (by omega), ← List.getD_eq_getElem?_getD]
      have m1 := h.mo (j := 0) (k := k) (by omega) (by omega)
      exact (h'.2.2.2 k (by omega)).keep (kp _ _ (by omega))
    · rw [if_neg q]
      have ek : k = ls.length := by omega
      subst ek
      rw [mS_iff, if_pos ⟨rfl, by omega⟩, List.getD_eq_getElem?_getD, List.getElem?_append_right (by omega)]
      simp only [Nat.sub_self, List.getElem?_cons_zero, Option.getD_some]
      have m3 := h.mo (j := 0) (k := ls.length) (by omega) (by omega)
      exact (g.keep (kp _ _ (by omega))).wd (by omega) (by omega)
theorem hLs.nil {m : aM} {lo : Int} (h : lo ≤ m 0 0) : hLs m lo (fun _ => lo) [] := ⟨Int.le_refl lo, h, fun k hk => by simp at hk, fun k hk => by simp at hk⟩
theorem e_insR_pm {α : Type} {k : α → Nat} : ∀ {l : List α} {y : α}, (e_insR k l y).Perm (y :: l)
  | [], y => List.Perm.refl _
  | z :: l, y => by
    unfold e_insR
    cases hc : e_leg k z y
    · exact List.Perm.refl _
    · exact (List.Perm.cons z e_insR_pm).trans (List.Perm.swap y z l)
theorem e_ins_pm {α : Type} {k : α → Nat} : ∀ {l acc : List α}, (e_ins k acc l).Perm (acc ++ l)
  | [], acc => by simpa [e_ins] using List.reverse_perm acc
  | y :: l, acc => by
    have a : (e_ins k (e_insR k acc y) l).Perm (e_insR k acc y ++ l) := e_ins_pm
    have b : (e_insR k acc y ++ l).Perm ((y :: acc) ++ l) := e_insR_pm.append_right l
    exact (a.trans b).trans (List.perm_middle.symm)
/-- the references of the layers that are read -/
def e_rf (m : aM) (n : Nat) : List Int := (List.range n).map (fun k : Nat => m 3 k)
/-- different layers, with different ordinaries and groups -/
def e_D (m : aM) (p q : Int × (Int → Int)) : Prop := p.1 ≠ q.1 ∧ (m p.1 1 = m q.1 1 → m p.1 1 = 0) ∧ (m p.1 2 = m q.1 2 → m p.1 2 = 0)
theorem e_D.sy {m : aM} {p q : Int × (Int → Int)} (h : e_D m p q) : e_D m q p := ⟨fun e => h.1 e.symm, fun e => by rw [e]; exact h.2.1 e.symm, fun e => by rw [e]; exact h.2.2 e.symm⟩
/-- Arms out of settled layers -/
theorem hArms.mk {m : aM} {lo hi r a : Int} {f : Int → Int} {F : List (Int × (Int → Int))} (h0 : 77 ≤ lo ∧ hi ≤ m 0 0) (hr : lo ≤ r ∧ r ≤ hi) (tr : m r (-1) = 4) (hf : hFld m lo hi (m r 0) f) (ok : okF f) (ha : m r 1 = a) (hb : lo ≤ a ∧ a ≤ hi) (al : aLs m a (F.map Prod.fst)) (hF : ∀ p ∈ F, hLay m lo hi p.1 p.2 0) (hD : F.Pairwise (e_D m)) (hn : F.length ≤ 6) : hArms m lo hi r (p_row f (F.map Prod.snd)) := by
  obtain ⟨a1, a2, a3⟩ := al
  have e5 : p_row f (F.map Prod.snd) 5 = F.length := by rw [p_row_5]; simp
  have at_ : ∀ k : Int, 0 ≤ k → k < F.length → ∃ h : k.toNat < F.length, m a k = (F[k.toNat]).1 ∧ ((F.map Prod.snd).getD k.toNat l_no) = (F[k.toNat]).2 := fun k k0 k1 => by
    have hk : k.toNat < F.length := by omega
    refine ⟨hk, ?_, ?_⟩
    · have := a3 k.toNat (by simpa using hk)
      rw [show ((k.toNat : Nat) : Int) = k by omega] at this
      rw [this]; simp [hk]
    · simp [hk]
  have lay : ∀ k : Int, 0 ≤ k → k < F.length → hLay m lo hi (m a k) (p_row f (F.map Prod.snd)) (6 + 10 * k) := fun k k0 k1 => by
    obtain ⟨hk, e1, e2⟩ := at_ k k0 k1
    rw [e1]
    exact (hF _ (List.getElem_mem hk)).cg (fun j j0 j9 => by rw [p_row_l k0 j0 j9, e2])
  have okr : okRow (p_row f (F.map Prod.snd)) := by
    obtain ⟨f1, f2, f3, f4, f5, f6⟩ := ok
    unfold okRow
    rw [p_row_f (show (0 : Int) < 5 by omega), p_row_f (show (1 : Int) < 5 by omega), p_row_f (show (2 : Int) < 5 by omega), p_row_f (show (3 : Int) < 5 by omega), p_row_f (show (4 : Int) < 5 by omega), e5]
    refine ⟨f1, f2, f3, f4, f5, f6, by omega, fun l l0 l1 => (lay l l0 l1).ok, fun l l0 l1 => ?_⟩
    have z : ∀ j, 0 ≤ j → j ≤ 9 → p_row f (F.map Prod.snd) (6 + 10 * l + j) = l_no j := fun j j0 j9 => by
      rw [p_row_l (by omega) j0 j9, List.getD_eq_getElem?_getD, List.getElem?_eq_none (by simp; omega)]; rfl
    have z0 := z 0 (by omega) (by omega)
    rw [Int.add_zero] at z0
    unfold noLay noOrd noGrp
    rw [z0, z 1 (by omega) (by omega), z 2 (by omega) (by omega), z 3 (by omega) (by omega), z 4 (by omega) (by omega), z 5 (by omega) (by omega), z 6 (by omega) (by omega), z 7 (by omega) (by omega), z 8 (by omega) (by omega), z 9 (by omega) (by omega)]
    simp [l_no]
  unfold hArms
  rw [p_row_5, ha]
  have hf' : hFld m lo hi (m r 0) (p_row f (F.map Prod.snd)) := by
    unfold hFld at hf ⊢
    rw [p_row_f (show (0 : Int) < 5 by omega), p_row_f (show (1 : Int) < 5 by omega), p_row_f (show (2 : Int) < 5 by omega), p_row_f (show (3 : Int) < 5 by omega), p_row_f (show (4 : Int) < 5 by omega)]
    exact hf
  refine ⟨⟨⟨by omega, Or.inr h0.1⟩, h0.2⟩, hr, tr, hf', hb, a1, by rw [a2]; simp, okr, fun k k0 k1 => lay k k0 (by simpa using k1), fun j k j0 j1 k0 k1 n => ?_⟩
  obtain ⟨hj, ej, -⟩ := at_ j j0 (by simpa using j1)
  obtain ⟨hk, ek, -⟩ := at_ k k0 (by simpa using k1)
  have d : e_D m F[j.toNat] F[k.toNat] := by
    have pw := List.pairwise_iff_getElem.mp hD
    by_cases c : j < k
    · exact pw _ _ hj hk (by omega)
    · exact (pw _ _ hk hj (by omega)).sy
  rw [ej, ek]
  exact ⟨d.1, fun z e => z (d.2.1 e), fun z e => z (d.2.2 e)⟩
theorem e_m1_a {mc : aM} {l : List Int} {x j : Int} (h : ∀ y ∈ l.head?, x ≠ y) : e_m1 mc l x j = mc x j := by
  cases l with
  | nil => rfl
  | cons y l => exact mS_a _ _ _ _ (h y rfl)
theorem hLs.arms {m mc m' : aM} {lo f r a : Int} {e : Nat → Int} {ls : List (Int → Int)} {w : Int → Int} (h : hLs m lo e ls) (hlo : 77 ≤ lo) (hn : ls.length ≤ 6) (hf : hFld m (lo + 1) (m 0 0) f w) (ok : okF w) (hr : r = m 0 0 + 1) (ha : a = m 0 0 + 2) (c0 : mc 0 0 = m 0 0 + 2) (ck : ∀ x j, x ≠ 0 → x ≤ m 0 0 → mc x j = m x j) (c1 : mc r (-1) = 4) (c2 : mc r 0 = f) (c3 : mc r 1 = a)
    (s1 : ∀ x j, x ≠ a → m' x j = e_m1 mc (e_rf m ls.length) x j) (s2 : aLs m' a (e_ins (e_kr (e_m1 mc (e_rf m ls.length))) [] (e_rf m ls.length))) : hArms m' (lo + 1) (m' 0 0) r (p_row w (p_set ls)) := by
  have h1 := h.1
  have h2 := h.2.1
  have h12 := h.mo (j := 0) (k := ls.length) (by omega) (by omega)
  obtain ⟨m1, em⟩ : ∃ z, z = e_m1 mc (e_rf m ls.length) := ⟨_, rfl⟩
  rw [← em] at s1 s2
  -- what the first layer's place is
  have hd1 : ∀ x, (0 < ls.length → x ≠ m 3 0) → ∀ j, m1 x j = mc x j := fun x hx j => by
    rw [em]
    refine e_m1_a (fun y hy => ?_)
    cases hl : ls.length with
    | zero => rw [hl] at hy; simp [e_rf] at hy
    | succ n => rw [hl] at hy; simp [e_rf, List.range_succ_eq_map] at hy; rw [← hy]; exact hx (by omega)
  have b0 : 0 < ls.length → e 0 + 1 ≤ m 3 0 ∧ m 3 0 ≤ e 1 := fun z => by
    have := (h.2.2.2 0 z).1; simpa using this
  -- layers behind the first do not change, the first is not overall
  have kc : ∀ lo' hi', 14 ≤ lo' → hi' ≤ m 0 0 → hKeep m mc lo' hi' := fun lo' hi' a b x u v => ⟨ck x _ (by omega) (by omega), fun _ => funext fun j => ck x j (by omega) (by omega)⟩
  have lay1 : ∀ k : Nat, k < ls.length → hLay m1 (e k + 1) (e (k + 1)) (m 3 k) ((p_z ls).getD k l_no) 0 := fun k hk => by
    have q0 := h.mo (j := 0) (k := k) (by omega) (by omega)
    have q1 := h.mo (j := k + 1) (k := ls.length) (by omega) (by omega)
    have g := (h.2.2.2 k hk).keep (kc (e k + 1) (e (k + 1)) (by omega) (by omega))
    have bb := b0 (by omega)
    cases k with
    | zero =>
      have e1 : m1 = mS mc (m 3 0) 0 0 := by
        rw [em]
        cases hl : ls.length with
        | zero => omega
        | succ n => simp [e_rf, List.range_succ_eq_map, e_m1]
      rw [e1]
      have e2 : (p_z ls).getD 0 l_no = fun k => if k = 0 then 0 else (ls.getD 0 l_no) k := by
        cases ls with
        | nil => simp at hk
        | cons l ls => rfl
      rw [e2]
      exact g.z
    | succ k =>
      have e2 : (p_z ls).getD (k + 1) l_no = ls.getD (k + 1) l_no := by
        cases ls with
        | nil => rfl
        | cons l ls => rfl
      rw [e2]
      have q3 := h.mo (j := 1) (k := k + 1) (by omega) (by omega)
      exact g.keep (fun x u v => ⟨hd1 x (fun _ => by omega) _, fun _ => funext fun j => hd1 x (fun _ => by omega) j⟩)
  have m'0 : m' 0 0 = m 0 0 + 2 := by
    rw [s1 0 0 (by omega), hd1 0 (fun z => by have := b0 z; omega), c0]
  have k1 : ∀ lo' hi', 14 ≤ lo' → hi' ≤ m 0 0 → hKeep m1 m' lo' hi' := fun lo' hi' u v x y z => ⟨s1 x _ (by omega), fun _ => funext fun j => s1 x j (by omega)⟩
  have lay2 : ∀ k : Nat, k < ls.length → hLay m' (e k + 1) (e (k + 1)) (m 3 k) ((p_z ls).getD k l_no) 0 := fun k hk => by
    have q0 := h.mo (j := 0) (k := k) (by omega) (by omega)
    have q1 := h.mo (j := k + 1) (k := ls.length) (by omega) (by omega)
    exact (lay1 k hk).keep (k1 _ _ (by omega) (by omega))
  obtain ⟨PL, eP⟩ : ∃ z : List (Int × (Int → Int)), z = (List.range ls.length).map (fun k : Nat => (m 3 k, (p_z ls).getD k l_no)) := ⟨_, rfl⟩
  have pf : PL.map Prod.fst = e_rf m ls.length := by rw [eP]; unfold e_rf; simp
  have zl : (p_z ls).length = ls.length := by cases ls <;> rfl
  have ps : PL.map Prod.snd = p_z ls := by
    rw [eP, List.map_map, ← zl]
    apply List.ext_getElem
    · simp
    · intro i h1 h2
      simp at h1
      simp [h1]
  have pm : ∀ p ∈ PL, ∃ k : Nat, k < ls.length ∧ p = (m 3 k, (p_z ls).getD k l_no) := fun p hp => by
    rw [eP] at hp; simp at hp
    obtain ⟨k, hk, e⟩ := hp
    exact ⟨k, hk, by rw [← e]; simp⟩
  have ky : ∀ p, p ∈ ([] : List (Int × (Int → Int))) ∨ p ∈ PL → e_kr m1 p.1 = e_kl p.2 := fun p hp => by
    rcases hp with hp | hp
    · simp at hp
    · obtain ⟨k, hk, e⟩ := pm p hp
      rw [e]; exact e_kr_l (lay1 k hk)
  obtain ⟨F, eF⟩ : ∃ z, z = e_ins (fun p : Int × (Int → Int) => e_kl p.2) [] PL := ⟨_, rfl⟩
  have F1 : F.map Prod.fst = e_ins (e_kr m1) [] (e_rf m ls.length) := by
    have := e_ins_map (k := fun p : Int × (Int → Int) => e_kl p.2) (k' := e_kr m1) (f := Prod.fst) (l := PL) (acc := []) ky
    rw [eF, ← this, pf]; rfl
  have F2 : F.map Prod.snd = p_set ls := by
    have := e_ins_map (k := fun p : Int × (Int → Int) => e_kl p.2) (k' := e_kl) (f := Prod.snd) (l := PL) (acc := []) (fun _ _ => rfl)
    rw [eF, ← this, ps]; rfl
  have fm : ∀ p ∈ F, p ∈ PL := fun p hp => by
    rw [eF] at hp
    rcases e_ins_mem hp with h | h
    · simp at h
    · exact h
  have fp : F.Perm PL := by rw [eF]; simpa using e_ins_pm (k := fun p : Int × (Int → Int) => e_kl p.2) (l := PL) (acc := [])
  have pD : PL.Pairwise (e_D m') := by
    rw [eP, List.pairwise_map]
    refine List.pairwise_lt_range.imp_of_mem ?_
    intro j k hj hk hjk
    simp at hj hk
    have a := lay2 j hj
    have b := lay2 k hk
    have q0 := h.mo (j := j + 1) (k := k) (by omega) (by omega)
    have q1 := h.mo (j := 0) (k := j) (by omega) (by omega)
    obtain ⟨a1, a2, a3, a4, a5, a6, a7⟩ := a
    obtain ⟨b1, b2, b3, b4, b5, b6, b7⟩ := b
    refine ⟨by show m 3 j ≠ m 3 k; omega, fun z => ?_, fun z => ?_⟩
    · show m' (m 3 j) 1 = 0
      have z' : m' (m 3 j) 1 = m' (m 3 k) 1 := z
      rcases a5 with a5 | ⟨a5, a5', -⟩
      · exact a5.1
      · rcases b5 with b5 | ⟨b5, b5', -⟩
        · omega
        · omega
    · show m' (m 3 j) 2 = 0
      have z' : m' (m 3 j) 2 = m' (m 3 k) 2 := z
      rcases a6 with a6 | ⟨a6, a6', -⟩
      · exact a6.1
      · rcases b6 with b6 | ⟨b6, b6', -⟩
        · omega
        · omega
  have hmr : ∀ j, m' r j = mc r j := fun j => by rw [s1 r j (by omega), hd1 r (fun z => by have := b0 z; have := h.mo (j := 1) (k := ls.length) (by omega) (by omega); omega)]
  have flen : F.length = ls.length := by
    have := fp.length_eq
    rw [this, eP]; simp
  rw [← F2]
  refine hArms.mk (a := a) ⟨by omega, by omega⟩ ⟨by omega, by omega⟩ (by rw [hmr]; exact c1) ?_ ok (by rw [hmr]; exact c3) ⟨by omega, by omega⟩ (by rw [F1]; exact s2) (fun p hp => ?_) (fp.symm.pairwise pD (fun h => h.sy)) (by omega)
  · rw [hmr, c2, m'0]
    have t5 := hf.2.1
    have f1 := hf.1
    have hfm : hFld mc (lo + 1) (m 0 0) f w := hf.keep (kc _ _ (by omega) (by omega))
    -- the field is no layer, and neither is what it told
    have nf : 0 < ls.length → f ≠ m 3 0 := fun z => by
      have := (h.2.2.2 0 z).2.1
      intro e'; rw [e'] at t5; simp at this; omega
    have nt : 0 < ls.length → m f 5 ≠ m 3 0 := fun z => by
      have := (h.2.2.2 0 z).2.1
      have u := hf.2.2.2.2.2.2.2.2.2
      intro e'; rw [e'] at u; simp at this; omega
    have nm := h.mo (j := 0) (k := ls.length) (by omega) (by omega)
    have ef : ∀ j, m' f j = mc f j := fun j => by rw [s1 f j (by omega), hd1 f nf]
    obtain ⟨g1, g2, g3, g4, g5, g6, g7, g8⟩ := hfm
    have e5 : mc f 5 = m f 5 := ck f 5 (by omega) (by omega)
    unfold hFld
    rw [ef, ef, ef, ef, ef, ef, ef]
    refine ⟨by omega, g2, g3, g4, g5, g6, g7, ?_⟩
    obtain ⟨u1, u2, u3⟩ := g8
    exact ⟨u1, by omega, by rw [s1 _ _ (by omega), hd1 _ (by rw [e5]; exact nt)]; exact u3⟩
  · obtain ⟨k, hk, e'⟩ := pm p (fm p hp)
    rw [e']
    have q0 := h.mo (j := 0) (k := k) (by omega) (by omega)
    have q1 := h.mo (j := k + 1) (k := ls.length) (by omega) (by omega)
    exact (lay2 k hk).wd (by omega) (by omega)
