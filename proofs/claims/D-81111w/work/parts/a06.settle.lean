/-! needs: a05 -/
/-! SETTLING, plain: insertion and bubbling tell the same order -/
section
variable {α : Type} (k : α → Nat)
def e_leg (x y : α) : Bool := Nat.ble 1 (k y) && Nat.blt (k y) (k x)
def e_insR : List α → α → List α
  | [], y => [y]
  | x :: xs, y => bif e_leg k x y then x :: e_insR xs y else y :: x :: xs
def e_ins : List α → List α → List α
  | acc, [] => acc.reverse
  | acc, y :: l => e_ins (e_insR k acc y) l
def e_bub (x : α) : List α → List α
  | [] => [x]
  | y :: l => bif e_leg k x y then y :: e_bub x l else x :: e_bub y l
def e_b1 : List α → List α
  | [] => []
  | x :: l => e_bub k x l
def e_bn : Nat → List α → List α
  | 0, l => l
  | n + 1, l => e_bn n (e_b1 k l)
end
section
variable {α β : Type} {k : α → Nat} {k' : β → Nat} {f : α → β}
theorem e_insR_mem : ∀ {l : List α} {y x : α}, x ∈ e_insR k l y → x = y ∨ x ∈ l
  | [], y, x, h => by simp [e_insR] at h; exact Or.inl h
  | z :: l, y, x, h => by
    unfold e_insR at h
    cases hc : e_leg k z y
    · rw [hc] at h; simp at h; rcases h with h | h | h
      · exact Or.inl h
      · exact Or.inr (by simp [h])
      · exact Or.inr (by simp [h])
    · rw [hc] at h; simp at h; rcases h with h | h
      · exact Or.inr (by simp [h])
      · rcases e_insR_mem h with h | h
        · exact Or.inl h
        · exact Or.inr (by simp [h])
theorem e_insR_len : ∀ {l : List α} {y : α}, (e_insR k l y).length = l.length + 1
  | [], y => rfl
  | z :: l, y => by
    unfold e_insR
    cases hc : e_leg k z y
    · rfl
    · show (e_insR k l y).length + 1 = _; rw [e_insR_len]; rfl
theorem e_insR_map : ∀ {l : List α} {y : α}, (∀ x, x = y ∨ x ∈ l → k' (f x) = k x) → e_insR k' (l.map f) (f y) = (e_insR k l y).map f
  | [], y, _ => rfl
  | z :: l, y, h => by
    have e : e_leg k' (f z) (f y) = e_leg k z y := by unfold e_leg; rw [h y (Or.inl rfl), h z (Or.inr (by simp))]
    show (bif e_leg k' (f z) (f y) then f z :: e_insR k' (l.map f) (f y) else f y :: f z :: l.map f) = (bif e_leg k z y then z :: e_insR k l y else y :: z :: l).map f
    rw [e, e_insR_map (fun x hx => h x (by rcases hx with hx | hx; exact Or.inl hx; exact Or.inr (by simp [hx])))]
    cases e_leg k z y <;> rfl
theorem e_ins_map : ∀ {l acc : List α}, (∀ x, x ∈ acc ∨ x ∈ l → k' (f x) = k x) → e_ins k' (acc.map f) (l.map f) = (e_ins k acc l).map f
  | [], acc, _ => by simp [e_ins]
  | y :: l, acc, h => by
    show e_ins k' (e_insR k' (acc.map f) (f y)) (l.map f) = (e_ins k (e_insR k acc y) l).map f
    rw [e_insR_map (fun x hx => h x (by rcases hx with hx | hx; exact Or.inr (by simp [hx]); exact Or.inl hx))]
    exact e_ins_map (fun x hx => h x (by
      rcases hx with hx | hx
      · rcases e_insR_mem hx with hx | hx
        · exact Or.inr (by simp [hx])
        · exact Or.inl hx
      · exact Or.inr (by simp [hx])))
theorem e_ins_mem : ∀ {l acc : List α} {x : α}, x ∈ e_ins k acc l → x ∈ acc ∨ x ∈ l
  | [], acc, x, h => by simp [e_ins] at h; exact Or.inl h
  | y :: l, acc, x, h => by
    rcases e_ins_mem (l := l) (acc := e_insR k acc y) h with h | h
    · rcases e_insR_mem h with h | h
      · exact Or.inr (by simp [h])
      · exact Or.inl h
    · exact Or.inr (by simp [h])
theorem e_ins_len : ∀ {l acc : List α}, (e_ins k acc l).length = acc.length + l.length
  | [], acc => by simp [e_ins]
  | y :: l, acc => by
    show (e_ins k (e_insR k acc y) l).length = _
    rw [e_ins_len, e_insR_len]; simp; omega
theorem e_bub_mem : ∀ {l : List α} {y x : α}, x ∈ e_bub k y l → x = y ∨ x ∈ l
  | [], y, x, h => by simp [e_bub] at h; exact Or.inl h
  | z :: l, y, x, h => by
    unfold e_bub at h
    cases hc : e_leg k y z
    · rw [hc] at h; simp at h; rcases h with h | h
      · exact Or.inl h
      · rcases e_bub_mem h with h | h
        · exact Or.inr (by simp [h])
        · exact Or.inr (by simp [h])
    · rw [hc] at h; simp at h; rcases h with h | h
      · exact Or.inr (by simp [h])
      · rcases e_bub_mem h with h | h
        · exact Or.inl h
        · exact Or.inr (by simp [h])
theorem e_bub_len : ∀ {l : List α} {y : α}, (e_bub k y l).length = l.length + 1
  | [], y => rfl
  | z :: l, y => by
    unfold e_bub
    cases hc : e_leg k y z
    · show (e_bub k z l).length + 1 = _; rw [e_bub_len]; rfl
    · show (e_bub k y l).length + 1 = _; rw [e_bub_len]; rfl
theorem e_bub_map : ∀ {l : List α} {y : α}, (∀ x, x = y ∨ x ∈ l → k' (f x) = k x) → e_bub k' (f y) (l.map f) = (e_bub k y l).map f
  | [], y, _ => rfl
  | z :: l, y, h => by
    have e : e_leg k' (f y) (f z) = e_leg k y z := by unfold e_leg; rw [h y (Or.inl rfl), h z (Or.inr (by simp))]
    show (bif e_leg k' (f y) (f z) then f z :: e_bub k' (f y) (l.map f) else f y :: e_bub k' (f z) (l.map f)) = (bif e_leg k y z then z :: e_bub k y l else y :: e_bub k z l).map f
    rw [e, e_bub_map (y := y) (fun x hx => h x (by rcases hx with hx | hx; exact Or.inl hx; exact Or.inr (by simp [hx]))), e_bub_map (y := z) (fun x hx => h x (by rcases hx with hx | hx; exact Or.inr (by simp [hx]); exact Or.inr (by simp [hx])))]
    cases e_leg k y z <;> rfl
theorem e_b1_map {l : List α} (h : ∀ x, x ∈ l → k' (f x) = k x) : e_b1 k' (l.map f) = (e_b1 k l).map f := by
  cases l with
  | nil => rfl
  | cons y l => exact e_bub_map (fun x hx => h x (by rcases hx with hx | hx; exact (by simp [hx]); exact (by simp [hx])))
theorem e_b1_mem {l : List α} {x : α} (h : x ∈ e_b1 k l) : x ∈ l := by
  cases l with
  | nil => exact h
  | cons y l => rcases e_bub_mem h with h | h <;> simp [h]
theorem e_b1_len {l : List α} : (e_b1 k l).length = l.length := by
  cases l with
  | nil => rfl
  | cons y l => exact e_bub_len
theorem e_bn_map : ∀ {n : Nat} {l : List α}, (∀ x, x ∈ l → k' (f x) = k x) → e_bn k' n (l.map f) = (e_bn k n l).map f
  | 0, l, _ => rfl
  | n + 1, l, h => by
    show e_bn k' n (e_b1 k' (l.map f)) = (e_bn k n (e_b1 k l)).map f
    rw [e_b1_map h]
    exact e_bn_map (fun x hx => h x (e_b1_mem hx))
theorem e_bn_mem : ∀ {n : Nat} {l : List α} {x : α}, x ∈ e_bn k n l → x ∈ l
  | 0, _, _, h => h
  | _ + 1, _, _, h => e_b1_mem (e_bn_mem h)
theorem e_bn_len : ∀ {n : Nat} {l : List α}, (e_bn k n l).length = l.length
  | 0, _ => rfl
  | n + 1, l => by show (e_bn k n (e_b1 k l)).length = _; rw [e_bn_len, e_b1_len]
end
/-- codes: 8 times the key and the place -/
def e_k (c : Nat) : Nat := c / 8
def e_all : Nat → List Nat → Nat → Bool
  | 0, l, _ => (e_ins e_k [] l.reverse) == (e_bn e_k 6 l.reverse)
  | n + 1, l, i => e_all n (i :: l) (i+1) && e_all n ((8 + i) :: l) (i+1) && e_all n ((16 + i) :: l) (i+1) && e_all n ((24 + i) :: l) (i+1) && e_all n ((32 + i) :: l) (i+1)
set_option maxRecDepth 100000
theorem e_all6 : (e_all 0 [] 0 && e_all 1 [] 0 && e_all 2 [] 0 && e_all 3 [] 0 && e_all 4 [] 0 && e_all 5 [] 0 && e_all 6 [] 0) = true := by decide +kernel
def e_cd : Nat → List Nat → List Nat
  | _, [] => []
  | i, x :: l => (8 * x + i) :: e_cd (i + 1) l
theorem e_all_s : ∀ (ks : List Nat) (acc : List Nat) (i : Nat), (∀ x ∈ ks, x ≤ 4) → e_all ks.length acc i = true → e_ins e_k [] (acc.reverse ++ e_cd i ks) = e_bn e_k 6 (acc.reverse ++ e_cd i ks)
  | [], acc, i, _, h => by simpa [e_all, e_cd] using h
  | x :: ks, acc, i, hk, h => by
    have hx : x ≤ 4 := hk x (by simp)
    simp only [List.length_cons, e_all, Bool.and_eq_true] at h
    obtain ⟨⟨⟨⟨h0, h1⟩, h2⟩, h3⟩, h4⟩ := h
    have e : acc.reverse ++ e_cd i (x :: ks) = ((8 * x + i) :: acc).reverse ++ e_cd (i + 1) ks := by simp [e_cd]
    rw [e]
    refine e_all_s ks _ (i + 1) (fun y hy => hk y (by simp [hy])) ?_
    have : x = 0 ∨ x = 1 ∨ x = 2 ∨ x = 3 ∨ x = 4 := by omega
    rcases this with rfl | rfl | rfl | rfl | rfl
    · simpa using h0
    · exact h1
    · exact h2
    · exact h3
    · exact h4
theorem e_cd_map {α : Type} (k : α → Nat) (d : α) (f : Nat → α) : ∀ (l : List α) (i : Nat), (∀ j, (h : j < l.length) → f (8 * k l[j] + (i + j)) = l[j]) → (e_cd i (l.map k)).map f = l
  | [], _, _ => rfl
  | x :: l, i, h => by
    show f (8 * k x + i) :: (e_cd (i + 1) (l.map k)).map f = x :: l
    have h0 := h 0 (by simp)
    simp only [List.getElem_cons_zero, Nat.add_zero] at h0
    rw [h0, e_cd_map k d f l (i + 1) (fun j hj => by have := h (j + 1) (by simpa using hj); simpa [Nat.add_assoc, Nat.add_comm 1 j] using this)]
theorem e_cd_mem {α : Type} (k : α → Nat) : ∀ (l : List α) (i c : Nat), c ∈ e_cd i (l.map k) → ∃ j, ∃ h : j < l.length, c = 8 * k l[j] + (i + j)
  | [], _, _, h => by simp [e_cd] at h
  | x :: l, i, c, h => by
    simp only [List.map_cons, e_cd, List.mem_cons] at h
    rcases h with h | h
    · exact ⟨0, by simp, by simpa using h⟩
    · obtain ⟨j, hj, e⟩ := e_cd_mem k l (i + 1) c h
      exact ⟨j + 1, by simpa using hj, by simp; omega⟩
/-- insertion and six bubblings tell the same -/
theorem e_same {α : Type} (k : α → Nat) (l : List α) (hl : l.length ≤ 6) (hk : ∀ x ∈ l, k x ≤ 4) : e_ins k [] l = e_bn k 6 l := by
  cases l with
  | nil => rfl
  | cons d l' =>
    generalize hl' : d :: l' = l at *
    let f : Nat → α := fun c => l.getD (c % 8) d
    have hf : ∀ j, (h : j < l.length) → f (8 * k l[j] + (0 + j)) = l[j] := fun j h => by
      show l.getD ((8 * k l[j] + (0 + j)) % 8) d = l[j]
      rw [show (8 * k l[j] + (0 + j)) % 8 = j by omega]
      simp [List.getD, h]
    have em := e_cd_map k d f l 0 hf
    have hm : ∀ c, c ∈ e_cd 0 (l.map k) → k (f c) = e_k c := fun c hc => by
      obtain ⟨j, hj, e⟩ := e_cd_mem k l 0 c hc
      rw [e, hf j hj]; unfold e_k; omega
    have a := e_all6
    simp only [Bool.and_eq_true] at a
    have s := e_all_s (l.map k) [] 0 (fun x hx => by simp at hx; obtain ⟨y, hy, rfl⟩ := hx; exact hk y hy) (by
      rw [List.length_map]
      have : l.length = 0 ∨ l.length = 1 ∨ l.length = 2 ∨ l.length = 3 ∨ l.length = 4 ∨ l.length = 5 ∨ l.length = 6 := by omega
      rcases this with e | e | e | e | e | e | e <;> rw [e]
      · exact a.1.1.1.1.1.1
      · exact a.1.1.1.1.1.2
      · exact a.1.1.1.1.2
      · exact a.1.1.1.2
      · exact a.1.1.2
      · exact a.1.2
      · exact a.2)
    simp only [List.reverse_nil, List.nil_append] at s
    have i1 : e_ins k [] l = (e_ins e_k [] (e_cd 0 (l.map k))).map f := by
      have := e_ins_map (k := e_k) (k' := k) (f := f) (l := e_cd 0 (l.map k)) (acc := []) (fun x hx => hm x (by simpa using hx))
      rw [em] at this; exact this
    have i2 : e_bn k 6 l = (e_bn e_k 6 (e_cd 0 (l.map k))).map f := by
      have := e_bn_map (k := e_k) (k' := k) (f := f) (n := 6) (l := e_cd 0 (l.map k)) hm
      rw [em] at this; exact this
    rw [i1, i2, s]
