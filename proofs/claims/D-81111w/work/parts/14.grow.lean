theorem am_sA_r : ∀ q ∈ am_sA, 1 ≤ q.1 ∧ q.1 ≤ 37 := by decide +kernel
theorem am_fA_r : ∀ q ∈ am_fA, 1 ≤ q.1 ∧ q.1 ≤ 37 := by decide +kernel
theorem am_sM_r : ∀ q ∈ am_sM, 1 ≤ q.1 ∧ q.1 ≤ 76 := by decide +kernel
theorem am_fM_r : ∀ q ∈ am_fM, 1 ≤ q.1 ∧ q.1 ≤ 76 := by decide +kernel
theorem am_sO_r : ∀ q ∈ am_sO, q.1 < 0 := by decide +kernel
section Rep
variable {s0 : State} {ad : Int → Nat} {fm : Value} {cid : Int → ClassId} {slo : Int → Nat → Nat} {N : Int → Nat} {ft : Int → Nat → Nat}
/-- the heap grows by k cells; the last one is known -/
theorem am_Rep.grow (had : ∀ r, 0 < r → ad r = s0.heap.size + (r - 1).toNat) {m m' : aM} {H H' : Heap} (hR : am_Rep s0 ad fm cid slo N ft m H) {k : Int} (hk : 0 < k)
    (hb : ∀ b j, b ≠ m 0 0 + k → b ≠ 0 → m' b j = m b j) (h00 : m' 0 0 = m 0 0 + k) (h01 : m 0 1 ≤ m' 0 1) (h0j : ∀ j, j ≠ 0 → j ≠ 1 → m' 0 j = m 0 j)
    (hsz : H'.size = H.size + k.toNat) (hold : ∀ a, a < H.size → H'[a]? = H[a]?) (hcell : am_cell s0 ad fm cid slo N ft m' H' (m 0 0 + k)) : am_Rep s0 ad fm cid slo N ft m' H' := by
  have hR0 := hR
  obtain ⟨h1, h2, h3, h4, h5, h6, h7, h8, h9, h10⟩ := hR
  have old : ∀ (l : List (Int × Int × Int)) (n : Int), (∀ q ∈ l, 1 ≤ q.1 ∧ q.1 ≤ n) → n ≤ m 0 0 → (am_sf l m → am_sf l m') ∧ (am_ff l m → am_ff l m') := by
    intro l n hl hn
    refine ⟨fun h q hq => ?_, fun h q hq => ?_⟩
    · have a := hl q hq
      rw [hb _ _ (by omega) (by omega), hb _ _ (by omega) (by omega)]
      exact h q hq
    · have a := hl q hq
      rw [hb _ _ (by omega) (by omega)]
      exact h q hq
  refine ⟨by omega, by omega, by rw [hsz, h3, h00]; omega, ⟨by rw [h0j _ (by omega) (by omega)]; exact h4.1, by rw [hb _ _ (by omega) (by omega)]; exact h4.2⟩, fun r hr => ?_, fun r hr => ?_, fun q hq => ?_, ?_, fun g => ?_, fun g => ?_⟩
  · rw [hb _ _ (by omega) (by omega)]
    exact h5 r (by omega)
  · by_cases e : r = m 0 0 + k
    · rw [e]; exact hcell
    · by_cases e0 : r = 0
      · rw [e0, h0j _ (by omega) (by omega)] at hr
        exact absurd h4.1 hr
      · rw [hb _ _ e e0] at hr
        have hc := h6 r hr
        refine hc.kept (fun j => hb _ _ e e0) (hold _ ?_)
        obtain ⟨cell, hcell, _⟩ := hc
        exact (Array.getElem?_eq_some_iff.mp hcell).1
  · rw [hold q (by omega)]
    exact h7 q hq
  · intro q hq
    have a := am_sO_r q hq
    rw [hb _ _ (by omega) (by omega), hb _ _ (by omega) (by omega)]
    exact h8 q hq
  · rw [h0j _ (by omega) (by omega)] at g
    obtain ⟨g1, g2, g3⟩ := h9 g
    exact ⟨(old _ 37 am_sA_r g3).1 g1, (old _ 37 am_fA_r g3).2 g2, by omega⟩
  · rw [h0j _ (by omega) (by omega)] at g
    obtain ⟨g1, g2, g3⟩ := h10 g
    exact ⟨(old _ 76 am_sM_r g3).1 g1, (old _ 76 am_fM_r g3).2 g2, by omega⟩
/-- a ghost is set -/
theorem am_Rep.ghost {m : aM} {H : Heap} (hR : am_Rep s0 ad fm cid slo N ft m H) (k : Int) (hk : k = 2 ∨ k = 3) (h : (k = 2 → am_GA m) ∧ (k = 3 → am_GM m)) : am_Rep s0 ad fm cid slo N ft (mS m 0 k 1) H := by
  obtain ⟨h1, h2, h3, h4, h5, h6, h7, h8, h9, h10⟩ := hR
  have sf : ∀ l, am_sf l m → am_sf l (mS m 0 k 1) := fun l h => am_sf_mS h (by omega)
  have ff : ∀ (l : List (Int × Int × Int)) (n : Int), (∀ q ∈ l, 1 ≤ q.1 ∧ q.1 ≤ n) → am_ff l m → am_ff l (mS m 0 k 1) := fun l n hl h => am_ff_mS h (fun q hq e => by have := hl q hq; omega)
  have e0 : ∀ j, j ≠ k → mS m 0 k 1 0 j = m 0 j := fun j hj => mS_i _ _ _ _ hj
  have eb : ∀ b j, b ≠ 0 → mS m 0 k 1 b j = m b j := fun b j hb => mS_a _ _ _ _ hb
  have hn : ∀ b j, j < 2 → mS m 0 k 1 b j = m b j := fun b j hj => mS_i _ _ _ _ (by omega)
  refine ⟨by rw [hn _ _ (by omega)]; exact h1, by rw [hn _ _ (by omega)]; exact h2, by rw [hn _ _ (by omega)]; exact h3, ⟨by rw [hn _ _ (by omega)]; exact h4.1, by rw [hn _ _ (by omega)]; exact h4.2⟩, fun r hr => ?_, fun r hr => ?_, h7, sf _ h8, fun g => ?_, fun g => ?_⟩
  · rw [hn _ _ (by omega)] at hr ⊢
    exact h5 r hr
  · rw [hn _ _ (by omega)] at hr
    refine (h6 r hr).kept (fun j => eb _ _ (fun e => ?_)) rfl
    rw [e] at hr
    exact hr h4.1
  · have hG : am_GA m := by
      rcases hk with e | e
      · exact h.1 e
      · rw [e0 _ (by omega)] at g
        exact h9 g
    exact ⟨sf _ hG.1, ff _ 37 am_fA_r hG.2.1, by rw [hn _ _ (by omega)]; exact hG.2.2⟩
  · have hG : am_GM m := by
      rcases hk with e | e
      · rw [e0 _ (by omega)] at g
        exact h10 g
      · exact h.2 e
    exact ⟨sf _ hG.1, ff _ 76 am_fM_r hG.2.1, by rw [hn _ _ (by omega)]; exact hG.2.2⟩
end Rep
/-- the locals -/
def am_Lok (ad : Int → Nat) (fm : Value) (L : List aV) (ls : Array Slot) : Prop := ls.size = L.length ∧ lv_wf ls ∧ ∀ i : Nat, am_at L i ≠ aU → ls[i]? = some (.val (am_c ad fm (am_at L i))) ∧ am_vok (am_at L i)
theorem am_at_lt {L : List aV} : ∀ {i : Nat}, am_at L i ≠ aU → i < L.length := by
  induction L with
  | nil => intro i h; exact absurd rfl h
  | cons v l ih =>
    intro i h
    match i, h with
    | 0, _ => simp
    | n + 1, h => have := ih (i := n) h; simp; omega
theorem am_set_len (L : List aV) : ∀ (i : Nat) (v : aV), (am_set L i v).length = L.length := by
  induction L with
  | nil => intro i v; rfl
  | cons w l ih =>
    intro i v
    match i with
    | 0 => rfl
    | n + 1 => simp [am_set, ih]
theorem am_at_set (L : List aV) : ∀ (i j : Nat) (v : aV), i < L.length → am_at (am_set L i v) j = if j = i then v else am_at L j := by
  induction L with
  | nil => intro i j v h; simp at h
  | cons w l ih =>
    intro i j v h
    match i, j with
    | 0, 0 => simp [am_set, am_at]
    | 0, k + 1 => simp [am_set, am_at]
    | n + 1, 0 => simp [am_set, am_at]
    | n + 1, k + 1 =>
      have := ih n k v (by simpa using h)
      simp only [am_set, am_at, this]
      by_cases e : k = n <;> simp [e]
/-- the listed locals, as the kit's rows take them -/
def am_lst (ad : Int → Nat) (fm : Value) (L : List aV) : List (Nat × Value) := (List.range L.length).filterMap (fun i => match am_at L i with
  | .inr (.inr (.inr _)) => none
  | v => some (i, am_c ad fm v))
theorem am_lst_mem {ad : Int → Nat} {fm : Value} {L : List aV} {q : Nat × Value} : q ∈ am_lst ad fm L ↔ am_at L q.1 ≠ aU ∧ q.2 = am_c ad fm (am_at L q.1) := by
  unfold am_lst
  rw [List.mem_filterMap]
  constructor
  · rintro ⟨i, hi, h⟩
    split at h
    · cases h
    · next v hv =>
      cases h
      refine ⟨fun e => ?_, rfl⟩
      exact hv () e
  · rintro ⟨h1, h2⟩
    refine ⟨q.1, List.mem_range.mpr (am_at_lt h1), ?_⟩
    split
    · next hv => exact absurd hv h1
    · rw [← h2]
theorem am_Lok.has {ad : Int → Nat} {fm : Value} {L : List aV} {ls : Array Slot} (h : am_Lok ad fm L ls) : lv_has ls L.length (am_lst ad fm L) := by
  refine ⟨h.1, h.2.1, fun q hq => ?_⟩
  obtain ⟨h1, h2⟩ := am_lst_mem.mp hq
  rw [h2]
  exact (h.2.2 q.1 h1).1
