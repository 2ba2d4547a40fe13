/-! WHAT THE ABSTRACT MEMORY SAYS OF THE HEAP -/
/-- the value of an abstract reference: null, the formatter, an address -/
def am_rv (ad : Int → Nat) (fm : Value) (r : Int) : Value := if r = 0 then .null else if r = -9 then fm else .ref (ad r)
def am_c (ad : Int → Nat) (fm : Value) : aV → Value
  | .inl x => .int (Int32.ofInt x)
  | .inr (.inl x) => .long (Int64.ofInt x)
  | .inr (.inr (.inl r)) => am_rv ad fm r
  | .inr (.inr (.inr _)) => .null
/-- what the place of type code w holds -/
def am_w (ad : Int → Nat) (fm : Value) (w : Nat) (x : Int) : Value := am_c ad fm (am_mk w x)
def am_vok : aV → Prop
  | .inl x => -2147483648 ≤ x ∧ x ≤ 2147483647
  | .inr (.inl x) => -9223372036854775808 ≤ x ∧ x ≤ 9223372036854775807
  | .inr (.inr (.inl _)) => True
  | .inr (.inr (.inr _)) => False
/-- classes by tag: objects with fields; arrays; throwables -/
def am_isO (t : Int) : Bool := ([1, 2, 4, 5, 6, 7, 8, 9, 10, 11, 13, 14, 15, 16, 17, 30] : List Int).elem t
def am_isA (t : Int) : Bool := (decide (40 ≤ t) && decide (t ≤ 49)) || (decide (1000 ≤ t) && decide (t ≤ 1066))
def am_isX (t : Int) : Bool := decide (t = 3) || (decide (61 ≤ t) && decide (t ≤ 64))
/-- element types of arrays -/
def am_aty (t : Int) : FieldType :=
  if 1000 ≤ t then .byte else if t = 49 then .int else if t = 40 then .int else if t = 41 then .long else if t = 42 then .boolean else if t = 43 then .byte else
  if t = 44 then .object "java/lang/String" else if t = 45 then .object "ArmsHouse$Layer" else if t = 46 then .object "ArmsHouse$Arms" else if t = 47 then .object "ArmsHouse$Person" else .object "ArmsHouse$Node"
def am_aw (t : Int) : Nat := if 1000 ≤ t then 0 else if t = 49 then 0 else if t = 41 then 1 else if t ≤ 43 then 0 else 2
/-- a cell of the heap as the memory has it; N t: how many fields, ft t k: their type codes -/
def am_cell (s0 : State) (ad : Int → Nat) (fm : Value) (cid : Int → ClassId) (slo : Int → Nat → Nat) (N : Int → Nat) (ft : Int → Nat → Nat) (m : aM) (H : Heap) (r : Int) : Prop :=
  ∃ cell : Cell, H[ad r]? = some cell ∧ cell.cls = cid (m r (-1)) ∧ cell.vm ≠ .unknown ∧ cell.vm.isStatics = false ∧ (0 < r → am_isX (m r (-1)) = false → cell.vm = .none) ∧ (r < 0 → ad r < s0.heap.size) ∧
  ((am_isO (m r (-1)) = true ∧ ∀ k, k < N (m r (-1)) → cell.slots[slo (m r (-1)) k]? = some (am_w ad fm (ft (m r (-1)) k) (m r k)) ∧ am_vok (am_mk (ft (m r (-1)) k) (m r k))) ∨
   (am_isA (m r (-1)) = true ∧ 0 ≤ m r (-2) ∧ cell.slots.size = (m r (-2)).toNat ∧ (m r (-2) ≤ 2147483647) ∧ ∀ j : Nat, (j : Int) < m r (-2) → cell.slots[j]? = some (am_w ad fm (am_aw (m r (-1))) (m r j)) ∧ am_vok (am_mk (am_aw (m r (-1))) (m r j))) ∨
   (am_isX (m r (-1)) = true ∧ (m r (-1) = 3 → m r 0 = 0 → ∃ k, s0.vm.classes[cid 3]? = some k ∧ cell = freshCell (cid 3) k)))
/-- facts of objects that stand for good: (reference, tag, length); of their final fields: (reference, place, value) -/
def am_sf (l : List (Int × Int × Int)) (m : aM) : Prop := ∀ q ∈ l, m q.1 (-1) = q.2.1 ∧ (40 ≤ q.2.1 → m q.1 (-2) = q.2.2)
def am_ff (l : List (Int × Int × Int)) (m : aM) : Prop := ∀ q ∈ l, m q.1 q.2.1 = q.2.2
def am_sA : List (Int × Int × Int) := [(1, 1, 0), (2, 44, 67), (3, 45, 6), (4, 40, 700), (5, 40, 18), (6, 40, 2880), (7, 42, 2880), (8, 42, 2880), (9, 40, 2880), (10, 40, 6), (11, 40, 12), (12, 40, 12), (13, 2, 0), (14, 40, 1200), (15, 40, 1202), (16, 40, 1202), (17, 40, 1202), (18, 40, 1200), (19, 46, 50), (20, 47, 40), (21, 40, 480), (22, 40, 40), (23, 46, 100), (24, 40, 100), (25, 40, 100), (26, 3, 0), (27, 48, 20), (28, 40, 20), (29, 4, 0), (30, 5, 0), (31, 6, 0), (32, 45, 0), (33, 4, 0), (34, 5, 0), (35, 6, 0), (36, 45, 1), (37, 40, 21681)]
def am_sM : List (Int × Int × Int) := [(41, 9, 0), (42, 40, 3432), (43, 40, 1200), (44, 40, 2000), (45, 41, 9), (46, 41, 12), (47, 41, 5), (48, 41, 8), (49, 41, 5), (50, 41, 10), (51, 40, 2880), (52, 40, 6), (53, 40, 12), (54, 40, 12), (55, 40, 2880), (56, 42, 40), (57, 40, 40), (58, 40, 40), (59, 40, 40), (60, 40, 40), (61, 40, 40), (62, 40, 12), (63, 42, 40), (64, 40, 12), (65, 40, 100), (66, 40, 100), (67, 40, 100), (68, 40, 14), (69, 40, 21), (70, 40, 21), (71, 40, 1260), (72, 40, 1260), (73, 40, 1260), (74, 40, 1260), (75, 40, 21681), (76, 40, 21681)]
def am_fA : List (Int × Int × Int) := [(1, 0, 2), (1, 1, 3), (1, 2, 4), (1, 4, 5), (1, 6, 6), (1, 7, 7), (1, 8, 8), (1, 9, 9), (1, 10, 10), (1, 11, 11), (1, 12, 12), (1, 15, 13), (1, 16, 18), (1, 19, 19), (1, 21, 20), (1, 23, 21), (1, 24, 22), (1, 26, 23), (1, 27, 24), (1, 28, 25), (1, 31, 26), (1, 35, 27), (1, 36, 28), (1, 42, 29), (1, 43, 33), (1, 44, 37), (13, 0, 14), (13, 1, 15), (13, 2, 16), (13, 3, 17), (13, 9, 1)]
def am_fM : List (Int × Int × Int) := [(41, 0, 42), (41, 2, 43), (41, 4, 44), (41, 6, 45), (41, 7, 46), (41, 8, 47), (41, 9, 48), (41, 10, 49), (41, 11, 50), (41, 21, 51), (41, 22, 52), (41, 24, 53), (41, 25, 54), (41, 26, 55), (41, 29, 56), (41, 30, 57), (41, 31, 58), (41, 32, 59), (41, 33, 60), (41, 34, 61), (41, 35, 62), (41, 37, 63), (41, 38, 64), (41, 41, 65), (41, 42, 66), (41, 43, 67), (41, 44, 68), (41, 47, 69), (41, 48, 70), (41, 49, 71), (41, 50, 72), (41, 51, 73), (41, 52, 74), (41, 64, 75), (41, 65, 76)]
/-- the constant arrays of the class, and the words' Strings and bytes: all there at the start -/
def am_sO : List (Int × Int × Int) := [(-2, 40, 13), (-3, 40, 8), (-4, 40, 9)]
def am_GA (m : aM) : Prop := am_sf am_sA m ∧ am_ff am_fA m ∧ 37 ≤ m 0 0
def am_GM (m : aM) : Prop := am_sf am_sM m ∧ am_ff am_fM m ∧ 76 ≤ m 0 0
def am_G (n : Nat) (m : aM) : Prop := if n = 1 then am_GA m else am_GM m
/-- THE HEAP IS AS THE MEMORY SAYS -/
def am_Rep (s0 : State) (ad : Int → Nat) (fm : Value) (cid : Int → ClassId) (slo : Int → Nat → Nat) (N : Int → Nat) (ft : Int → Nat → Nat) (m : aM) (H : Heap) : Prop :=
  0 ≤ m 0 0 ∧ 0 ≤ m 0 1 ∧ H.size = s0.heap.size + (m 0 0).toNat ∧ (m 0 (-1) = 0 ∧ m (-9) (-1) = 0) ∧ (∀ r, m 0 0 < r → m r (-1) = 0) ∧ (∀ r, m r (-1) ≠ 0 → am_cell s0 ad fm cid slo N ft m H r) ∧
  (∀ a, a < s0.heap.size → H[a]? = s0.heap[a]?) ∧ am_sf am_sO m ∧ (m 0 2 = 1 → am_GA m) ∧ (m 0 3 = 1 → am_GM m)
/-- a place that may be written: above null, no field that stands for good -/
def am_may (m : aM) (a i : Int) : Prop := 0 < a ∧ 0 ≤ i ∧ (m 0 2 = 1 → ∀ q ∈ am_fA, ¬ (q.1 = a ∧ q.2.1 = i)) ∧ (m 0 3 = 1 → ∀ q ∈ am_fM, ¬ (q.1 = a ∧ q.2.1 = i))
theorem am_sf_mS {l : List (Int × Int × Int)} {m : aM} {a i v : Int} (h : am_sf l m) (hi : 0 ≤ i) : am_sf l (mS m a i v) := by
  intro q hq
  have := h q hq
  rw [mS_i _ _ _ _ (by omega), mS_i _ _ _ _ (by omega)]
  exact this
theorem am_ff_mS {l : List (Int × Int × Int)} {m : aM} {a i v : Int} (h : am_ff l m) (hi : ∀ q ∈ l, ¬ (q.1 = a ∧ q.2.1 = i)) : am_ff l (mS m a i v) := by
  intro q hq
  rw [mS_iff, if_neg (hi q hq)]
  exact h q hq
section Rep
variable {s0 : State} {ad : Int → Nat} {fm : Value} {cid : Int → ClassId} {slo : Int → Nat → Nat} {N : Int → Nat} {ft : Int → Nat → Nat}
theorem am_cell.kept {m m' : aM} {H H' : Heap} {r : Int} (h : am_cell s0 ad fm cid slo N ft m H r) (hm : ∀ j, m' r j = m r j) (hH : H'[ad r]? = H[ad r]?) : am_cell s0 ad fm cid slo N ft m' H' r := by
  have e : m' r = m r := funext hm
  unfold am_cell at h ⊢
  rw [e, hH]
  exact h
/-- addresses of what is there are apart -/
theorem am_apart (had : ∀ r, 0 < r → ad r = s0.heap.size + (r - 1).toNat) {m : aM} {H : Heap} (hR : am_Rep s0 ad fm cid slo N ft m H) {a r : Int} (ha : 0 < a) (hr : m r (-1) ≠ 0) (hne : r ≠ a) : ad r ≠ ad a := by
  obtain ⟨_, _, _, ⟨h0, _⟩, _, hc, _⟩ := hR
  obtain ⟨cell, _, _, _, _, _, hneg, _⟩ := hc r hr
  have e1 := had a ha
  rcases Int.lt_trichotomy r 0 with h | h | h
  · have := hneg h
    omega
  · rw [h] at hr
    exact absurd h0 hr
  · have := had r h
    omega
/-- one place of one cell is written -/
theorem am_Rep.put (had : ∀ r, 0 < r → ad r = s0.heap.size + (r - 1).toNat) {m : aM} {H H' : Heap} (hR : am_Rep s0 ad fm cid slo N ft m H) {a i v : Int} (hm : am_may m a i) (hcell : am_cell s0 ad fm cid slo N ft (mS m a i v) H' a) (hsz : H'.size = H.size) (hH : ∀ q, q ≠ ad a → H'[q]? = H[q]?) : am_Rep s0 ad fm cid slo N ft (mS m a i v) H' := by
  have hR0 := hR
  obtain ⟨h1, h2, h3, h4, h5, h6, h7, h8, h9, h10⟩ := hR
  obtain ⟨ma, mi, mA, mM⟩ := hm
  have k0 : ∀ j, mS m a i v 0 j = m 0 j := fun j => mS_a _ _ _ _ (by omega)
  refine ⟨by rw [k0]; exact h1, by rw [k0]; exact h2, by rw [k0, hsz]; exact h3, ⟨by rw [k0]; exact h4.1, by rw [mS_i _ _ _ _ (by omega)]; exact h4.2⟩, fun r hr => ?_, fun r hr => ?_, fun q hq => ?_, am_sf_mS h8 mi, fun g => ?_, fun g => ?_⟩
  · rw [k0] at hr
    rw [mS_i _ _ _ _ (by omega)]
    exact h5 r hr
  · rw [mS_i _ _ _ _ (by omega)] at hr
    by_cases e : r = a
    · rw [e]; exact hcell
    · exact (h6 r hr).kept (fun j => mS_a _ _ _ _ e) (hH _ (am_apart had hR0 ma hr e))
  · rw [hH q (by have := had a ma; omega)]
    exact h7 q hq
  · rw [k0] at g
    obtain ⟨g1, g2, g3⟩ := h9 g
    exact ⟨am_sf_mS g1 mi, am_ff_mS g2 (mA g), by rw [k0]; exact g3⟩
  · rw [k0] at g
    obtain ⟨g1, g2, g3⟩ := h10 g
    exact ⟨am_sf_mS g1 mi, am_ff_mS g2 (mM g), by rw [k0]; exact g3⟩
end Rep
