/-! needs: c14 -/
/-! CALLS: ask, both; by tools/genc15.py -/
set_option maxRecDepth 100000
set_option maxHeartbeats 8000000
def sAk (S : aM) (x y : Int) : aM := mS (mS S 0 8 x) 0 7 y
def c_ask (S : aM) (F : Int → aD) (c a : Int) : Int × aM := if (0 ≤ c ∧ c < S 0 6) ∧ v_has S a then (match F c (S (100 + a)) with
  | .inl (e, q) => (e, sAk S q (S 0 7))
  | .inr (s, v) => if s = 0 then (0, sAk S (-1) v) else (2, sAk S (S 20 c) (S 0 7))) else (-2, S)
theorem c_ask_n {S : aM} {F : Int → aD} {c a : Int} (h : ¬ ((0 ≤ c ∧ c < S 0 6) ∧ v_has S a)) : c_ask S F c a = (-2, S) := if_neg h
theorem c_ask_e {S : aM} {F : Int → aD} {c a e q : Int} (h : (0 ≤ c ∧ c < S 0 6) ∧ v_has S a) (z : F c (S (100 + a)) = .inl (e, q)) : c_ask S F c a = (e, sAk S q (S 0 7)) := by unfold c_ask; rw [if_pos h, z]
theorem c_ask_w {S : aM} {F : Int → aD} {c a v : Int} (h : (0 ≤ c ∧ c < S 0 6) ∧ v_has S a) (z : F c (S (100 + a)) = .inr (0, v)) : c_ask S F c a = (0, sAk S (-1) v) := by unfold c_ask; rw [if_pos h, z]; exact if_pos rfl
theorem c_ask_c {S : aM} {F : Int → aD} {c a s v : Int} (h : (0 ≤ c ∧ c < S 0 6) ∧ v_has S a) (z : F c (S (100 + a)) = .inr (s, v)) (n : s ≠ 0) : c_ask S F c a = (2, sAk S (S 20 c) (S 0 7)) := by unfold c_ask; rw [if_pos h, z]; exact if_neg n
theorem sAk_r {S : aM} {x y : Int} {r : Int} (h : r ≠ 0) : sAk S x y r = S r := funext fun j => by unfold sAk; rw [mS_iff, if_neg (by omega), mS_iff, if_neg (by omega)]
theorem sAk_0 {S : aM} {x y j : Int} (h : j ≠ 7 ∧ j ≠ 8) : sAk S x y 0 j = S 0 j := by unfold sAk; rw [mS_iff, if_neg (by omega), mS_iff, if_neg (by omega)]
theorem sAk_7 {S : aM} {x y : Int} : sAk S x y 0 7 = y := by unfold sAk; rw [mS_iff, if_pos ⟨rfl, rfl⟩]
theorem sAk_8 {S : aM} {x y : Int} : sAk S x y 0 8 = x := by unfold sAk; rw [mS_iff, if_neg (by omega), mS_iff, if_pos ⟨rfl, rfl⟩]
theorem fr_A.H {lo hi alo ahi c : Int} {m m' : aM} (h : fr_A lo hi alo ahi c m m') (h0 : 77 ≤ m 0 0) (hl : 77 ≤ lo ∧ 77 ≤ alo) : hFr c m m' := by
  obtain ⟨h1, h2, h3, h4⟩ := h
  exact ⟨h1, by omega, h4, ⟨h1.1, fun r a b c => ⟨h3 r (-1) (by omega) c (by omega) (by omega) (by omega), fun n => funext fun j => h3 r j (by omega) c (by omega) (by omega) (by omega)⟩⟩, fun x j a b c => h3 x j a (by omega) (by unfold hKpt at c; omega) (by unfold hKpt at c; omega) (by omega)⟩
theorem hI.ak {S : aM} {F : Int → aD} {lo hi cl ch : Int → Int} {m : aM} {x y : Int} (h : hI S F lo hi cl ch m) : hI (sAk S x y) F lo hi cl ch (mS (mS m 1 41 x) 1 38 y) := by
  have e : ∀ r j, (r ≠ 1 ∨ (j ≠ 41 ∧ j ≠ 38)) → mS (mS m 1 41 x) 1 38 y r j = m r j := fun r j u => by rw [mS_iff, if_neg (by omega), mS_iff, if_neg (by omega)]
  have hn : hNm (sAk S x y) (mS (mS m 1 41 x) 1 38 y) := by
    obtain ⟨n1, n2, n3, n4, n5, n6, n7, n8, n9⟩ := h.2.2.1
    unfold hNm
    rw [sAk_7, sAk_8, sAk_0 (j := 0) (by omega), sAk_0 (j := 1) (by omega), sAk_0 (j := 2) (by omega), sAk_0 (j := 9) (by omega), sAk_r (r := 1) (by omega), sAk_r (r := 2) (by omega), e 1 17 (by omega), e 1 3 (by omega), e 1 18 (by omega), e 1 46 (by omega), e 1 39 (by omega)]
    exact ⟨n1, fun i a b => by rw [e 18 i (by omega)]; exact n2 i a b, n3, fun i a b => by rw [e 4 i (by omega)]; exact n4 i a b, n5, by rw [mS_iff, if_pos ⟨rfl, rfl⟩], by rw [mS_iff, if_neg (by omega), mS_iff, if_pos ⟨rfl, rfl⟩], n8, n9⟩
  exact h.up (fun r j u => e r j (by omega)) hn ((h.2.2.2.2.1.keep (e 1 29 (by omega)) (fun r u => funext fun j => e r j (by omega))).cg (sAk_0 (by omega)) (sAk_0 (by omega)) (fun r a b => sAk_r (by omega))) (fun j u => e 1 j (by omega)) (fun r u => funext fun j => e r j (by omega)) ⟨e 18 _ (by omega), e 18 _ (by omega)⟩ (sAk_0 (by omega)) (sAk_0 (by omega)) (sAk_0 (by omega)) (fun r u => sAk_r (by omega))
theorem mI.ak {S : aM} {F : Int → aD} {m m' : aM} {x y : Int} (h : mI S F m) (e : ∀ r j, (r ≠ 41 ∨ (j ≠ 62 ∧ j ≠ 63)) → m' r j = m r j) (e2 : m' 41 62 = y) (e3 : m' 41 63 = x) : mI (sAk S x y) F m' := by
  have hn : mNm (sAk S x y) m' := by
    obtain ⟨n1, n2, n3, n4, n5, n6, n7, n8⟩ := h.1
    unfold mNm
    rw [sAk_7, sAk_8, sAk_0 (j := 0) (by omega), sAk_0 (j := 1) (by omega), sAk_0 (j := 2) (by omega), sAk_0 (j := 9) (by omega), sAk_r (r := 1) (by omega), sAk_r (r := 2) (by omega), e 41 3 (by omega), e 41 5 (by omega), e 41 17 (by omega), e 41 67 (by omega)]
    exact ⟨n1, fun i a b => by rw [e 43 i (by omega)]; exact n2 i a b, n3, fun i a b => by rw [e 44 i (by omega)]; exact n4 i a b, n5, e2, e3, n8⟩
  have he : mEs (sAk S x y) m' := by
    refine mEs.cg ?_ (sAk_0 (by omega)) (sAk_0 (by omega)) (fun r a b => sAk_r (by omega))
    unfold mEs
    rw [e 41 40 (by omega), show m' 65 = m 65 from funext fun j => e 65 j (by omega), show m' 66 = m 66 from funext fun j => e 66 j (by omega), show m' 67 = m 67 from funext fun j => e 67 j (by omega)]
    exact h.2.2.1
  exact h.up hn he (fun j u => e 41 j (by omega)) (fun r u => funext fun j => e r j (by omega)) (fun j u => e 42 j (by omega)) (sAk_0 (by omega)) (sAk_0 (by omega)) (sAk_0 (by omega)) (fun r u => sAk_r (by omega))
theorem hs_132 {d : Nat} {m : aM} {Q : aO → aM → Prop} {S : aM} {F : Int → aD} {lo hi cl ch : Int → Int} {k c a : Int} (hd : 120 ≤ d) (hk : 0 ≤ k) (hz0 : hZ (k + 1) S F lo hi cl ch m) (si : sI S F) (hQ : ∀ m', hZ k (c_ask S F c a).2 F lo hi cl ch m' → (∀ x j, 41 ≤ x → x ≤ 76 → m' x j = m x j) → Q (.inl (some (aI (c_ask S F c a).1))) m') : am_wpc am_G am_T d 132 [aR 1, aI c, aI a] m Q := by
  have h := hz0.1
  have hr := hz0.2
  have fr := hFr.rfl m
  obtain ⟨r1, r2, r3, r4, r5⟩ := id hr
  have hS := h.2.2.2.1
  have h0 := h.1
  have s1 := hS.1
  have hC := h.2.2.2.2.2.2.1
  have c37 := hC.2.1
  have c20 := hC.1
  have n6 := h.2.2.1.2.2.2.2.2.1
  have n9 := h.2.2.1.2.2.2.2.2.2.2.2
  have hO := h.2.2.2.2.2.2.2.2.2.2.1
  obtain ⟨dk, hdk⟩ : ∃ k, d = k + 1 := ⟨d - 1, by omega⟩
  refine am_in (k := dk) rfl (by omega) (fun d hd => ?_)
  refine am_go 400 [] (am_wpc_cm _ _ _) wf_132 ?_
  refine And.intro (rfl) ?_
  refine And.intro (show -2147483648 ≤ (m 1 37) - 1 ∧ (m 1 37) - 1 ≤ 2147483647 by first | omega | (simp only [mS_iff, eq_self, Int.reduceEq, true_and, and_true, false_and, and_false, and_self, ↓reduceIte]; omega) | (simp only [mS_iff, eq_self, Int.reduceEq, true_and, and_true, false_and, and_false, and_self, ↓reduceIte] at *; omega)) ?_
  refine ct_39 (by omega) (fun t0 => ?_) (fun t0 => ?_)
  · refine And.intro (fun h => absurd h (by decide)) (fun _ => ?_)
    refine And.intro (rfl) ?_
    refine ct_59 (by omega) h (by omega) (fun t1 => ?_) (fun t1 mw1 fx => ?_)
    · have hA1 := hS.2.2.1 a t1.1 t1.2
      have hB1 := hA1.basic
      refine And.intro (fun _ => ?_) (fun h => absurd h (by decide))
      obtain ⟨g1, ⟨p, g2, hn⟩, g4⟩ := hC.2.2 c (by omega) (by omega)
      have ap := h.2.2.2.2.2.2.2.1 c a (by omega) (by omega) t1.1 t1.2
      have l78 := h.2.2.2.2.2.2.2.2.2.2.2.1 a t1.1 t1.2
      have hp1 := hn.2.2.1
      refine And.intro (rfl) ?_
      refine And.intro (⟨rfl, by omega⟩) ?_
      refine And.intro (rfl) ?_
      refine ct_133 (by omega) hn hA1 ⟨by omega, ap, hO.2.1, hn.2.2.1, by omega, by omega, by omega, hO.2.2.2.2⟩ (by omega) (by omega) (by omega) rfl (fun v z m1 fa e40 => ?_) (fun s v z n m1 fa e33 => ?_) (fun e q z m1 fa e33 => ?_)
      · have fh := fa.H h0 (by omega)
        have fr := fr.trans fh
        have hM := h.fr fh
        have q1 := fh.1
        have q2 := fh.2.1
        have q14 := fh.2.2.2.2 1 14 (by omega) (by omega) (by unfold hKpt; omega)
        have q38 := fh.2.2.2.2 1 38 (by omega) (by omega) (by unfold hKpt; omega)
        refine And.intro (fun h => absurd h (by omega)) (fun _ => ?_)
        refine And.intro (rfl) ?_
        refine And.intro (fun h => absurd h (by omega)) (fun _ => ?_)
        refine And.intro (rfl) ?_
        refine And.intro (rfl) ?_
        have t0x : 0 ≤ c ∧ c < S 0 6 := by omega
        have e0 := c_ask_w ⟨t0x, t1⟩ z
        rw [e0] at hQ
        dsimp only at hQ
        have ME : mS (mS m1 1 41 (-1)) 1 38 v = mS (mS m1 1 41 (-1)) 1 38 (m1 1 40) := by
          rw [show (-1) = (-1) by first | rfl | omega, show (m1 1 40) = v by first | rfl | omega]
        show Q (.inl (some (aI 0))) (mS (mS m1 1 41 (-1)) 1 38 (m1 1 40))
        rw [← ME]
        exact hQ _ ⟨hM.ak, by rw [mS_iff, if_neg (by omega), mS_iff, if_neg (by omega)]; omega, by rw [mS_iff, if_neg (by omega), mS_iff, if_neg (by omega)]; omega, by rw [mS_iff, if_neg (by omega), mS_iff, if_neg (by omega)]; omega, by rw [mS_iff, if_neg (by omega), mS_iff, if_neg (by omega)]; omega, by rw [mS_iff, if_neg (by omega), mS_iff, if_neg (by omega)]; omega⟩ (fun x j u v => by rw [mS_iff, if_neg (by omega), mS_iff, if_neg (by omega)]; exact fr.M x j u v)
      · have fh := fa.H h0 (by omega)
        have fr := fr.trans fh
        have hM := h.fr fh
        have q1 := fh.1
        have q2 := fh.2.1
        have q14 := fh.2.2.2.2 1 14 (by omega) (by omega) (by unfold hKpt; omega)
        have q38 := fh.2.2.2.2 1 38 (by omega) (by omega) (by unfold hKpt; omega)
        refine And.intro (fun _ => ?_) (fun h => absurd h (by omega))
        refine And.intro (rfl) ?_
        refine And.intro (rfl) ?_
        refine And.intro (fun _ => ?_) (fun h => absurd h (by omega))
        refine And.intro (rfl) ?_
        refine And.intro (rfl) ?_
        have t0x : 0 ≤ c ∧ c < S 0 6 := by omega
        have e0 := c_ask_c ⟨t0x, t1⟩ z n
        rw [e0] at hQ
        dsimp only at hQ
        have ME : mS (mS m1 1 41 (S 20 c)) 1 38 (S 0 7) = mS (mS m1 1 41 (m1 1 33)) 1 38 (m1 1 38) := by
          rw [show (m1 1 33) = (S 20 c) by first | rfl | omega, show (m1 1 38) = (S 0 7) by first | rfl | omega]
        show Q (.inl (some (aI 2))) (mS (mS m1 1 41 (m1 1 33)) 1 38 (m1 1 38))
        rw [← ME]
        exact hQ _ ⟨hM.ak, by rw [mS_iff, if_neg (by omega), mS_iff, if_neg (by omega)]; omega, by rw [mS_iff, if_neg (by omega), mS_iff, if_neg (by omega)]; omega, by rw [mS_iff, if_neg (by omega), mS_iff, if_neg (by omega)]; omega, by rw [mS_iff, if_neg (by omega), mS_iff, if_neg (by omega)]; omega, by rw [mS_iff, if_neg (by omega), mS_iff, if_neg (by omega)]; omega⟩ (fun x j u v => by rw [mS_iff, if_neg (by omega), mS_iff, if_neg (by omega)]; exact fr.M x j u v)
      · have fh := fa.H h0 (by omega)
        have fr := fr.trans fh
        have hM := h.fr fh
        have q1 := fh.1
        have q2 := fh.2.1
        have q14 := fh.2.2.2.2 1 14 (by omega) (by omega) (by unfold hKpt; omega)
        have q38 := fh.2.2.2.2 1 38 (by omega) (by omega) (by unfold hKpt; omega)
        have ez := si.2.2.2.1 c (by omega) (by omega) _ _ _ z
        refine And.intro (fun _ => ?_) (fun h => absurd h (by omega))
        refine And.intro (rfl) ?_
        refine And.intro (rfl) ?_
        refine And.intro (fun _ => ?_) (fun h => absurd h (by omega))
        refine And.intro (rfl) ?_
        refine And.intro (rfl) ?_
        have t0x : 0 ≤ c ∧ c < S 0 6 := by omega
        have e0 := c_ask_e ⟨t0x, t1⟩ z
        rw [e0] at hQ
        dsimp only at hQ
        have ME : mS (mS m1 1 41 q) 1 38 (S 0 7) = mS (mS m1 1 41 (m1 1 33)) 1 38 (m1 1 38) := by
          rw [show (m1 1 33) = q by first | rfl | omega, show (m1 1 38) = (S 0 7) by first | rfl | omega]
        show Q (.inl (some (aI e))) (mS (mS m1 1 41 (m1 1 33)) 1 38 (m1 1 38))
        rw [← ME]
        exact hQ _ ⟨hM.ak, by rw [mS_iff, if_neg (by omega), mS_iff, if_neg (by omega)]; omega, by rw [mS_iff, if_neg (by omega), mS_iff, if_neg (by omega)]; omega, by rw [mS_iff, if_neg (by omega), mS_iff, if_neg (by omega)]; omega, by rw [mS_iff, if_neg (by omega), mS_iff, if_neg (by omega)]; omega, by rw [mS_iff, if_neg (by omega), mS_iff, if_neg (by omega)]; omega⟩ (fun x j u v => by rw [mS_iff, if_neg (by omega), mS_iff, if_neg (by omega)]; exact fr.M x j u v)
    · have fr := fr.trans fx
      have cn := fr.1
      have cs := fr.2.1
      refine And.intro (fun h => absurd h (by decide)) (fun _ => ?_)
      have e0 := c_ask_n (S := S) (F := F) (c := c) (a := a) (fun z => absurd z (by omega))
      rw [e0] at hQ
      exact hQ mw1 (hz0.fr fr (by omega)) fr.M
  · refine And.intro (fun _ => ?_) (fun h => absurd h (by decide))
    have e0 := c_ask_n (S := S) (F := F) (c := c) (a := a) (fun z => absurd z (by omega))
    rw [e0] at hQ
    exact hQ m (hz0.fr fr (by omega)) fr.M
theorem ms_297 {d : Nat} {m : aM} {Q : aO → aM → Prop} {S : aM} {F : Int → aD} {k c a : Int} (hd : 120 ≤ d) (hk : 0 ≤ k) (hz0 : mZ (k + 1) S F m) (si : sI S F) (hQ : ∀ m', mZ k (c_ask S F c a).2 F m' → (∀ x j, x < 41 ∨ 76 < x → m' x j = m x j) → Q (.inl (some (aI (c_ask S F c a).1))) m') : am_wpc am_G am_T d 297 [aR 41, aI c, aI a] m Q := by
  have h := hz0.1
  obtain ⟨r1, r2⟩ := id hz0.2
  have fr := mFr.rfl m
  have hS := h.2.1
  have s1 := hS.1
  have hC := h.2.2.2.2.1
  have c46 := hC.2.1
  have c20 := hC.1
  have n6 := h.1.2.2.2.2.2.1
  obtain ⟨dk, hdk⟩ : ∃ k, d = k + 1 := ⟨d - 1, by omega⟩
  refine am_in (k := dk) rfl (by omega) (fun d hd => ?_)
  refine am_go 400 [] (am_wpc_cm _ _ _) wf_297 ?_
  refine And.intro (fun h1 => ?_) (fun h1 => ?_)
  · have e0 := c_ask_n (S := S) (F := F) (c := c) (a := a) (fun z => absurd z (by omega))
    rw [e0] at hQ
    exact hQ m (hz0.fr fr) fr.1
  · refine And.intro (rfl) ?_
    refine And.intro (fun h2 => ?_) (fun h2 => ?_)
    · have e0 := c_ask_n (S := S) (F := F) (c := c) (a := a) (fun z => absurd z (by omega))
      rw [e0] at hQ
      exact hQ m (hz0.fr fr) fr.1
    · refine And.intro (rfl) ?_
      refine ct_222 (by omega) h (fun t1 => ?_) (fun t1 => ?_)
      · have hA1 := (hS.2.2 a t1.1 t1.2).1
        have ok1 := (hS.2.2 a t1.1 t1.2).2
        refine And.intro (fun _ => ?_) (fun h => absurd h (by decide))
        obtain ⟨⟨p, hh, g2, g3, hn⟩, g4⟩ := hC.2.2 c (by omega) (by omega)
        have hp1 := hn.2.1
        refine And.intro (rfl) ?_
        refine ct_298 (by omega) hn hA1 ok1 (by omega) (fun v z m1 fk e58 => ?_) (fun s v z n m1 fk e60 => ?_) (fun e q z m1 fk e60 => ?_)
        · have fh := fk.R
          have fr := fr.trans fh
          have hM := h.fr fh
          have q27 := fk 41 27 (by omega)
          have q62 := fk 41 62 (by omega)
          refine And.intro (fun h => absurd h (by omega)) (fun _ => ?_)
          refine And.intro (rfl) ?_
          refine And.intro (rfl) ?_
          refine And.intro (fun h => absurd h (by omega)) (fun _ => ?_)
          refine And.intro (rfl) ?_
          have t0x : 0 ≤ c ∧ c < S 0 6 := by omega
          have e0 := c_ask_w ⟨t0x, t1⟩ z
          rw [e0] at hQ
          dsimp only at hQ
          exact hQ _ ⟨hM.ak (fun r j u => by rw [mS_iff, if_neg (by omega), mS_iff, if_neg (by omega)]) (by simp only [mS_iff, eq_self, Int.reduceEq, true_and, and_true, false_and, and_false, and_self, ↓reduceIte]; omega) (by simp only [mS_iff, eq_self, Int.reduceEq, true_and, and_true, false_and, and_false, and_self, ↓reduceIte]; try omega), by rw [mS_iff, if_neg (by omega), mS_iff, if_neg (by omega)]; omega, by rw [mS_iff, if_neg (by omega), mS_iff, if_neg (by omega)]; omega⟩ (fun x j u => by rw [mS_iff, if_neg (by omega), mS_iff, if_neg (by omega)]; exact fr.1 x j u)
        · have fh := fk.R
          have fr := fr.trans fh
          have hM := h.fr fh
          have q27 := fk 41 27 (by omega)
          have q62 := fk 41 62 (by omega)
          refine And.intro (fun _ => ?_) (fun h => absurd h (by omega))
          refine And.intro (fun _ => ?_) (fun h => absurd h (by omega))
          refine And.intro (rfl) ?_
          refine And.intro (rfl) ?_
          have t0x : 0 ≤ c ∧ c < S 0 6 := by omega
          have e0 := c_ask_c ⟨t0x, t1⟩ z n
          rw [e0] at hQ
          dsimp only at hQ
          exact hQ _ ⟨hM.ak (fun r j u => by rw [mS_iff, if_neg (by omega)]) (by rw [mS_iff, if_neg (by omega)]; omega) (by simp only [mS_iff, eq_self, Int.reduceEq, true_and, and_true, false_and, and_false, and_self, ↓reduceIte]; try omega), by rw [mS_iff, if_neg (by omega)]; omega, by rw [mS_iff, if_neg (by omega)]; omega⟩ (fun x j u => by rw [mS_iff, if_neg (by omega)]; exact fr.1 x j u)
        · have fh := fk.R
          have fr := fr.trans fh
          have hM := h.fr fh
          have q27 := fk 41 27 (by omega)
          have q62 := fk 41 62 (by omega)
          have ez := si.2.2.2.1 c (by omega) (by omega) _ _ _ z
          refine And.intro (fun _ => ?_) (fun h => absurd h (by omega))
          refine And.intro (fun _ => ?_) (fun h => absurd h (by omega))
          refine And.intro (rfl) ?_
          refine And.intro (rfl) ?_
          have t0x : 0 ≤ c ∧ c < S 0 6 := by omega
          have e0 := c_ask_e ⟨t0x, t1⟩ z
          rw [e0] at hQ
          dsimp only at hQ
          exact hQ _ ⟨hM.ak (fun r j u => by rw [mS_iff, if_neg (by omega)]) (by rw [mS_iff, if_neg (by omega)]; omega) (by simp only [mS_iff, eq_self, Int.reduceEq, true_and, and_true, false_and, and_false, and_self, ↓reduceIte]; try omega), by rw [mS_iff, if_neg (by omega)]; omega, by rw [mS_iff, if_neg (by omega)]; omega⟩ (fun x j u => by rw [mS_iff, if_neg (by omega)]; exact fr.1 x j u)
      · refine And.intro (fun h => absurd h (by decide)) (fun _ => ?_)
        have e0 := c_ask_n (S := S) (F := F) (c := c) (a := a) (fun z => absurd z (by omega))
        rw [e0] at hQ
        exact hQ m (hz0.fr fr) fr.1
