/-! needs: 99 -/
/-! CONTRACTS: blazons of the reference, small ones; by tools/gena0.py -/
set_option maxRecDepth 100000
theorem ct_202 {d : Nat} {m : aM} {Q : aO → aM → Prop} {n : Int} {K A V E : Int → Int} {N q f p : Int} (hd : 4 ≤ d) (hx : mTx m n K A V E N q f p) (hQf : f ≠ 0 → Q (.inl (some (aI 0))) m) (hQ : f = 0 → ∀ m', fr_M m m' → mTx m' n K A V E N (p_ln K q).1 0 p → Q (.inl (some (aI (p_ln K q).2))) m') : am_wpc am_G am_T d 202 [aR 41] m Q := by
  have r1 : K q = 41 → p_ln K q = (q + 1, 1) := fun h => by unfold p_ln; rw [if_pos h]
  have r2 : K q = 42 → p_ln K q = (q + 1, 2) := fun h => by unfold p_ln; rw [if_neg (by omega), if_pos h]
  have r3 : K q ≠ 41 → K q ≠ 42 → p_ln K q = (q, 0) := fun h g => by unfold p_ln; rw [if_neg h, if_neg g]
  refine am_in rfl hd (fun d hd => ?_)
  refine am_go 400 [] (am_wpc_cm _ _ _) wf_202 ?_
  refine And.intro (rfl) ?_
  refine ct_198 (w := 41) (by omega) hx (by omega) (by decide) (fun h1 h2 => ?_) (fun h1 => ?_)
  · have f0 := h1
    have kq := h2
    refine And.intro (fun h => absurd h (by decide)) (fun _ => ?_)
    refine And.intro (fun h => absurd h (by decide)) (fun _ => ?_)
    refine And.intro (rfl) ?_
    refine ct_199 (by omega) hx (fun _ => by omega) (fun h4 => absurd f0 h4) (fun h4 mw3 h5 h6 => ?_)
    have fz := h5
    have hz := h6
    have e := r1 kq
    rw [e] at hQ
    exact hQ f0 _ fz hz
  · refine And.intro (fun _ => ?_) (fun h => absurd h (by decide))
    refine And.intro (rfl) ?_
    refine ct_198 (w := 42) (by omega) hx (by omega) (by decide) (fun h7 h8 => ?_) (fun h7 => ?_)
    · have f0 := h7
      have kq := h8
      refine And.intro (fun h => absurd h (by decide)) (fun _ => ?_)
      refine And.intro (fun h => absurd h (by decide)) (fun _ => ?_)
      refine And.intro (rfl) ?_
      refine ct_199 (by omega) hx (fun _ => by omega) (fun h10 => absurd f0 h10) (fun h10 mw9 h11 h12 => ?_)
      have fz := h11
      have hz := h12
      have e := r2 kq
      rw [e] at hQ
      exact hQ f0 _ fz hz
    · refine And.intro (fun _ => ?_) (fun h => absurd h (by decide))
      refine And.intro (fun _ => ?_) (fun h => absurd h (by decide))
      by_cases f0 : f = 0
      · have e := r3 (by omega) (by omega)
        rw [e] at hQ
        subst f0
        exact hQ rfl m (fr_M.rfl m) hx
      · exact hQf f0
