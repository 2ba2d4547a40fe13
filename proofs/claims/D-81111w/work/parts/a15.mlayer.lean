/-! needs: a14 -/
/-! CONTRACTS: a layer of the reference; by tools/gena14.py -/
set_option maxRecDepth 100000
set_option maxHeartbeats 8000000
theorem ct_208 {d : Nat} {m : aM} {Q : aO → aM → Prop} {n : Int} {K A V E : Int → Int} {N q f p l c b : Int} {u : Int → Int} (hd : 7 ≤ d) (hx : mTx m n K A V E N q f p) (wr0 : mWr m) (hl : 0 ≤ l ∧ l ≤ 5) (sg : mSg m (3306 + 10 * l) 10 u) (fg : mFg m c b) (hu : u = l_no) (hQf : f ≠ 0 → ∀ m', fr_Y (3306 + 10 * l) (3316 + 10 * l) m m' → mTx m' n K A V E N q f p → (∃ c' b', mFg m' c' b') → Q (.inl none) m') (hQe : f = 0 → ∀ m' q' f' p', fr_Y (3306 + 10 * l) (3316 + 10 * l) m m' → mTx m' n K A V E N q' f' p' → (∃ c' b', mFg m' c' b') → f' ≠ 0 → p_lay K A V c b q = .inl (f', p') → Q (.inl none) m') (hQ : f = 0 → ∀ m' q' g, fr_Y (3306 + 10 * l) (3316 + 10 * l) m m' → mTx m' n K A V E N q' 0 p → mFg m' (if g 1 = 6 then 1 else c) (if g 1 = 7 then 1 else b) → p_lay K A V c b q = .inr (q', g) → mSg m' (3306 + 10 * l) 10 (g) → Q (.inl none) m') : am_wpc am_G am_T d 208 [aR 41, aI l] m Q := by
  have fr := fr_Y.rfl (3306 + 10 * l) (3316 + 10 * l) m
  subst hu
  by_cases f0 : f = 0
  · subst f0
    refine am_in rfl hd (fun d hd => ?_)
    refine am_go 400 [] (am_wpc_cm _ _ _) wf_208 ?_
    refine And.intro (rfl) ?_
    refine ct_198 (w := 44) (by omega) hx (by omega) (by decide +kernel) (fun _ h1 => ?_) (fun h1 => ?_)
    · refine And.intro (fun h => absurd h (by decide)) (fun _ => ?_)
      refine And.intro (rfl) ?_
      refine ct_184 (by omega) (by omega) (by omega) (fun mw2 h3 => ?_)
      have sg := sg.p (j := 0) (v := 1) (i := 3306 + 10 * l + 0) (by omega) (by omega)
      have fg := fg.p (i := 3306 + 10 * l + 0) (v := 1)
      have fr := fr.p (i := 3306 + 10 * l + 0) (v := 1) (by omega)
      have hx := hx.p42 (i := 3306 + 10 * l + 0) (v := 1)
      rw [← h3] at hx fr sg fg
      refine And.intro (rfl) ?_
      refine ct_199 (by omega) hx (fun _ => by first | omega | (have := hx.2.2.2.2.2.2.1 rfl; have := this.2.2.1; have := this.1; have := this.2.1; omega)) (fun h => absurd rfl h) (fun _ mw4 h5 h6 => ?_)
      have sg := sg.M h5
      have fg := fg.M h5
      have fr := fr.M h5
      have hx := h6
      refine And.intro (rfl) ?_
      refine ct_198 (w := 45) (by omega) hx (by omega) (by decide +kernel) (fun _ h7 => ?_) (fun h7 => ?_)
      · refine And.intro (fun h => absurd h (by decide)) (fun _ => ?_)
        refine And.intro (rfl) ?_
        refine ct_199 (by omega) hx (fun _ => by first | omega | (have := hx.2.2.2.2.2.2.1 rfl; have := this.2.2.1; have := this.1; have := this.2.1; omega)) (fun h => absurd rfl h) (fun _ mw8 h9 h10 => ?_)
        have sg := sg.M h9
        have fg := fg.M h9
        have fr := fr.M h9
        have hx := h10
        refine And.intro (rfl) ?_
        refine ct_205 (w := 43) (by omega) hx (by omega) (by decide +kernel) (fun h => absurd rfl h) (fun _ h14 mw11 h12 h13 => ?_) (fun _ h14 mw15 h12 h13 => ?_)
        · have sg := sg.M h12
          have fg := fg.M h12
          have fr := fr.M h12
          have hx := h13
          refine And.intro (rfl) ?_
          refine ct_209 (by omega) hx (wr0.fr fr) hl sg fg (fun h => absurd rfl h) (fun _ mw16 q18 f19 p20 h21 h22 h23 h26 h24 => ?_) (fun _ mw17 q18 g25 h21 h22 h23 h24 h26 => ?_)
          · have fr := fr.trans h21
            have hx := h22
            have nz := h26
            obtain ⟨c, b, fg⟩ := h23
            refine And.intro (rfl) ?_
            refine ct_210 (by omega) hx (wr0.fr fr) hl (fun _ _ _ => Eq.refl _) fg (fun _ mw27 h32 h33 h34 => ?_) (fun h => absurd h nz) (fun h => absurd h nz)
            have fr := fr.trans h32
            have hx := h33
            have fg := h34
            refine hQe rfl _ _ _ _ fr hx ⟨_, _, fg⟩ nz ?_
            unfold p_lay
            rw [if_pos (by omega)]
            unfold p_lay1
            rw [if_pos (by omega)]
            rw [p_bd_r (p_want_y (by omega))]
            exact p_bd_l h24
          · have fr := fr.trans h21
            have hx := h22
            have fg := h23
            have sg := h26
            refine And.intro (rfl) ?_
            refine ct_210 (by omega) hx (wr0.fr fr) hl sg fg (fun h => absurd rfl h) (fun _ mw38 q40 f41 p42 h43 h44 h45 h48 h46 => ?_) (fun _ mw39 q40 g47 h43 h44 h45 h46 h48 => ?_)
            · have fr := fr.trans h43
              have hx := h44
              have nz := h48
              have fg := h45
              refine hQe rfl _ _ _ _ fr hx ⟨_, _, fg⟩ nz ?_
              unfold p_lay
              rw [if_pos (by omega)]
              unfold p_lay1
              rw [if_pos (by omega)]
              rw [p_bd_r (p_want_y (by omega))]
              rw [p_bd_r h24]
              exact p_bd_l h46
            · have fr := fr.trans h43
              have hx := h44
              have fg := h45
              have sg := h48
              refine hQ rfl _ _ (l_mk 1 3 0 g25 g47) fr hx ?_ ?_ (fun j j0 j1 => ?_)
              · exact fg.cg (by simp [l_mk, l_no]) (by simp [l_mk, l_no])
              · unfold p_lay
                rw [if_pos (by omega)]
                unfold p_lay1
                rw [if_pos (by omega)]
                rw [p_bd_r (p_want_y (by omega))]
                rw [p_bd_r h24]
                rw [p_bd_r h46]
              · rw [sg j j0 j1]
                have hj : j = 0 ∨ j = 1 ∨ j = 2 ∨ j = 3 ∨ j = 4 ∨ j = 5 ∨ j = 6 ∨ j = 7 ∨ j = 8 ∨ j = 9 := by omega
                rcases hj with rfl | rfl | rfl | rfl | rfl | rfl | rfl | rfl | rfl | rfl <;> simp [p_up, l_mk, l_no]
        · have sg := sg.M h12
          have fg := fg.M h12
          have fr := fr.M h12
          have hx := h13
          have nz : x_wr (K ((q + 1) + 1)) ≠ 0 := by unfold x_wr; omega
          refine And.intro (rfl) ?_
          refine ct_209 (by omega) hx (wr0.fr fr) hl (fun _ _ _ => Eq.refl _) fg (fun _ mw49 h54 h55 h56 => ?_) (fun h => absurd h nz) (fun h => absurd h nz)
          have fr := fr.trans h54
          have hx := h55
          obtain ⟨c, b, fg⟩ := h56
          refine And.intro (rfl) ?_
          refine ct_210 (by omega) hx (wr0.fr fr) hl (fun _ _ _ => Eq.refl _) fg (fun _ mw60 h65 h66 h67 => ?_) (fun h => absurd h nz) (fun h => absurd h nz)
          have fr := fr.trans h65
          have hx := h66
          have fg := h67
          refine hQe rfl _ _ _ _ fr hx ⟨_, _, fg⟩ nz ?_
          unfold p_lay
          rw [if_pos (by omega)]
          unfold p_lay1
          rw [if_pos (by omega)]
          exact p_bd_l (p_want_n (by omega))
      · refine And.intro (fun _ => ?_) (fun h => absurd h (by decide))
        skip
        refine And.intro (rfl) ?_
        refine ct_198 (w := 43) (by omega) hx (by omega) (by decide +kernel) (fun _ h71 => ?_) (fun h71 => ?_)
        · refine And.intro (fun h => absurd h (by decide)) (fun _ => ?_)
          refine And.intro (rfl) ?_
          refine ct_199 (by omega) hx (fun _ => by first | omega | (have := hx.2.2.2.2.2.2.1 rfl; have := this.2.2.1; have := this.1; have := this.2.1; omega)) (fun h => absurd rfl h) (fun _ mw72 h73 h74 => ?_)
          have sg := sg.M h73
          have fg := fg.M h73
          have fr := fr.M h73
          have hx := h74
          refine And.intro (rfl) ?_
          refine And.intro (rfl) ?_
          refine ct_213 (by omega) hx (wr0.fr fr).a48 (fun _ k75 h76 h77 h78 => ?_) (fun h76 => ?_)
          · have ek75 := h78
            have bk75 := And.intro h76 h77
            refine And.intro (fun h => absurd h (by decide)) (fun _ => ?_)
            refine And.intro (rfl) ?_
            refine ct_209 (by omega) hx (wr0.fr fr) hl sg fg (fun h => absurd rfl h) (fun _ mw79 q81 f82 p83 h84 h85 h86 h89 h87 => ?_) (fun _ mw80 q81 g88 h84 h85 h86 h87 h89 => ?_)
            · have fr := fr.trans h84
              have hx := h85
              have nz := h89
              obtain ⟨c, b, fg⟩ := h86
              refine And.intro (rfl) ?_
              refine ct_198 (w := 46) (by omega) hx (by omega) (by decide +kernel) (fun h => absurd h nz) (fun _ => ?_)
              refine And.intro (fun _ => ?_) (fun h => absurd h (by decide))
              refine hQe rfl _ _ _ _ fr hx ⟨_, _, fg⟩ nz ?_
              unfold p_lay
              rw [if_pos (by omega)]
              unfold p_lay1
              rw [if_neg (by omega), if_pos (by omega)]
              exact p_bd_l h87
            · have fr := fr.trans h84
              have hx := h85
              have fg := h86
              have sg := h89
              refine And.intro (rfl) ?_
              refine ct_198 (w := 46) (by omega) hx (by omega) (by decide +kernel) (fun _ h90 => ?_) (fun h90 => ?_)
              · refine And.intro (fun h => absurd h (by decide)) (fun _ => ?_)
                refine And.intro (rfl) ?_
                refine ct_199 (by omega) hx (fun _ => by first | omega | (have := hx.2.2.2.2.2.2.1 rfl; have := this.2.2.1; have := this.1; have := this.2.1; omega)) (fun h => absurd rfl h) (fun _ mw91 h92 h93 => ?_)
                have sg := sg.M h92
                have fg := fg.M h92
                have fr := fr.M h92
                have hx := h93
                refine And.intro (rfl) ?_
                refine ct_210 (by omega) hx (wr0.fr fr) hl sg fg (fun h => absurd rfl h) (fun _ mw94 q96 f97 p98 h99 h100 h101 h104 h102 => ?_) (fun _ mw95 q96 g103 h99 h100 h101 h102 h104 => ?_)
                · have fr := fr.trans h99
                  have hx := h100
                  have nz := h104
                  have fg := h101
                  refine hQe rfl _ _ _ _ fr hx ⟨_, _, fg⟩ nz ?_
                  unfold p_lay
                  rw [if_pos (by omega)]
                  unfold p_lay1
                  rw [if_neg (by omega), if_pos (by omega)]
                  rw [p_bd_r h87]
                  rw [if_pos (by omega)]
                  exact p_bd_l h102
                · have fr := fr.trans h99
                  have hx := h100
                  have fg := h101
                  have sg := h104
                  refine hQ rfl _ _ (l_mk 1 2 0 g88 g103) fr hx ?_ ?_ (fun j j0 j1 => ?_)
                  · exact fg.cg (by simp [l_mk, l_no]) (by simp [l_mk, l_no])
                  · unfold p_lay
                    rw [if_pos (by omega)]
                    unfold p_lay1
                    rw [if_neg (by omega), if_pos (by omega)]
                    rw [p_bd_r h87]
                    rw [if_pos (by omega)]
                    rw [p_bd_r h102]
                  · rw [sg j j0 j1]
                    have hj : j = 0 ∨ j = 1 ∨ j = 2 ∨ j = 3 ∨ j = 4 ∨ j = 5 ∨ j = 6 ∨ j = 7 ∨ j = 8 ∨ j = 9 := by omega
                    rcases hj with rfl | rfl | rfl | rfl | rfl | rfl | rfl | rfl | rfl | rfl <;> simp [p_up, l_mk, l_no]
              · refine And.intro (fun _ => ?_) (fun h => absurd h (by decide))
                refine hQ rfl _ _ (l_mk 1 0 0 g88 l_no) fr hx ?_ ?_ (fun j j0 j1 => ?_)
                · exact fg.cg (by simp [l_mk, l_no]) (by simp [l_mk, l_no])
                · unfold p_lay
                  rw [if_pos (by omega)]
                  unfold p_lay1
                  rw [if_neg (by omega), if_pos (by omega)]
                  rw [p_bd_r h87]
                  rw [if_neg (by omega)]
                · rw [sg j j0 j1]
                  have hj : j = 0 ∨ j = 1 ∨ j = 2 ∨ j = 3 ∨ j = 4 ∨ j = 5 ∨ j = 6 ∨ j = 7 ∨ j = 8 ∨ j = 9 := by omega
                  rcases hj with rfl | rfl | rfl | rfl | rfl | rfl | rfl | rfl | rfl | rfl <;> simp [p_up, l_mk, l_no]
          · have nk : ∀ k, _ → _ → K ((q + 1) + 1) ≠ _ := fun k a b c => h76 ⟨rfl, k, a, b, c⟩
            refine And.intro (fun _ => ?_) (fun h => absurd h (by decide))
            refine And.intro (rfl) ?_
            refine ct_184 (by omega) (by omega) (by omega) (fun mw105 h106 => ?_)
            have sg := sg.p (j := 4) (v := 1) (i := 3306 + 10 * l + 4) (by omega) (by omega)
            have fg := fg.p (i := 3306 + 10 * l + 4) (v := 1)
            have fr := fr.p (i := 3306 + 10 * l + 4) (v := 1) (by omega)
            have hx := hx.p42 (i := 3306 + 10 * l + 4) (v := 1)
            rw [← h106] at hx fr sg fg
            refine And.intro (rfl) ?_
            refine ct_211 (by omega) hx (wr0.fr fr) hl sg fg (fun h => absurd rfl h) (fun _ mw107 q109 f110 p111 h112 h113 h114 h117 h115 => ?_) (fun _ mw108 q109 g116 h112 h113 h114 h115 h117 => ?_)
            · have fr := fr.trans h112
              have hx := h113
              have nz := h117
              have fg := h114
              refine And.intro (rfl) ?_
              refine ct_215 (by omega) hx (wr0.fr fr) hl (fun _ _ _ => Eq.refl _) fg (fun _ mw118 h124 h125 h126 => ?_) (fun h => absurd h nz) (fun h => absurd h nz) (fun h => absurd h nz)
              have fr := fr.trans h124
              have hx := h125
              have fg := h126
              refine hQe rfl _ _ _ _ fr hx ⟨_, _, fg⟩ nz ?_
              unfold p_lay
              rw [if_pos (by omega)]
              unfold p_lay1
              rw [if_neg (by omega), if_neg (fun z => nk (K ((q + 1) + 1) - 25) (by omega) (by omega) (by omega)), if_pos (by omega)]
              unfold p_grp
              rw [if_neg (by omega), p_bd_r (p_want_y (by omega))]
              exact p_bd_l h115
            · have fr := fr.trans h112
              have hx := h113
              have fg := h114
              have sg := h117
              refine And.intro (rfl) ?_
              refine ct_215 (by omega) hx (wr0.fr fr) hl sg fg (fun h => absurd rfl h) (fun _ mw131 q134 f135 p136 h137 h138 h139 h142 h140 => ?_) (fun _ mw132 q134 g141 h137 h138 h139 h140 h142 h143 => ?_) (fun _ mw133 h137 h138 h139 h140 h142 => ?_)
              · have fr := fr.trans h137
                have hx := h138
                have fg := h139
                have nz := h142
                refine hQe rfl _ _ _ _ fr hx ⟨_, _, fg⟩ nz ?_
                unfold p_lay
                rw [if_pos (by omega)]
                unfold p_lay1
                rw [if_neg (by omega), if_neg (fun z => nk (K ((q + 1) + 1) - 25) (by omega) (by omega) (by omega)), if_pos (by omega)]
                unfold p_grp
                rw [if_neg (by omega), p_bd_r (p_want_y (by omega))]
                rw [p_bd_r h115]
                exact p_bd_l h140
              · have fr := fr.trans h137
                have hx := h138
                have fg := h139
                have sg := h142
                have gp := h143
                refine hQ rfl _ _ (l_mk 1 1 g141 l_no g116) fr hx ?_ ?_ (fun j j0 j1 => ?_)
                · exact fg.cg (by simp [l_mk, l_no]) (by simp [l_mk, l_no])
                · unfold p_lay
                  rw [if_pos (by omega)]
                  unfold p_lay1
                  rw [if_neg (by omega), if_neg (fun z => nk (K ((q + 1) + 1) - 25) (by omega) (by omega) (by omega)), if_pos (by omega)]
                  unfold p_grp
                  rw [if_neg (by omega), p_bd_r (p_want_y (by omega))]
                  rw [p_bd_r h115]
                  rw [p_bd_r h140]
                · rw [sg j j0 j1]
                  have hj : j = 0 ∨ j = 1 ∨ j = 2 ∨ j = 3 ∨ j = 4 ∨ j = 5 ∨ j = 6 ∨ j = 7 ∨ j = 8 ∨ j = 9 := by omega
                  rcases hj with rfl | rfl | rfl | rfl | rfl | rfl | rfl | rfl | rfl | rfl <;> simp [p_up, l_mk, l_no]
              · have fr := fr.trans h137
                have hx := h138
                have fg := h139
                have sg := h142
                refine hQ rfl _ _ (l_mk 1 1 0 l_no g116) fr hx ?_ ?_ (fun j j0 j1 => ?_)
                · exact fg.cg (by simp [l_mk, l_no]) (by simp [l_mk, l_no])
                · unfold p_lay
                  rw [if_pos (by omega)]
                  unfold p_lay1
                  rw [if_neg (by omega), if_neg (fun z => nk (K ((q + 1) + 1) - 25) (by omega) (by omega) (by omega)), if_pos (by omega)]
                  unfold p_grp
                  rw [if_neg (by omega), p_bd_r (p_want_y (by omega))]
                  rw [p_bd_r h115]
                  rw [p_bd_r h140]
                · rw [sg j j0 j1]
                  have hj : j = 0 ∨ j = 1 ∨ j = 2 ∨ j = 3 ∨ j = 4 ∨ j = 5 ∨ j = 6 ∨ j = 7 ∨ j = 8 ∨ j = 9 := by omega
                  rcases hj with rfl | rfl | rfl | rfl | rfl | rfl | rfl | rfl | rfl | rfl <;> simp [p_up, l_mk, l_no]
        · refine And.intro (fun _ => ?_) (fun h => absurd h (by decide))
          refine And.intro (rfl) ?_
          refine ct_210 (by omega) hx (wr0.fr fr) hl sg fg (fun h => absurd rfl h) (fun _ mw144 q146 f147 p148 h149 h150 h151 h154 h152 => ?_) (fun _ mw145 q146 g153 h149 h150 h151 h152 h154 => ?_)
          · have fr := fr.trans h149
            have hx := h150
            have nz := h154
            have fg := h151
            refine And.intro (rfl) ?_
            refine ct_215 (by omega) hx (wr0.fr fr) hl (fun _ _ _ => Eq.refl _) fg (fun _ mw155 h161 h162 h163 => ?_) (fun h => absurd h nz) (fun h => absurd h nz) (fun h => absurd h nz)
            have fr := fr.trans h161
            have hx := h162
            have fg := h163
            refine hQe rfl _ _ _ _ fr hx ⟨_, _, fg⟩ nz ?_
            unfold p_lay
            rw [if_pos (by omega)]
            unfold p_lay1
            by_cases k70 : K (q + 1) = 70
            · rw [if_neg (by omega), if_neg (by omega), if_pos (by omega)]
              exact p_bd_l h152
            · rw [if_neg (by omega), if_neg (by omega), if_neg (by omega)]
              have e := h152
              unfold p_grp at e
              rw [if_neg k70, p_bd_l (p_want_n (by omega))] at e
              exact e
          · have fr := fr.trans h149
            have hx := h150
            have fg := h151
            have sg := h154
            refine And.intro (rfl) ?_
            refine ct_215 (by omega) hx (wr0.fr fr) hl sg fg (fun h => absurd rfl h) (fun _ mw168 q171 f172 p173 h174 h175 h176 h179 h177 => ?_) (fun _ mw169 q171 g178 h174 h175 h176 h177 h179 h180 => ?_) (fun _ mw170 h174 h175 h176 h177 h179 => ?_)
            · have fr := fr.trans h174
              have hx := h175
              have fg := h176
              have nz := h179
              refine hQe rfl _ _ _ _ fr hx ⟨_, _, fg⟩ nz ?_
              unfold p_lay
              rw [if_pos (by omega)]
              unfold p_lay1
              have k70 : K (q + 1) = 70 := by
                by_cases z : K (q + 1) = 70
                · exact z
                · exfalso
                  have e := h152
                  unfold p_grp at e
                  rw [if_neg z, p_bd_l (p_want_n (by omega))] at e
                  cases e
              rw [if_neg (by omega), if_neg (by omega), if_pos (by omega)]
              rw [p_bd_r h152]
              exact p_bd_l h177
            · have fr := fr.trans h174
              have hx := h175
              have fg := h176
              have sg := h179
              have gp := h180
              refine hQ rfl _ _ (l_mk 1 1 g178 l_no g153) fr hx ?_ ?_ (fun j j0 j1 => ?_)
              · exact fg.cg (by simp [l_mk, l_no]) (by simp [l_mk, l_no])
              · unfold p_lay
                rw [if_pos (by omega)]
                unfold p_lay1
                have k70 : K (q + 1) = 70 := by
                  by_cases z : K (q + 1) = 70
                  · exact z
                  · exfalso
                    have e := h152
                    unfold p_grp at e
                    rw [if_neg z, p_bd_l (p_want_n (by omega))] at e
                    cases e
                rw [if_neg (by omega), if_neg (by omega), if_pos (by omega)]
                rw [p_bd_r h152]
                rw [p_bd_r h177]
              · rw [sg j j0 j1]
                have hj : j = 0 ∨ j = 1 ∨ j = 2 ∨ j = 3 ∨ j = 4 ∨ j = 5 ∨ j = 6 ∨ j = 7 ∨ j = 8 ∨ j = 9 := by omega
                rcases hj with rfl | rfl | rfl | rfl | rfl | rfl | rfl | rfl | rfl | rfl <;> simp [p_up, l_mk, l_no]
            · have fr := fr.trans h174
              have hx := h175
              have fg := h176
              have sg := h179
              refine hQ rfl _ _ (l_mk 1 1 0 l_no g153) fr hx ?_ ?_ (fun j j0 j1 => ?_)
              · exact fg.cg (by simp [l_mk, l_no]) (by simp [l_mk, l_no])
              · unfold p_lay
                rw [if_pos (by omega)]
                unfold p_lay1
                have k70 : K (q + 1) = 70 := by
                  by_cases z : K (q + 1) = 70
                  · exact z
                  · exfalso
                    have e := h152
                    unfold p_grp at e
                    rw [if_neg z, p_bd_l (p_want_n (by omega))] at e
                    cases e
                rw [if_neg (by omega), if_neg (by omega), if_pos (by omega)]
                rw [p_bd_r h152]
                rw [p_bd_r h177]
              · rw [sg j j0 j1]
                have hj : j = 0 ∨ j = 1 ∨ j = 2 ∨ j = 3 ∨ j = 4 ∨ j = 5 ∨ j = 6 ∨ j = 7 ∨ j = 8 ∨ j = 9 := by omega
                rcases hj with rfl | rfl | rfl | rfl | rfl | rfl | rfl | rfl | rfl | rfl <;> simp [p_up, l_mk, l_no]
    · refine And.intro (fun _ => ?_) (fun h => absurd h (by decide))
      refine And.intro (rfl) ?_
      refine ct_198 (w := 45) (by omega) hx (by omega) (by decide +kernel) (fun _ h181 => ?_) (fun h181 => ?_)
      · refine And.intro (fun h => absurd h (by decide)) (fun _ => ?_)
        refine And.intro (rfl) ?_
        refine ct_199 (by omega) hx (fun _ => by first | omega | (have := hx.2.2.2.2.2.2.1 rfl; have := this.2.2.1; have := this.1; have := this.2.1; omega)) (fun h => absurd rfl h) (fun _ mw182 h183 h184 => ?_)
        have sg := sg.M h183
        have fg := fg.M h183
        have fr := fr.M h183
        have hx := h184
        refine And.intro (rfl) ?_
        refine ct_205 (w := 43) (by omega) hx (by omega) (by decide +kernel) (fun h => absurd rfl h) (fun _ h188 mw185 h186 h187 => ?_) (fun _ h188 mw189 h186 h187 => ?_)
        · have sg := sg.M h186
          have fg := fg.M h186
          have fr := fr.M h186
          have hx := h187
          refine And.intro (rfl) ?_
          refine ct_209 (by omega) hx (wr0.fr fr) hl sg fg (fun h => absurd rfl h) (fun _ mw190 q192 f193 p194 h195 h196 h197 h200 h198 => ?_) (fun _ mw191 q192 g199 h195 h196 h197 h198 h200 => ?_)
          · have fr := fr.trans h195
            have hx := h196
            have nz := h200
            obtain ⟨c, b, fg⟩ := h197
            refine And.intro (rfl) ?_
            refine ct_210 (by omega) hx (wr0.fr fr) hl (fun _ _ _ => Eq.refl _) fg (fun _ mw201 h206 h207 h208 => ?_) (fun h => absurd h nz) (fun h => absurd h nz)
            have fr := fr.trans h206
            have hx := h207
            have fg := h208
            refine hQe rfl _ _ _ _ fr hx ⟨_, _, fg⟩ nz ?_
            unfold p_lay
            rw [if_neg (by omega)]
            unfold p_lay1
            rw [if_pos (by omega)]
            rw [p_bd_r (p_want_y (by omega))]
            exact p_bd_l h198
          · have fr := fr.trans h195
            have hx := h196
            have fg := h197
            have sg := h200
            refine And.intro (rfl) ?_
            refine ct_210 (by omega) hx (wr0.fr fr) hl sg fg (fun h => absurd rfl h) (fun _ mw212 q214 f215 p216 h217 h218 h219 h222 h220 => ?_) (fun _ mw213 q214 g221 h217 h218 h219 h220 h222 => ?_)
            · have fr := fr.trans h217
              have hx := h218
              have nz := h222
              have fg := h219
              refine hQe rfl _ _ _ _ fr hx ⟨_, _, fg⟩ nz ?_
              unfold p_lay
              rw [if_neg (by omega)]
              unfold p_lay1
              rw [if_pos (by omega)]
              rw [p_bd_r (p_want_y (by omega))]
              rw [p_bd_r h198]
              exact p_bd_l h220
            · have fr := fr.trans h217
              have hx := h218
              have fg := h219
              have sg := h222
              refine hQ rfl _ _ (l_mk 0 3 0 g199 g221) fr hx ?_ ?_ (fun j j0 j1 => ?_)
              · exact fg.cg (by simp [l_mk, l_no]) (by simp [l_mk, l_no])
              · unfold p_lay
                rw [if_neg (by omega)]
                unfold p_lay1
                rw [if_pos (by omega)]
                rw [p_bd_r (p_want_y (by omega))]
                rw [p_bd_r h198]
                rw [p_bd_r h220]
              · rw [sg j j0 j1]
                have hj : j = 0 ∨ j = 1 ∨ j = 2 ∨ j = 3 ∨ j = 4 ∨ j = 5 ∨ j = 6 ∨ j = 7 ∨ j = 8 ∨ j = 9 := by omega
                rcases hj with rfl | rfl | rfl | rfl | rfl | rfl | rfl | rfl | rfl | rfl <;> simp [p_up, l_mk, l_no]
        · have sg := sg.M h186
          have fg := fg.M h186
          have fr := fr.M h186
          have hx := h187
          have nz : x_wr (K (q + 1)) ≠ 0 := by unfold x_wr; omega
          refine And.intro (rfl) ?_
          refine ct_209 (by omega) hx (wr0.fr fr) hl (fun _ _ _ => Eq.refl _) fg (fun _ mw223 h228 h229 h230 => ?_) (fun h => absurd h nz) (fun h => absurd h nz)
          have fr := fr.trans h228
          have hx := h229
          obtain ⟨c, b, fg⟩ := h230
          refine And.intro (rfl) ?_
          refine ct_210 (by omega) hx (wr0.fr fr) hl (fun _ _ _ => Eq.refl _) fg (fun _ mw234 h239 h240 h241 => ?_) (fun h => absurd h nz) (fun h => absurd h nz)
          have fr := fr.trans h239
          have hx := h240
          have fg := h241
          refine hQe rfl _ _ _ _ fr hx ⟨_, _, fg⟩ nz ?_
          unfold p_lay
          rw [if_neg (by omega)]
          unfold p_lay1
          rw [if_pos (by omega)]
          exact p_bd_l (p_want_n (by omega))
      · refine And.intro (fun _ => ?_) (fun h => absurd h (by decide))
        skip
        refine And.intro (rfl) ?_
        refine ct_198 (w := 43) (by omega) hx (by omega) (by decide +kernel) (fun _ h245 => ?_) (fun h245 => ?_)
        · refine And.intro (fun h => absurd h (by decide)) (fun _ => ?_)
          refine And.intro (rfl) ?_
          refine ct_199 (by omega) hx (fun _ => by first | omega | (have := hx.2.2.2.2.2.2.1 rfl; have := this.2.2.1; have := this.1; have := this.2.1; omega)) (fun h => absurd rfl h) (fun _ mw246 h247 h248 => ?_)
          have sg := sg.M h247
          have fg := fg.M h247
          have fr := fr.M h247
          have hx := h248
          refine And.intro (rfl) ?_
          refine And.intro (rfl) ?_
          refine ct_213 (by omega) hx (wr0.fr fr).a48 (fun _ k249 h250 h251 h252 => ?_) (fun h250 => ?_)
          · have ek249 := h252
            have bk249 := And.intro h250 h251
            refine And.intro (fun h => absurd h (by decide)) (fun _ => ?_)
            refine And.intro (rfl) ?_
            refine ct_209 (by omega) hx (wr0.fr fr) hl sg fg (fun h => absurd rfl h) (fun _ mw253 q255 f256 p257 h258 h259 h260 h263 h261 => ?_) (fun _ mw254 q255 g262 h258 h259 h260 h261 h263 => ?_)
            · have fr := fr.trans h258
              have hx := h259
              have nz := h263
              obtain ⟨c, b, fg⟩ := h260
              refine And.intro (rfl) ?_
              refine ct_198 (w := 46) (by omega) hx (by omega) (by decide +kernel) (fun h => absurd h nz) (fun _ => ?_)
              refine And.intro (fun _ => ?_) (fun h => absurd h (by decide))
              refine hQe rfl _ _ _ _ fr hx ⟨_, _, fg⟩ nz ?_
              unfold p_lay
              rw [if_neg (by omega)]
              unfold p_lay1
              rw [if_neg (by omega), if_pos (by omega)]
              exact p_bd_l h261
            · have fr := fr.trans h258
              have hx := h259
              have fg := h260
              have sg := h263
              refine And.intro (rfl) ?_
              refine ct_198 (w := 46) (by omega) hx (by omega) (by decide +kernel) (fun _ h264 => ?_) (fun h264 => ?_)
              · refine And.intro (fun h => absurd h (by decide)) (fun _ => ?_)
                refine And.intro (rfl) ?_
                refine ct_199 (by omega) hx (fun _ => by first | omega | (have := hx.2.2.2.2.2.2.1 rfl; have := this.2.2.1; have := this.1; have := this.2.1; omega)) (fun h => absurd rfl h) (fun _ mw265 h266 h267 => ?_)
                have sg := sg.M h266
                have fg := fg.M h266
                have fr := fr.M h266
                have hx := h267
                refine And.intro (rfl) ?_
                refine ct_210 (by omega) hx (wr0.fr fr) hl sg fg (fun h => absurd rfl h) (fun _ mw268 q270 f271 p272 h273 h274 h275 h278 h276 => ?_) (fun _ mw269 q270 g277 h273 h274 h275 h276 h278 => ?_)
                · have fr := fr.trans h273
                  have hx := h274
                  have nz := h278
                  have fg := h275
                  refine hQe rfl _ _ _ _ fr hx ⟨_, _, fg⟩ nz ?_
                  unfold p_lay
                  rw [if_neg (by omega)]
                  unfold p_lay1
                  rw [if_neg (by omega), if_pos (by omega)]
                  rw [p_bd_r h261]
                  rw [if_pos (by omega)]
                  exact p_bd_l h276
                · have fr := fr.trans h273
                  have hx := h274
                  have fg := h275
                  have sg := h278
                  refine hQ rfl _ _ (l_mk 0 2 0 g262 g277) fr hx ?_ ?_ (fun j j0 j1 => ?_)
                  · exact fg.cg (by simp [l_mk, l_no]) (by simp [l_mk, l_no])
                  · unfold p_lay
                    rw [if_neg (by omega)]
                    unfold p_lay1
                    rw [if_neg (by omega), if_pos (by omega)]
                    rw [p_bd_r h261]
                    rw [if_pos (by omega)]
                    rw [p_bd_r h276]
                  · rw [sg j j0 j1]
                    have hj : j = 0 ∨ j = 1 ∨ j = 2 ∨ j = 3 ∨ j = 4 ∨ j = 5 ∨ j = 6 ∨ j = 7 ∨ j = 8 ∨ j = 9 := by omega
                    rcases hj with rfl | rfl | rfl | rfl | rfl | rfl | rfl | rfl | rfl | rfl <;> simp [p_up, l_mk, l_no]
              · refine And.intro (fun _ => ?_) (fun h => absurd h (by decide))
                refine hQ rfl _ _ (l_mk 0 0 0 g262 l_no) fr hx ?_ ?_ (fun j j0 j1 => ?_)
                · exact fg.cg (by simp [l_mk, l_no]) (by simp [l_mk, l_no])
                · unfold p_lay
                  rw [if_neg (by omega)]
                  unfold p_lay1
                  rw [if_neg (by omega), if_pos (by omega)]
                  rw [p_bd_r h261]
                  rw [if_neg (by omega)]
                · rw [sg j j0 j1]
                  have hj : j = 0 ∨ j = 1 ∨ j = 2 ∨ j = 3 ∨ j = 4 ∨ j = 5 ∨ j = 6 ∨ j = 7 ∨ j = 8 ∨ j = 9 := by omega
                  rcases hj with rfl | rfl | rfl | rfl | rfl | rfl | rfl | rfl | rfl | rfl <;> simp [p_up, l_mk, l_no]
          · have nk : ∀ k, _ → _ → K (q + 1) ≠ _ := fun k a b c => h250 ⟨rfl, k, a, b, c⟩
            refine And.intro (fun _ => ?_) (fun h => absurd h (by decide))
            refine And.intro (rfl) ?_
            refine ct_184 (by omega) (by omega) (by omega) (fun mw279 h280 => ?_)
            have sg := sg.p (j := 4) (v := 1) (i := 3306 + 10 * l + 4) (by omega) (by omega)
            have fg := fg.p (i := 3306 + 10 * l + 4) (v := 1)
            have fr := fr.p (i := 3306 + 10 * l + 4) (v := 1) (by omega)
            have hx := hx.p42 (i := 3306 + 10 * l + 4) (v := 1)
            rw [← h280] at hx fr sg fg
            refine And.intro (rfl) ?_
            refine ct_211 (by omega) hx (wr0.fr fr) hl sg fg (fun h => absurd rfl h) (fun _ mw281 q283 f284 p285 h286 h287 h288 h291 h289 => ?_) (fun _ mw282 q283 g290 h286 h287 h288 h289 h291 => ?_)
            · have fr := fr.trans h286
              have hx := h287
              have nz := h291
              have fg := h288
              refine And.intro (rfl) ?_
              refine ct_215 (by omega) hx (wr0.fr fr) hl (fun _ _ _ => Eq.refl _) fg (fun _ mw292 h298 h299 h300 => ?_) (fun h => absurd h nz) (fun h => absurd h nz) (fun h => absurd h nz)
              have fr := fr.trans h298
              have hx := h299
              have fg := h300
              refine hQe rfl _ _ _ _ fr hx ⟨_, _, fg⟩ nz ?_
              unfold p_lay
              rw [if_neg (by omega)]
              unfold p_lay1
              rw [if_neg (by omega), if_neg (fun z => nk (K (q + 1) - 25) (by omega) (by omega) (by omega)), if_pos (by omega)]
              unfold p_grp
              rw [if_neg (by omega), p_bd_r (p_want_y (by omega))]
              exact p_bd_l h289
            · have fr := fr.trans h286
              have hx := h287
              have fg := h288
              have sg := h291
              refine And.intro (rfl) ?_
              refine ct_215 (by omega) hx (wr0.fr fr) hl sg fg (fun h => absurd rfl h) (fun _ mw305 q308 f309 p310 h311 h312 h313 h316 h314 => ?_) (fun _ mw306 q308 g315 h311 h312 h313 h314 h316 h317 => ?_) (fun _ mw307 h311 h312 h313 h314 h316 => ?_)
              · have fr := fr.trans h311
                have hx := h312
                have fg := h313
                have nz := h316
                refine hQe rfl _ _ _ _ fr hx ⟨_, _, fg⟩ nz ?_
                unfold p_lay
                rw [if_neg (by omega)]
                unfold p_lay1
                rw [if_neg (by omega), if_neg (fun z => nk (K (q + 1) - 25) (by omega) (by omega) (by omega)), if_pos (by omega)]
                unfold p_grp
                rw [if_neg (by omega), p_bd_r (p_want_y (by omega))]
                rw [p_bd_r h289]
                exact p_bd_l h314
              · have fr := fr.trans h311
                have hx := h312
                have fg := h313
                have sg := h316
                have gp := h317
                refine hQ rfl _ _ (l_mk 0 1 g315 l_no g290) fr hx ?_ ?_ (fun j j0 j1 => ?_)
                · exact fg.cg (by simp [l_mk, l_no]) (by simp [l_mk, l_no])
                · unfold p_lay
                  rw [if_neg (by omega)]
                  unfold p_lay1
                  rw [if_neg (by omega), if_neg (fun z => nk (K (q + 1) - 25) (by omega) (by omega) (by omega)), if_pos (by omega)]
                  unfold p_grp
                  rw [if_neg (by omega), p_bd_r (p_want_y (by omega))]
                  rw [p_bd_r h289]
                  rw [p_bd_r h314]
                · rw [sg j j0 j1]
                  have hj : j = 0 ∨ j = 1 ∨ j = 2 ∨ j = 3 ∨ j = 4 ∨ j = 5 ∨ j = 6 ∨ j = 7 ∨ j = 8 ∨ j = 9 := by omega
                  rcases hj with rfl | rfl | rfl | rfl | rfl | rfl | rfl | rfl | rfl | rfl <;> simp [p_up, l_mk, l_no]
              · have fr := fr.trans h311
                have hx := h312
                have fg := h313
                have sg := h316
                refine hQ rfl _ _ (l_mk 0 1 0 l_no g290) fr hx ?_ ?_ (fun j j0 j1 => ?_)
                · exact fg.cg (by simp [l_mk, l_no]) (by simp [l_mk, l_no])
                · unfold p_lay
                  rw [if_neg (by omega)]
                  unfold p_lay1
                  rw [if_neg (by omega), if_neg (fun z => nk (K (q + 1) - 25) (by omega) (by omega) (by omega)), if_pos (by omega)]
                  unfold p_grp
                  rw [if_neg (by omega), p_bd_r (p_want_y (by omega))]
                  rw [p_bd_r h289]
                  rw [p_bd_r h314]
                · rw [sg j j0 j1]
                  have hj : j = 0 ∨ j = 1 ∨ j = 2 ∨ j = 3 ∨ j = 4 ∨ j = 5 ∨ j = 6 ∨ j = 7 ∨ j = 8 ∨ j = 9 := by omega
                  rcases hj with rfl | rfl | rfl | rfl | rfl | rfl | rfl | rfl | rfl | rfl <;> simp [p_up, l_mk, l_no]
        · refine And.intro (fun _ => ?_) (fun h => absurd h (by decide))
          refine And.intro (rfl) ?_
          refine ct_210 (by omega) hx (wr0.fr fr) hl sg fg (fun h => absurd rfl h) (fun _ mw318 q320 f321 p322 h323 h324 h325 h328 h326 => ?_) (fun _ mw319 q320 g327 h323 h324 h325 h326 h328 => ?_)
          · have fr := fr.trans h323
            have hx := h324
            have nz := h328
            have fg := h325
            refine And.intro (rfl) ?_
            refine ct_215 (by omega) hx (wr0.fr fr) hl (fun _ _ _ => Eq.refl _) fg (fun _ mw329 h335 h336 h337 => ?_) (fun h => absurd h nz) (fun h => absurd h nz) (fun h => absurd h nz)
            have fr := fr.trans h335
            have hx := h336
            have fg := h337
            refine hQe rfl _ _ _ _ fr hx ⟨_, _, fg⟩ nz ?_
            unfold p_lay
            rw [if_neg (by omega)]
            unfold p_lay1
            by_cases k70 : K q = 70
            · rw [if_neg (by omega), if_neg (by omega), if_pos (by omega)]
              exact p_bd_l h326
            · rw [if_neg (by omega), if_neg (by omega), if_neg (by omega)]
              have e := h326
              unfold p_grp at e
              rw [if_neg k70, p_bd_l (p_want_n (by omega))] at e
              exact e
          · have fr := fr.trans h323
            have hx := h324
            have fg := h325
            have sg := h328
            refine And.intro (rfl) ?_
            refine ct_215 (by omega) hx (wr0.fr fr) hl sg fg (fun h => absurd rfl h) (fun _ mw342 q345 f346 p347 h348 h349 h350 h353 h351 => ?_) (fun _ mw343 q345 g352 h348 h349 h350 h351 h353 h354 => ?_) (fun _ mw344 h348 h349 h350 h351 h353 => ?_)
            · have fr := fr.trans h348
              have hx := h349
              have fg := h350
              have nz := h353
              refine hQe rfl _ _ _ _ fr hx ⟨_, _, fg⟩ nz ?_
              unfold p_lay
              rw [if_neg (by omega)]
              unfold p_lay1
              have k70 : K q = 70 := by
                by_cases z : K q = 70
                · exact z
                · exfalso
                  have e := h326
                  unfold p_grp at e
                  rw [if_neg z, p_bd_l (p_want_n (by omega))] at e
                  cases e
              rw [if_neg (by omega), if_neg (by omega), if_pos (by omega)]
              rw [p_bd_r h326]
              exact p_bd_l h351
            · have fr := fr.trans h348
              have hx := h349
              have fg := h350
              have sg := h353
              have gp := h354
              refine hQ rfl _ _ (l_mk 0 1 g352 l_no g327) fr hx ?_ ?_ (fun j j0 j1 => ?_)
              · exact fg.cg (by simp [l_mk, l_no]) (by simp [l_mk, l_no])
              · unfold p_lay
                rw [if_neg (by omega)]
                unfold p_lay1
                have k70 : K q = 70 := by
                  by_cases z : K q = 70
                  · exact z
                  · exfalso
                    have e := h326
                    unfold p_grp at e
                    rw [if_neg z, p_bd_l (p_want_n (by omega))] at e
                    cases e
                rw [if_neg (by omega), if_neg (by omega), if_pos (by omega)]
                rw [p_bd_r h326]
                rw [p_bd_r h351]
              · rw [sg j j0 j1]
                have hj : j = 0 ∨ j = 1 ∨ j = 2 ∨ j = 3 ∨ j = 4 ∨ j = 5 ∨ j = 6 ∨ j = 7 ∨ j = 8 ∨ j = 9 := by omega
                rcases hj with rfl | rfl | rfl | rfl | rfl | rfl | rfl | rfl | rfl | rfl <;> simp [p_up, l_mk, l_no]
            · have fr := fr.trans h348
              have hx := h349
              have fg := h350
              have sg := h353
              refine hQ rfl _ _ (l_mk 0 1 0 l_no g327) fr hx ?_ ?_ (fun j j0 j1 => ?_)
              · exact fg.cg (by simp [l_mk, l_no]) (by simp [l_mk, l_no])
              · unfold p_lay
                rw [if_neg (by omega)]
                unfold p_lay1
                have k70 : K q = 70 := by
                  by_cases z : K q = 70
                  · exact z
                  · exfalso
                    have e := h326
                    unfold p_grp at e
                    rw [if_neg z, p_bd_l (p_want_n (by omega))] at e
                    cases e
                rw [if_neg (by omega), if_neg (by omega), if_pos (by omega)]
                rw [p_bd_r h326]
                rw [p_bd_r h351]
              · rw [sg j j0 j1]
                have hj : j = 0 ∨ j = 1 ∨ j = 2 ∨ j = 3 ∨ j = 4 ∨ j = 5 ∨ j = 6 ∨ j = 7 ∨ j = 8 ∨ j = 9 := by omega
                rcases hj with rfl | rfl | rfl | rfl | rfl | rfl | rfl | rfl | rfl | rfl <;> simp [p_up, l_mk, l_no]
  · have nz := f0
    refine am_in rfl hd (fun d hd => ?_)
    refine am_go 400 [] (am_wpc_cm _ _ _) wf_208 ?_
    refine And.intro (rfl) ?_
    refine ct_198 (w := 44) (by omega) hx (by omega) (by decide +kernel) (fun h => absurd h nz) (fun _ => ?_)
    refine And.intro (fun _ => ?_) (fun h => absurd h (by decide))
    refine And.intro (rfl) ?_
    refine ct_198 (w := 45) (by omega) hx (by omega) (by decide +kernel) (fun h => absurd h nz) (fun _ => ?_)
    refine And.intro (fun _ => ?_) (fun h => absurd h (by decide))
    skip
    refine And.intro (rfl) ?_
    refine ct_198 (w := 43) (by omega) hx (by omega) (by decide +kernel) (fun h => absurd h nz) (fun _ => ?_)
    refine And.intro (fun _ => ?_) (fun h => absurd h (by decide))
    refine And.intro (rfl) ?_
    refine ct_210 (by omega) hx (wr0.fr fr) hl (fun _ _ _ => Eq.refl _) fg (fun _ mw1 h6 h7 h8 => ?_) (fun h => absurd h nz) (fun h => absurd h nz)
    have fr := fr.trans h6
    have hx := h7
    have fg := h8
    refine And.intro (rfl) ?_
    refine ct_215 (by omega) hx (wr0.fr fr) hl (fun _ _ _ => Eq.refl _) fg (fun _ mw12 h18 h19 h20 => ?_) (fun h => absurd h nz) (fun h => absurd h nz) (fun h => absurd h nz)
    have fr := fr.trans h18
    have hx := h19
    have fg := h20
    exact hQf nz _ fr hx ⟨_, _, fg⟩
