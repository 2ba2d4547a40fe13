/-! needs: 50.disp -/
/-! each method: its elements are as the tables of links say, and as its bytes decode; by tools/genchk.py -/
set_option maxRecDepth 100000
theorem ck_2 : (am_T 2).2.2.all (fun e => am_ck (am_ow 2) (am_md 2) (am_rt 2) (am_nmb 2) (am_T 2).2.1 e) = true := by decide +kernel
theorem dc_2 : ∀ e ∈ (am_T 2).2.2, decode (am_bt 2) e.1 = .ok (e.2.1, e.2.2.1) := am_dc0 (code := am_bt 2) (es := cd_2) wk_2 (by decide +kernel)
theorem ck_7 : (am_T 7).2.2.all (fun e => am_ck (am_ow 7) (am_md 7) (am_rt 7) (am_nmb 7) (am_T 7).2.1 e) = true := by decide +kernel
theorem dc_7 : ∀ e ∈ (am_T 7).2.2, decode (am_bt 7) e.1 = .ok (e.2.1, e.2.2.1) := am_dc0 (code := am_bt 7) (es := cd_7) wk_7 (by decide +kernel)
theorem ck_12 : (am_T 12).2.2.all (fun e => am_ck (am_ow 12) (am_md 12) (am_rt 12) (am_nmb 12) (am_T 12).2.1 e) = true := by decide +kernel
theorem dc_12 : ∀ e ∈ (am_T 12).2.2, decode (am_bt 12) e.1 = .ok (e.2.1, e.2.2.1) := am_dc0 (code := am_bt 12) (es := cd_12) wk_12 (by decide +kernel)
theorem ck_24 : (am_T 24).2.2.all (fun e => am_ck (am_ow 24) (am_md 24) (am_rt 24) (am_nmb 24) (am_T 24).2.1 e) = true := by decide +kernel
theorem dc_24 : ∀ e ∈ (am_T 24).2.2, decode (am_bt 24) e.1 = .ok (e.2.1, e.2.2.1) := am_dc0 (code := am_bt 24) (es := cd_24) wk_24 (by decide +kernel)
theorem ck_29 : (am_T 29).2.2.all (fun e => am_ck (am_ow 29) (am_md 29) (am_rt 29) (am_nmb 29) (am_T 29).2.1 e) = true := by decide +kernel
theorem dc_29 : ∀ e ∈ (am_T 29).2.2, decode (am_bt 29) e.1 = .ok (e.2.1, e.2.2.1) := am_dc0 (code := am_bt 29) (es := cd_29) wk_29 (by decide +kernel)
theorem ck_35 : (am_T 35).2.2.all (fun e => am_ck (am_ow 35) (am_md 35) (am_rt 35) (am_nmb 35) (am_T 35).2.1 e) = true := by decide +kernel
theorem dc_35 : ∀ e ∈ (am_T 35).2.2, decode (am_bt 35) e.1 = .ok (e.2.1, e.2.2.1) := am_dc0 (code := am_bt 35) (es := cd_35) wk_35 (by decide +kernel)
theorem ck_40 : (am_T 40).2.2.all (fun e => am_ck (am_ow 40) (am_md 40) (am_rt 40) (am_nmb 40) (am_T 40).2.1 e) = true := by decide +kernel
theorem dc_40 : ∀ e ∈ (am_T 40).2.2, decode (am_bt 40) e.1 = .ok (e.2.1, e.2.2.1) := am_dc0 (code := am_bt 40) (es := cd_40) wk_40 (by decide +kernel)
theorem ck_45 : (am_T 45).2.2.all (fun e => am_ck (am_ow 45) (am_md 45) (am_rt 45) (am_nmb 45) (am_T 45).2.1 e) = true := by decide +kernel
theorem dc_45 : ∀ e ∈ (am_T 45).2.2, decode (am_bt 45) e.1 = .ok (e.2.1, e.2.2.1) := am_dc0 (code := am_bt 45) (es := cd_45) wk_45 (by decide +kernel)
theorem ck_50 : (am_T 50).2.2.all (fun e => am_ck (am_ow 50) (am_md 50) (am_rt 50) (am_nmb 50) (am_T 50).2.1 e) = true := by decide +kernel
theorem dc_50 : ∀ e ∈ (am_T 50).2.2, decode (am_bt 50) e.1 = .ok (e.2.1, e.2.2.1) := am_dc0 (code := am_bt 50) (es := cd_50) wk_50 (by decide +kernel)
theorem ck_55 : (am_T 55).2.2.all (fun e => am_ck (am_ow 55) (am_md 55) (am_rt 55) (am_nmb 55) (am_T 55).2.1 e) = true := by decide +kernel
theorem dc_55 : ∀ e ∈ (am_T 55).2.2, decode (am_bt 55) e.1 = .ok (e.2.1, e.2.2.1) := am_dc0 (code := am_bt 55) (es := cd_55) wk_55 (by decide +kernel)
theorem ck_60 : (am_T 60).2.2.all (fun e => am_ck (am_ow 60) (am_md 60) (am_rt 60) (am_nmb 60) (am_T 60).2.1 e) = true := by decide +kernel
theorem dc_60 : ∀ e ∈ (am_T 60).2.2, decode (am_bt 60) e.1 = .ok (e.2.1, e.2.2.1) := am_dc0 (code := am_bt 60) (es := cd_60) wk_60 (by decide +kernel)
theorem ck_65 : (am_T 65).2.2.all (fun e => am_ck (am_ow 65) (am_md 65) (am_rt 65) (am_nmb 65) (am_T 65).2.1 e) = true := by decide +kernel
theorem dc_65 : ∀ e ∈ (am_T 65).2.2, decode (am_bt 65) e.1 = .ok (e.2.1, e.2.2.1) := am_dc0 (code := am_bt 65) (es := cd_65) wk_65 (by decide +kernel)
theorem ck_70 : (am_T 70).2.2.all (fun e => am_ck (am_ow 70) (am_md 70) (am_rt 70) (am_nmb 70) (am_T 70).2.1 e) = true := by decide +kernel
theorem dc_70 : ∀ e ∈ (am_T 70).2.2, decode (am_bt 70) e.1 = .ok (e.2.1, e.2.2.1) := am_dc0 (code := am_bt 70) (es := cd_70) wk_70 (by decide +kernel)
theorem ck_75 : (am_T 75).2.2.all (fun e => am_ck (am_ow 75) (am_md 75) (am_rt 75) (am_nmb 75) (am_T 75).2.1 e) = true := by decide +kernel
theorem dc_75 : ∀ e ∈ (am_T 75).2.2, decode (am_bt 75) e.1 = .ok (e.2.1, e.2.2.1) := am_dc0 (code := am_bt 75) (es := cd_75) wk_75 (by decide +kernel)
theorem ck_80 : (am_T 80).2.2.all (fun e => am_ck (am_ow 80) (am_md 80) (am_rt 80) (am_nmb 80) (am_T 80).2.1 e) = true := by decide +kernel
theorem dc_80 : ∀ e ∈ (am_T 80).2.2, decode (am_bt 80) e.1 = .ok (e.2.1, e.2.2.1) := am_dc0 (code := am_bt 80) (es := cd_80) wk_80 (by decide +kernel)
theorem ck_85 : (am_T 85).2.2.all (fun e => am_ck (am_ow 85) (am_md 85) (am_rt 85) (am_nmb 85) (am_T 85).2.1 e) = true := by decide +kernel
theorem dc_85 : ∀ e ∈ (am_T 85).2.2, decode (am_bt 85) e.1 = .ok (e.2.1, e.2.2.1) := am_dc1 (code := am_bt 85) (es := cd_85) (os := [(52, .tableswitch 105 1 7 #[44, 63, 105, 105, 105, 86, 44], 44, 0, 0, 0)]) wk_85 (by rfl) (List.forall_mem_cons.mpr ⟨wo_85_52, fun _ h => absurd h List.not_mem_nil⟩)
theorem ck_90 : (am_T 90).2.2.all (fun e => am_ck (am_ow 90) (am_md 90) (am_rt 90) (am_nmb 90) (am_T 90).2.1 e) = true := by decide +kernel
theorem dc_90 : ∀ e ∈ (am_T 90).2.2, decode (am_bt 90) e.1 = .ok (e.2.1, e.2.2.1) := am_dc0 (code := am_bt 90) (es := cd_90) wk_90 (by decide +kernel)
theorem ck_95 : (am_T 95).2.2.all (fun e => am_ck (am_ow 95) (am_md 95) (am_rt 95) (am_nmb 95) (am_T 95).2.1 e) = true := by decide +kernel
theorem dc_95 : ∀ e ∈ (am_T 95).2.2, decode (am_bt 95) e.1 = .ok (e.2.1, e.2.2.1) := am_dc0 (code := am_bt 95) (es := cd_95) wk_95 (by decide +kernel)
theorem ck_100 : (am_T 100).2.2.all (fun e => am_ck (am_ow 100) (am_md 100) (am_rt 100) (am_nmb 100) (am_T 100).2.1 e) = true := by decide +kernel
theorem dc_100 : ∀ e ∈ (am_T 100).2.2, decode (am_bt 100) e.1 = .ok (e.2.1, e.2.2.1) := am_dc0 (code := am_bt 100) (es := cd_100) wk_100 (by decide +kernel)
theorem ck_105 : (am_T 105).2.2.all (fun e => am_ck (am_ow 105) (am_md 105) (am_rt 105) (am_nmb 105) (am_T 105).2.1 e) = true := by decide +kernel
theorem dc_105 : ∀ e ∈ (am_T 105).2.2, decode (am_bt 105) e.1 = .ok (e.2.1, e.2.2.1) := am_dc0 (code := am_bt 105) (es := cd_105) wk_105 (by decide +kernel)
theorem ck_110 : (am_T 110).2.2.all (fun e => am_ck (am_ow 110) (am_md 110) (am_rt 110) (am_nmb 110) (am_T 110).2.1 e) = true := by decide +kernel
theorem dc_110 : ∀ e ∈ (am_T 110).2.2, decode (am_bt 110) e.1 = .ok (e.2.1, e.2.2.1) := am_dc0 (code := am_bt 110) (es := cd_110) wk_110 (by decide +kernel)
theorem ck_115 : (am_T 115).2.2.all (fun e => am_ck (am_ow 115) (am_md 115) (am_rt 115) (am_nmb 115) (am_T 115).2.1 e) = true := by decide +kernel
theorem dc_115 : ∀ e ∈ (am_T 115).2.2, decode (am_bt 115) e.1 = .ok (e.2.1, e.2.2.1) := am_dc0 (code := am_bt 115) (es := cd_115) wk_115 (by decide +kernel)
theorem ck_120 : (am_T 120).2.2.all (fun e => am_ck (am_ow 120) (am_md 120) (am_rt 120) (am_nmb 120) (am_T 120).2.1 e) = true := by decide +kernel
theorem dc_120 : ∀ e ∈ (am_T 120).2.2, decode (am_bt 120) e.1 = .ok (e.2.1, e.2.2.1) := am_dc0 (code := am_bt 120) (es := cd_120) wk_120 (by decide +kernel)
theorem ck_125 : (am_T 125).2.2.all (fun e => am_ck (am_ow 125) (am_md 125) (am_rt 125) (am_nmb 125) (am_T 125).2.1 e) = true := by decide +kernel
theorem dc_125 : ∀ e ∈ (am_T 125).2.2, decode (am_bt 125) e.1 = .ok (e.2.1, e.2.2.1) := am_dc0 (code := am_bt 125) (es := cd_125) wk_125 (by decide +kernel)
theorem ck_130 : (am_T 130).2.2.all (fun e => am_ck (am_ow 130) (am_md 130) (am_rt 130) (am_nmb 130) (am_T 130).2.1 e) = true := by decide +kernel
theorem dc_130 : ∀ e ∈ (am_T 130).2.2, decode (am_bt 130) e.1 = .ok (e.2.1, e.2.2.1) := am_dc0 (code := am_bt 130) (es := cd_130) wk_130 (by decide +kernel)
theorem ck_135 : (am_T 135).2.2.all (fun e => am_ck (am_ow 135) (am_md 135) (am_rt 135) (am_nmb 135) (am_T 135).2.1 e) = true := by decide +kernel
theorem dc_135 : ∀ e ∈ (am_T 135).2.2, decode (am_bt 135) e.1 = .ok (e.2.1, e.2.2.1) := am_dc0 (code := am_bt 135) (es := cd_135) wk_135 (by decide +kernel)
theorem ck_140 : (am_T 140).2.2.all (fun e => am_ck (am_ow 140) (am_md 140) (am_rt 140) (am_nmb 140) (am_T 140).2.1 e) = true := by decide +kernel
theorem dc_140 : ∀ e ∈ (am_T 140).2.2, decode (am_bt 140) e.1 = .ok (e.2.1, e.2.2.1) := am_dc0 (code := am_bt 140) (es := cd_140) wk_140 (by decide +kernel)
theorem ck_145 : (am_T 145).2.2.all (fun e => am_ck (am_ow 145) (am_md 145) (am_rt 145) (am_nmb 145) (am_T 145).2.1 e) = true := by decide +kernel
theorem dc_145 : ∀ e ∈ (am_T 145).2.2, decode (am_bt 145) e.1 = .ok (e.2.1, e.2.2.1) := am_dc0 (code := am_bt 145) (es := cd_145) wk_145 (by decide +kernel)
theorem ck_150 : (am_T 150).2.2.all (fun e => am_ck (am_ow 150) (am_md 150) (am_rt 150) (am_nmb 150) (am_T 150).2.1 e) = true := by decide +kernel
theorem dc_150 : ∀ e ∈ (am_T 150).2.2, decode (am_bt 150) e.1 = .ok (e.2.1, e.2.2.1) := am_dc0 (code := am_bt 150) (es := cd_150) wk_150 (by decide +kernel)
theorem ck_155 : (am_T 155).2.2.all (fun e => am_ck (am_ow 155) (am_md 155) (am_rt 155) (am_nmb 155) (am_T 155).2.1 e) = true := by decide +kernel
theorem dc_155 : ∀ e ∈ (am_T 155).2.2, decode (am_bt 155) e.1 = .ok (e.2.1, e.2.2.1) := am_dc0 (code := am_bt 155) (es := cd_155) wk_155 (by decide +kernel)
theorem ck_160 : (am_T 160).2.2.all (fun e => am_ck (am_ow 160) (am_md 160) (am_rt 160) (am_nmb 160) (am_T 160).2.1 e) = true := by decide +kernel
theorem dc_160 : ∀ e ∈ (am_T 160).2.2, decode (am_bt 160) e.1 = .ok (e.2.1, e.2.2.1) := am_dc0 (code := am_bt 160) (es := cd_160) wk_160 (by decide +kernel)
theorem ck_165 : (am_T 165).2.2.all (fun e => am_ck (am_ow 165) (am_md 165) (am_rt 165) (am_nmb 165) (am_T 165).2.1 e) = true := by decide +kernel
theorem dc_165 : ∀ e ∈ (am_T 165).2.2, decode (am_bt 165) e.1 = .ok (e.2.1, e.2.2.1) := am_dc0 (code := am_bt 165) (es := cd_165) wk_165 (by decide +kernel)
theorem ck_170 : (am_T 170).2.2.all (fun e => am_ck (am_ow 170) (am_md 170) (am_rt 170) (am_nmb 170) (am_T 170).2.1 e) = true := by decide +kernel
theorem dc_170 : ∀ e ∈ (am_T 170).2.2, decode (am_bt 170) e.1 = .ok (e.2.1, e.2.2.1) := am_dc0 (code := am_bt 170) (es := cd_170) wk_170 (by decide +kernel)
theorem ck_175 : (am_T 175).2.2.all (fun e => am_ck (am_ow 175) (am_md 175) (am_rt 175) (am_nmb 175) (am_T 175).2.1 e) = true := by decide +kernel
theorem dc_175 : ∀ e ∈ (am_T 175).2.2, decode (am_bt 175) e.1 = .ok (e.2.1, e.2.2.1) := am_dc0 (code := am_bt 175) (es := cd_175) wk_175 (by decide +kernel)
theorem ck_180 : (am_T 180).2.2.all (fun e => am_ck (am_ow 180) (am_md 180) (am_rt 180) (am_nmb 180) (am_T 180).2.1 e) = true := by decide +kernel
theorem dc_180 : ∀ e ∈ (am_T 180).2.2, decode (am_bt 180) e.1 = .ok (e.2.1, e.2.2.1) := am_dc0 (code := am_bt 180) (es := cd_180) wk_180 (by decide +kernel)
theorem ck_185 : (am_T 185).2.2.all (fun e => am_ck (am_ow 185) (am_md 185) (am_rt 185) (am_nmb 185) (am_T 185).2.1 e) = true := by decide +kernel
theorem dc_185 : ∀ e ∈ (am_T 185).2.2, decode (am_bt 185) e.1 = .ok (e.2.1, e.2.2.1) := am_dc0 (code := am_bt 185) (es := cd_185) wk_185 (by decide +kernel)
theorem ck_190 : (am_T 190).2.2.all (fun e => am_ck (am_ow 190) (am_md 190) (am_rt 190) (am_nmb 190) (am_T 190).2.1 e) = true := by decide +kernel
theorem dc_190 : ∀ e ∈ (am_T 190).2.2, decode (am_bt 190) e.1 = .ok (e.2.1, e.2.2.1) := am_dc0 (code := am_bt 190) (es := cd_190) wk_190 (by decide +kernel)
theorem ck_195 : (am_T 195).2.2.all (fun e => am_ck (am_ow 195) (am_md 195) (am_rt 195) (am_nmb 195) (am_T 195).2.1 e) = true := by decide +kernel
theorem dc_195 : ∀ e ∈ (am_T 195).2.2, decode (am_bt 195) e.1 = .ok (e.2.1, e.2.2.1) := am_dc0 (code := am_bt 195) (es := cd_195) wk_195 (by decide +kernel)
theorem ck_200 : (am_T 200).2.2.all (fun e => am_ck (am_ow 200) (am_md 200) (am_rt 200) (am_nmb 200) (am_T 200).2.1 e) = true := by decide +kernel
theorem dc_200 : ∀ e ∈ (am_T 200).2.2, decode (am_bt 200) e.1 = .ok (e.2.1, e.2.2.1) := am_dc0 (code := am_bt 200) (es := cd_200) wk_200 (by decide +kernel)
theorem ck_205 : (am_T 205).2.2.all (fun e => am_ck (am_ow 205) (am_md 205) (am_rt 205) (am_nmb 205) (am_T 205).2.1 e) = true := by decide +kernel
theorem dc_205 : ∀ e ∈ (am_T 205).2.2, decode (am_bt 205) e.1 = .ok (e.2.1, e.2.2.1) := am_dc0 (code := am_bt 205) (es := cd_205) wk_205 (by decide +kernel)
theorem ck_210 : (am_T 210).2.2.all (fun e => am_ck (am_ow 210) (am_md 210) (am_rt 210) (am_nmb 210) (am_T 210).2.1 e) = true := by decide +kernel
theorem dc_210 : ∀ e ∈ (am_T 210).2.2, decode (am_bt 210) e.1 = .ok (e.2.1, e.2.2.1) := am_dc0 (code := am_bt 210) (es := cd_210) wk_210 (by decide +kernel)
theorem ck_215 : (am_T 215).2.2.all (fun e => am_ck (am_ow 215) (am_md 215) (am_rt 215) (am_nmb 215) (am_T 215).2.1 e) = true := by decide +kernel
theorem dc_215 : ∀ e ∈ (am_T 215).2.2, decode (am_bt 215) e.1 = .ok (e.2.1, e.2.2.1) := am_dc0 (code := am_bt 215) (es := cd_215) wk_215 (by decide +kernel)
theorem ck_220 : (am_T 220).2.2.all (fun e => am_ck (am_ow 220) (am_md 220) (am_rt 220) (am_nmb 220) (am_T 220).2.1 e) = true := by decide +kernel
theorem dc_220 : ∀ e ∈ (am_T 220).2.2, decode (am_bt 220) e.1 = .ok (e.2.1, e.2.2.1) := am_dc0 (code := am_bt 220) (es := cd_220) wk_220 (by decide +kernel)
theorem ck_225 : (am_T 225).2.2.all (fun e => am_ck (am_ow 225) (am_md 225) (am_rt 225) (am_nmb 225) (am_T 225).2.1 e) = true := by decide +kernel
theorem dc_225 : ∀ e ∈ (am_T 225).2.2, decode (am_bt 225) e.1 = .ok (e.2.1, e.2.2.1) := am_dc0 (code := am_bt 225) (es := cd_225) wk_225 (by decide +kernel)
theorem ck_230 : (am_T 230).2.2.all (fun e => am_ck (am_ow 230) (am_md 230) (am_rt 230) (am_nmb 230) (am_T 230).2.1 e) = true := by decide +kernel
theorem dc_230 : ∀ e ∈ (am_T 230).2.2, decode (am_bt 230) e.1 = .ok (e.2.1, e.2.2.1) := am_dc0 (code := am_bt 230) (es := cd_230) wk_230 (by decide +kernel)
theorem ck_235 : (am_T 235).2.2.all (fun e => am_ck (am_ow 235) (am_md 235) (am_rt 235) (am_nmb 235) (am_T 235).2.1 e) = true := by decide +kernel
theorem dc_235 : ∀ e ∈ (am_T 235).2.2, decode (am_bt 235) e.1 = .ok (e.2.1, e.2.2.1) := am_dc0 (code := am_bt 235) (es := cd_235) wk_235 (by decide +kernel)
theorem ck_240 : (am_T 240).2.2.all (fun e => am_ck (am_ow 240) (am_md 240) (am_rt 240) (am_nmb 240) (am_T 240).2.1 e) = true := by decide +kernel
theorem dc_240 : ∀ e ∈ (am_T 240).2.2, decode (am_bt 240) e.1 = .ok (e.2.1, e.2.2.1) := am_dc0 (code := am_bt 240) (es := cd_240) wk_240 (by decide +kernel)
theorem ck_245 : (am_T 245).2.2.all (fun e => am_ck (am_ow 245) (am_md 245) (am_rt 245) (am_nmb 245) (am_T 245).2.1 e) = true := by decide +kernel
theorem dc_245 : ∀ e ∈ (am_T 245).2.2, decode (am_bt 245) e.1 = .ok (e.2.1, e.2.2.1) := am_dc0 (code := am_bt 245) (es := cd_245) wk_245 (by decide +kernel)
theorem ck_250 : (am_T 250).2.2.all (fun e => am_ck (am_ow 250) (am_md 250) (am_rt 250) (am_nmb 250) (am_T 250).2.1 e) = true := by decide +kernel
theorem dc_250 : ∀ e ∈ (am_T 250).2.2, decode (am_bt 250) e.1 = .ok (e.2.1, e.2.2.1) := am_dc0 (code := am_bt 250) (es := cd_250) wk_250 (by decide +kernel)
theorem ck_255 : (am_T 255).2.2.all (fun e => am_ck (am_ow 255) (am_md 255) (am_rt 255) (am_nmb 255) (am_T 255).2.1 e) = true := by decide +kernel
theorem dc_255 : ∀ e ∈ (am_T 255).2.2, decode (am_bt 255) e.1 = .ok (e.2.1, e.2.2.1) := am_dc0 (code := am_bt 255) (es := cd_255) wk_255 (by decide +kernel)
theorem ck_260 : (am_T 260).2.2.all (fun e => am_ck (am_ow 260) (am_md 260) (am_rt 260) (am_nmb 260) (am_T 260).2.1 e) = true := by decide +kernel
theorem dc_260 : ∀ e ∈ (am_T 260).2.2, decode (am_bt 260) e.1 = .ok (e.2.1, e.2.2.1) := am_dc0 (code := am_bt 260) (es := cd_260) wk_260 (by decide +kernel)
theorem ck_265 : (am_T 265).2.2.all (fun e => am_ck (am_ow 265) (am_md 265) (am_rt 265) (am_nmb 265) (am_T 265).2.1 e) = true := by decide +kernel
theorem dc_265 : ∀ e ∈ (am_T 265).2.2, decode (am_bt 265) e.1 = .ok (e.2.1, e.2.2.1) := am_dc0 (code := am_bt 265) (es := cd_265) wk_265 (by decide +kernel)
theorem ck_270 : (am_T 270).2.2.all (fun e => am_ck (am_ow 270) (am_md 270) (am_rt 270) (am_nmb 270) (am_T 270).2.1 e) = true := by decide +kernel
theorem dc_270 : ∀ e ∈ (am_T 270).2.2, decode (am_bt 270) e.1 = .ok (e.2.1, e.2.2.1) := am_dc0 (code := am_bt 270) (es := cd_270) wk_270 (by decide +kernel)
theorem ck_275 : (am_T 275).2.2.all (fun e => am_ck (am_ow 275) (am_md 275) (am_rt 275) (am_nmb 275) (am_T 275).2.1 e) = true := by decide +kernel
theorem dc_275 : ∀ e ∈ (am_T 275).2.2, decode (am_bt 275) e.1 = .ok (e.2.1, e.2.2.1) := am_dc0 (code := am_bt 275) (es := cd_275) wk_275 (by decide +kernel)
theorem ck_280 : (am_T 280).2.2.all (fun e => am_ck (am_ow 280) (am_md 280) (am_rt 280) (am_nmb 280) (am_T 280).2.1 e) = true := by decide +kernel
theorem dc_280 : ∀ e ∈ (am_T 280).2.2, decode (am_bt 280) e.1 = .ok (e.2.1, e.2.2.1) := am_dc0 (code := am_bt 280) (es := cd_280) wk_280 (by decide +kernel)
theorem ck_285 : (am_T 285).2.2.all (fun e => am_ck (am_ow 285) (am_md 285) (am_rt 285) (am_nmb 285) (am_T 285).2.1 e) = true := by decide +kernel
theorem dc_285 : ∀ e ∈ (am_T 285).2.2, decode (am_bt 285) e.1 = .ok (e.2.1, e.2.2.1) := am_dc0 (code := am_bt 285) (es := cd_285) wk_285 (by decide +kernel)
theorem ck_290 : (am_T 290).2.2.all (fun e => am_ck (am_ow 290) (am_md 290) (am_rt 290) (am_nmb 290) (am_T 290).2.1 e) = true := by decide +kernel
theorem dc_290 : ∀ e ∈ (am_T 290).2.2, decode (am_bt 290) e.1 = .ok (e.2.1, e.2.2.1) := am_dc0 (code := am_bt 290) (es := cd_290) wk_290 (by decide +kernel)
theorem ck_295 : (am_T 295).2.2.all (fun e => am_ck (am_ow 295) (am_md 295) (am_rt 295) (am_nmb 295) (am_T 295).2.1 e) = true := by decide +kernel
theorem dc_295 : ∀ e ∈ (am_T 295).2.2, decode (am_bt 295) e.1 = .ok (e.2.1, e.2.2.1) := am_dc0 (code := am_bt 295) (es := cd_295) wk_295 (by decide +kernel)
theorem ck_300 : (am_T 300).2.2.all (fun e => am_ck (am_ow 300) (am_md 300) (am_rt 300) (am_nmb 300) (am_T 300).2.1 e) = true := by decide +kernel
theorem dc_300 : ∀ e ∈ (am_T 300).2.2, decode (am_bt 300) e.1 = .ok (e.2.1, e.2.2.1) := am_dc0 (code := am_bt 300) (es := cd_300) wk_300 (by decide +kernel)
theorem ck_305 : (am_T 305).2.2.all (fun e => am_ck (am_ow 305) (am_md 305) (am_rt 305) (am_nmb 305) (am_T 305).2.1 e) = true := by decide +kernel
theorem dc_305 : ∀ e ∈ (am_T 305).2.2, decode (am_bt 305) e.1 = .ok (e.2.1, e.2.2.1) := am_dc0 (code := am_bt 305) (es := cd_305) wk_305 (by decide +kernel)
theorem ck_310 : (am_T 310).2.2.all (fun e => am_ck (am_ow 310) (am_md 310) (am_rt 310) (am_nmb 310) (am_T 310).2.1 e) = true := by decide +kernel
theorem dc_310 : ∀ e ∈ (am_T 310).2.2, decode (am_bt 310) e.1 = .ok (e.2.1, e.2.2.1) := am_dc0 (code := am_bt 310) (es := cd_310) wk_310 (by decide +kernel)
theorem ck_315 : (am_T 315).2.2.all (fun e => am_ck (am_ow 315) (am_md 315) (am_rt 315) (am_nmb 315) (am_T 315).2.1 e) = true := by decide +kernel
theorem dc_315 : ∀ e ∈ (am_T 315).2.2, decode (am_bt 315) e.1 = .ok (e.2.1, e.2.2.1) := am_dc0 (code := am_bt 315) (es := cd_315) wk_315 (by decide +kernel)
theorem ck_320 : (am_T 320).2.2.all (fun e => am_ck (am_ow 320) (am_md 320) (am_rt 320) (am_nmb 320) (am_T 320).2.1 e) = true := by decide +kernel
theorem dc_320 : ∀ e ∈ (am_T 320).2.2, decode (am_bt 320) e.1 = .ok (e.2.1, e.2.2.1) := am_dc0 (code := am_bt 320) (es := cd_320) wk_320 (by decide +kernel)
theorem ck_325 : (am_T 325).2.2.all (fun e => am_ck (am_ow 325) (am_md 325) (am_rt 325) (am_nmb 325) (am_T 325).2.1 e) = true := by decide +kernel
theorem dc_325 : ∀ e ∈ (am_T 325).2.2, decode (am_bt 325) e.1 = .ok (e.2.1, e.2.2.1) := am_dc0 (code := am_bt 325) (es := cd_325) wk_325 (by decide +kernel)
theorem ck_330 : (am_T 330).2.2.all (fun e => am_ck (am_ow 330) (am_md 330) (am_rt 330) (am_nmb 330) (am_T 330).2.1 e) = true := by decide +kernel
theorem dc_330 : ∀ e ∈ (am_T 330).2.2, decode (am_bt 330) e.1 = .ok (e.2.1, e.2.2.1) := am_dc0 (code := am_bt 330) (es := cd_330) wk_330 (by decide +kernel)
theorem ck_335 : (am_T 335).2.2.all (fun e => am_ck (am_ow 335) (am_md 335) (am_rt 335) (am_nmb 335) (am_T 335).2.1 e) = true := by decide +kernel
theorem dc_335 : ∀ e ∈ (am_T 335).2.2, decode (am_bt 335) e.1 = .ok (e.2.1, e.2.2.1) := am_dc0 (code := am_bt 335) (es := cd_335) wk_335 (by decide +kernel)
