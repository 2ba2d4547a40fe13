/-! needs: 50.disp -/
/-! each method: its elements are as the tables of links say, and as its bytes decode; by tools/genchk.py -/
set_option maxRecDepth 100000
theorem ck_5 : (am_T 5).2.2.all (fun e => am_ck (am_ow 5) (am_md 5) (am_rt 5) (am_nmb 5) (am_T 5).2.1 e) = true := by decide +kernel
theorem dc_5 : ∀ e ∈ (am_T 5).2.2, decode (am_bt 5) e.1 = .ok (e.2.1, e.2.2.1) := am_dc1 (code := am_bt 5) (es := cd_5) (os := [(176, .lookupswitch 92 #[(142, 82), (143, 62), (145, 72), (160, 44)], 44, 0, 0, 0)]) wk_5 (by rfl) (List.forall_mem_cons.mpr ⟨wo_5_176, fun _ h => absurd h List.not_mem_nil⟩)
theorem ck_10 : (am_T 10).2.2.all (fun e => am_ck (am_ow 10) (am_md 10) (am_rt 10) (am_nmb 10) (am_T 10).2.1 e) = true := by decide +kernel
theorem dc_10 : ∀ e ∈ (am_T 10).2.2, decode (am_bt 10) e.1 = .ok (e.2.1, e.2.2.1) := am_dc0 (code := am_bt 10) (es := cd_10) wk_10 (by decide +kernel)
theorem ck_22 : (am_T 22).2.2.all (fun e => am_ck (am_ow 22) (am_md 22) (am_rt 22) (am_nmb 22) (am_T 22).2.1 e) = true := by decide +kernel
theorem dc_22 : ∀ e ∈ (am_T 22).2.2, decode (am_bt 22) e.1 = .ok (e.2.1, e.2.2.1) := am_dc0 (code := am_bt 22) (es := cd_22) wk_22 (by decide +kernel)
theorem ck_27 : (am_T 27).2.2.all (fun e => am_ck (am_ow 27) (am_md 27) (am_rt 27) (am_nmb 27) (am_T 27).2.1 e) = true := by decide +kernel
theorem dc_27 : ∀ e ∈ (am_T 27).2.2, decode (am_bt 27) e.1 = .ok (e.2.1, e.2.2.1) := am_dc0 (code := am_bt 27) (es := cd_27) wk_27 (by decide +kernel)
theorem ck_33 : (am_T 33).2.2.all (fun e => am_ck (am_ow 33) (am_md 33) (am_rt 33) (am_nmb 33) (am_T 33).2.1 e) = true := by decide +kernel
theorem dc_33 : ∀ e ∈ (am_T 33).2.2, decode (am_bt 33) e.1 = .ok (e.2.1, e.2.2.1) := am_dc0 (code := am_bt 33) (es := cd_33) wk_33 (by decide +kernel)
theorem ck_38 : (am_T 38).2.2.all (fun e => am_ck (am_ow 38) (am_md 38) (am_rt 38) (am_nmb 38) (am_T 38).2.1 e) = true := by decide +kernel
theorem dc_38 : ∀ e ∈ (am_T 38).2.2, decode (am_bt 38) e.1 = .ok (e.2.1, e.2.2.1) := am_dc0 (code := am_bt 38) (es := cd_38) wk_38 (by decide +kernel)
theorem ck_43 : (am_T 43).2.2.all (fun e => am_ck (am_ow 43) (am_md 43) (am_rt 43) (am_nmb 43) (am_T 43).2.1 e) = true := by decide +kernel
theorem dc_43 : ∀ e ∈ (am_T 43).2.2, decode (am_bt 43) e.1 = .ok (e.2.1, e.2.2.1) := am_dc0 (code := am_bt 43) (es := cd_43) wk_43 (by decide +kernel)
theorem ck_48 : (am_T 48).2.2.all (fun e => am_ck (am_ow 48) (am_md 48) (am_rt 48) (am_nmb 48) (am_T 48).2.1 e) = true := by decide +kernel
theorem dc_48 : ∀ e ∈ (am_T 48).2.2, decode (am_bt 48) e.1 = .ok (e.2.1, e.2.2.1) := am_dc0 (code := am_bt 48) (es := cd_48) wk_48 (by decide +kernel)
theorem ck_53 : (am_T 53).2.2.all (fun e => am_ck (am_ow 53) (am_md 53) (am_rt 53) (am_nmb 53) (am_T 53).2.1 e) = true := by decide +kernel
theorem dc_53 : ∀ e ∈ (am_T 53).2.2, decode (am_bt 53) e.1 = .ok (e.2.1, e.2.2.1) := am_dc0 (code := am_bt 53) (es := cd_53) wk_53 (by decide +kernel)
theorem ck_58 : (am_T 58).2.2.all (fun e => am_ck (am_ow 58) (am_md 58) (am_rt 58) (am_nmb 58) (am_T 58).2.1 e) = true := by decide +kernel
theorem dc_58 : ∀ e ∈ (am_T 58).2.2, decode (am_bt 58) e.1 = .ok (e.2.1, e.2.2.1) := am_dc0 (code := am_bt 58) (es := cd_58) wk_58 (by decide +kernel)
theorem ck_63 : (am_T 63).2.2.all (fun e => am_ck (am_ow 63) (am_md 63) (am_rt 63) (am_nmb 63) (am_T 63).2.1 e) = true := by decide +kernel
theorem dc_63 : ∀ e ∈ (am_T 63).2.2, decode (am_bt 63) e.1 = .ok (e.2.1, e.2.2.1) := am_dc0 (code := am_bt 63) (es := cd_63) wk_63 (by decide +kernel)
theorem ck_68 : (am_T 68).2.2.all (fun e => am_ck (am_ow 68) (am_md 68) (am_rt 68) (am_nmb 68) (am_T 68).2.1 e) = true := by decide +kernel
theorem dc_68 : ∀ e ∈ (am_T 68).2.2, decode (am_bt 68) e.1 = .ok (e.2.1, e.2.2.1) := am_dc0 (code := am_bt 68) (es := cd_68) wk_68 (by decide +kernel)
theorem ck_73 : (am_T 73).2.2.all (fun e => am_ck (am_ow 73) (am_md 73) (am_rt 73) (am_nmb 73) (am_T 73).2.1 e) = true := by decide +kernel
theorem dc_73 : ∀ e ∈ (am_T 73).2.2, decode (am_bt 73) e.1 = .ok (e.2.1, e.2.2.1) := am_dc0 (code := am_bt 73) (es := cd_73) wk_73 (by decide +kernel)
theorem ck_78 : (am_T 78).2.2.all (fun e => am_ck (am_ow 78) (am_md 78) (am_rt 78) (am_nmb 78) (am_T 78).2.1 e) = true := by decide +kernel
theorem dc_78 : ∀ e ∈ (am_T 78).2.2, decode (am_bt 78) e.1 = .ok (e.2.1, e.2.2.1) := am_dc0 (code := am_bt 78) (es := cd_78) wk_78 (by decide +kernel)
theorem ck_83 : (am_T 83).2.2.all (fun e => am_ck (am_ow 83) (am_md 83) (am_rt 83) (am_nmb 83) (am_T 83).2.1 e) = true := by decide +kernel
theorem dc_83 : ∀ e ∈ (am_T 83).2.2, decode (am_bt 83) e.1 = .ok (e.2.1, e.2.2.1) := am_dc0 (code := am_bt 83) (es := cd_83) wk_83 (by decide +kernel)
theorem ck_88 : (am_T 88).2.2.all (fun e => am_ck (am_ow 88) (am_md 88) (am_rt 88) (am_nmb 88) (am_T 88).2.1 e) = true := by decide +kernel
theorem dc_88 : ∀ e ∈ (am_T 88).2.2, decode (am_bt 88) e.1 = .ok (e.2.1, e.2.2.1) := am_dc0 (code := am_bt 88) (es := cd_88) wk_88 (by decide +kernel)
theorem ck_93 : (am_T 93).2.2.all (fun e => am_ck (am_ow 93) (am_md 93) (am_rt 93) (am_nmb 93) (am_T 93).2.1 e) = true := by decide +kernel
theorem dc_93 : ∀ e ∈ (am_T 93).2.2, decode (am_bt 93) e.1 = .ok (e.2.1, e.2.2.1) := am_dc0 (code := am_bt 93) (es := cd_93) wk_93 (by decide +kernel)
theorem ck_98 : (am_T 98).2.2.all (fun e => am_ck (am_ow 98) (am_md 98) (am_rt 98) (am_nmb 98) (am_T 98).2.1 e) = true := by decide +kernel
theorem dc_98 : ∀ e ∈ (am_T 98).2.2, decode (am_bt 98) e.1 = .ok (e.2.1, e.2.2.1) := am_dc0 (code := am_bt 98) (es := cd_98) wk_98 (by decide +kernel)
theorem ck_103 : (am_T 103).2.2.all (fun e => am_ck (am_ow 103) (am_md 103) (am_rt 103) (am_nmb 103) (am_T 103).2.1 e) = true := by decide +kernel
theorem dc_103 : ∀ e ∈ (am_T 103).2.2, decode (am_bt 103) e.1 = .ok (e.2.1, e.2.2.1) := am_dc0 (code := am_bt 103) (es := cd_103) wk_103 (by decide +kernel)
theorem ck_108 : (am_T 108).2.2.all (fun e => am_ck (am_ow 108) (am_md 108) (am_rt 108) (am_nmb 108) (am_T 108).2.1 e) = true := by decide +kernel
theorem dc_108 : ∀ e ∈ (am_T 108).2.2, decode (am_bt 108) e.1 = .ok (e.2.1, e.2.2.1) := am_dc0 (code := am_bt 108) (es := cd_108) wk_108 (by decide +kernel)
theorem ck_113 : (am_T 113).2.2.all (fun e => am_ck (am_ow 113) (am_md 113) (am_rt 113) (am_nmb 113) (am_T 113).2.1 e) = true := by decide +kernel
theorem dc_113 : ∀ e ∈ (am_T 113).2.2, decode (am_bt 113) e.1 = .ok (e.2.1, e.2.2.1) := am_dc0 (code := am_bt 113) (es := cd_113) wk_113 (by decide +kernel)
theorem ck_118 : (am_T 118).2.2.all (fun e => am_ck (am_ow 118) (am_md 118) (am_rt 118) (am_nmb 118) (am_T 118).2.1 e) = true := by decide +kernel
theorem dc_118 : ∀ e ∈ (am_T 118).2.2, decode (am_bt 118) e.1 = .ok (e.2.1, e.2.2.1) := am_dc0 (code := am_bt 118) (es := cd_118) wk_118 (by decide +kernel)
theorem ck_123 : (am_T 123).2.2.all (fun e => am_ck (am_ow 123) (am_md 123) (am_rt 123) (am_nmb 123) (am_T 123).2.1 e) = true := by decide +kernel
theorem dc_123 : ∀ e ∈ (am_T 123).2.2, decode (am_bt 123) e.1 = .ok (e.2.1, e.2.2.1) := am_dc0 (code := am_bt 123) (es := cd_123) wk_123 (by decide +kernel)
theorem ck_128 : (am_T 128).2.2.all (fun e => am_ck (am_ow 128) (am_md 128) (am_rt 128) (am_nmb 128) (am_T 128).2.1 e) = true := by decide +kernel
theorem dc_128 : ∀ e ∈ (am_T 128).2.2, decode (am_bt 128) e.1 = .ok (e.2.1, e.2.2.1) := am_dc0 (code := am_bt 128) (es := cd_128) wk_128 (by decide +kernel)
theorem ck_133 : (am_T 133).2.2.all (fun e => am_ck (am_ow 133) (am_md 133) (am_rt 133) (am_nmb 133) (am_T 133).2.1 e) = true := by decide +kernel
theorem dc_133 : ∀ e ∈ (am_T 133).2.2, decode (am_bt 133) e.1 = .ok (e.2.1, e.2.2.1) := am_dc0 (code := am_bt 133) (es := cd_133) wk_133 (by decide +kernel)
theorem ck_138 : (am_T 138).2.2.all (fun e => am_ck (am_ow 138) (am_md 138) (am_rt 138) (am_nmb 138) (am_T 138).2.1 e) = true := by decide +kernel
theorem dc_138 : ∀ e ∈ (am_T 138).2.2, decode (am_bt 138) e.1 = .ok (e.2.1, e.2.2.1) := am_dc0 (code := am_bt 138) (es := cd_138) wk_138 (by decide +kernel)
theorem ck_143 : (am_T 143).2.2.all (fun e => am_ck (am_ow 143) (am_md 143) (am_rt 143) (am_nmb 143) (am_T 143).2.1 e) = true := by decide +kernel
theorem dc_143 : ∀ e ∈ (am_T 143).2.2, decode (am_bt 143) e.1 = .ok (e.2.1, e.2.2.1) := am_dc0 (code := am_bt 143) (es := cd_143) wk_143 (by decide +kernel)
theorem ck_148 : (am_T 148).2.2.all (fun e => am_ck (am_ow 148) (am_md 148) (am_rt 148) (am_nmb 148) (am_T 148).2.1 e) = true := by decide +kernel
theorem dc_148 : ∀ e ∈ (am_T 148).2.2, decode (am_bt 148) e.1 = .ok (e.2.1, e.2.2.1) := am_dc0 (code := am_bt 148) (es := cd_148) wk_148 (by decide +kernel)
theorem ck_153 : (am_T 153).2.2.all (fun e => am_ck (am_ow 153) (am_md 153) (am_rt 153) (am_nmb 153) (am_T 153).2.1 e) = true := by decide +kernel
theorem dc_153 : ∀ e ∈ (am_T 153).2.2, decode (am_bt 153) e.1 = .ok (e.2.1, e.2.2.1) := am_dc0 (code := am_bt 153) (es := cd_153) wk_153 (by decide +kernel)
theorem ck_158 : (am_T 158).2.2.all (fun e => am_ck (am_ow 158) (am_md 158) (am_rt 158) (am_nmb 158) (am_T 158).2.1 e) = true := by decide +kernel
theorem dc_158 : ∀ e ∈ (am_T 158).2.2, decode (am_bt 158) e.1 = .ok (e.2.1, e.2.2.1) := am_dc0 (code := am_bt 158) (es := cd_158) wk_158 (by decide +kernel)
theorem ck_163 : (am_T 163).2.2.all (fun e => am_ck (am_ow 163) (am_md 163) (am_rt 163) (am_nmb 163) (am_T 163).2.1 e) = true := by decide +kernel
theorem dc_163 : ∀ e ∈ (am_T 163).2.2, decode (am_bt 163) e.1 = .ok (e.2.1, e.2.2.1) := am_dc0 (code := am_bt 163) (es := cd_163) wk_163 (by decide +kernel)
theorem ck_168 : (am_T 168).2.2.all (fun e => am_ck (am_ow 168) (am_md 168) (am_rt 168) (am_nmb 168) (am_T 168).2.1 e) = true := by decide +kernel
theorem dc_168 : ∀ e ∈ (am_T 168).2.2, decode (am_bt 168) e.1 = .ok (e.2.1, e.2.2.1) := am_dc0 (code := am_bt 168) (es := cd_168) wk_168 (by decide +kernel)
theorem ck_173 : (am_T 173).2.2.all (fun e => am_ck (am_ow 173) (am_md 173) (am_rt 173) (am_nmb 173) (am_T 173).2.1 e) = true := by decide +kernel
theorem dc_173 : ∀ e ∈ (am_T 173).2.2, decode (am_bt 173) e.1 = .ok (e.2.1, e.2.2.1) := am_dc1 (code := am_bt 173) (es := cd_173) (os := [(1, .invokeinterface 63 1, 5, 1001, 18, 1)]) wk_173 (by rfl) (List.forall_mem_cons.mpr ⟨wo_173_1, fun _ h => absurd h List.not_mem_nil⟩)
theorem ck_178 : (am_T 178).2.2.all (fun e => am_ck (am_ow 178) (am_md 178) (am_rt 178) (am_nmb 178) (am_T 178).2.1 e) = true := by decide +kernel
theorem dc_178 : ∀ e ∈ (am_T 178).2.2, decode (am_bt 178) e.1 = .ok (e.2.1, e.2.2.1) := am_dc0 (code := am_bt 178) (es := cd_178) wk_178 (by decide +kernel)
theorem ck_183 : (am_T 183).2.2.all (fun e => am_ck (am_ow 183) (am_md 183) (am_rt 183) (am_nmb 183) (am_T 183).2.1 e) = true := by decide +kernel
theorem dc_183 : ∀ e ∈ (am_T 183).2.2, decode (am_bt 183) e.1 = .ok (e.2.1, e.2.2.1) := am_dc0 (code := am_bt 183) (es := cd_183) wk_183 (by decide +kernel)
theorem ck_188 : (am_T 188).2.2.all (fun e => am_ck (am_ow 188) (am_md 188) (am_rt 188) (am_nmb 188) (am_T 188).2.1 e) = true := by decide +kernel
theorem dc_188 : ∀ e ∈ (am_T 188).2.2, decode (am_bt 188) e.1 = .ok (e.2.1, e.2.2.1) := am_dc0 (code := am_bt 188) (es := cd_188) wk_188 (by decide +kernel)
theorem ck_193 : (am_T 193).2.2.all (fun e => am_ck (am_ow 193) (am_md 193) (am_rt 193) (am_nmb 193) (am_T 193).2.1 e) = true := by decide +kernel
theorem dc_193 : ∀ e ∈ (am_T 193).2.2, decode (am_bt 193) e.1 = .ok (e.2.1, e.2.2.1) := am_dc0 (code := am_bt 193) (es := cd_193) wk_193 (by decide +kernel)
theorem ck_198 : (am_T 198).2.2.all (fun e => am_ck (am_ow 198) (am_md 198) (am_rt 198) (am_nmb 198) (am_T 198).2.1 e) = true := by decide +kernel
theorem dc_198 : ∀ e ∈ (am_T 198).2.2, decode (am_bt 198) e.1 = .ok (e.2.1, e.2.2.1) := am_dc0 (code := am_bt 198) (es := cd_198) wk_198 (by decide +kernel)
theorem ck_203 : (am_T 203).2.2.all (fun e => am_ck (am_ow 203) (am_md 203) (am_rt 203) (am_nmb 203) (am_T 203).2.1 e) = true := by decide +kernel
theorem dc_203 : ∀ e ∈ (am_T 203).2.2, decode (am_bt 203) e.1 = .ok (e.2.1, e.2.2.1) := am_dc0 (code := am_bt 203) (es := cd_203) wk_203 (by decide +kernel)
theorem ck_208 : (am_T 208).2.2.all (fun e => am_ck (am_ow 208) (am_md 208) (am_rt 208) (am_nmb 208) (am_T 208).2.1 e) = true := by decide +kernel
theorem dc_208 : ∀ e ∈ (am_T 208).2.2, decode (am_bt 208) e.1 = .ok (e.2.1, e.2.2.1) := am_dc0 (code := am_bt 208) (es := cd_208) wk_208 (by decide +kernel)
theorem ck_213 : (am_T 213).2.2.all (fun e => am_ck (am_ow 213) (am_md 213) (am_rt 213) (am_nmb 213) (am_T 213).2.1 e) = true := by decide +kernel
theorem dc_213 : ∀ e ∈ (am_T 213).2.2, decode (am_bt 213) e.1 = .ok (e.2.1, e.2.2.1) := am_dc0 (code := am_bt 213) (es := cd_213) wk_213 (by decide +kernel)
theorem ck_218 : (am_T 218).2.2.all (fun e => am_ck (am_ow 218) (am_md 218) (am_rt 218) (am_nmb 218) (am_T 218).2.1 e) = true := by decide +kernel
theorem dc_218 : ∀ e ∈ (am_T 218).2.2, decode (am_bt 218) e.1 = .ok (e.2.1, e.2.2.1) := am_dc0 (code := am_bt 218) (es := cd_218) wk_218 (by decide +kernel)
theorem ck_223 : (am_T 223).2.2.all (fun e => am_ck (am_ow 223) (am_md 223) (am_rt 223) (am_nmb 223) (am_T 223).2.1 e) = true := by decide +kernel
theorem dc_223 : ∀ e ∈ (am_T 223).2.2, decode (am_bt 223) e.1 = .ok (e.2.1, e.2.2.1) := am_dc0 (code := am_bt 223) (es := cd_223) wk_223 (by decide +kernel)
theorem ck_228 : (am_T 228).2.2.all (fun e => am_ck (am_ow 228) (am_md 228) (am_rt 228) (am_nmb 228) (am_T 228).2.1 e) = true := by decide +kernel
theorem dc_228 : ∀ e ∈ (am_T 228).2.2, decode (am_bt 228) e.1 = .ok (e.2.1, e.2.2.1) := am_dc0 (code := am_bt 228) (es := cd_228) wk_228 (by decide +kernel)
theorem ck_233 : (am_T 233).2.2.all (fun e => am_ck (am_ow 233) (am_md 233) (am_rt 233) (am_nmb 233) (am_T 233).2.1 e) = true := by decide +kernel
theorem dc_233 : ∀ e ∈ (am_T 233).2.2, decode (am_bt 233) e.1 = .ok (e.2.1, e.2.2.1) := am_dc0 (code := am_bt 233) (es := cd_233) wk_233 (by decide +kernel)
theorem ck_238 : (am_T 238).2.2.all (fun e => am_ck (am_ow 238) (am_md 238) (am_rt 238) (am_nmb 238) (am_T 238).2.1 e) = true := by decide +kernel
theorem dc_238 : ∀ e ∈ (am_T 238).2.2, decode (am_bt 238) e.1 = .ok (e.2.1, e.2.2.1) := am_dc0 (code := am_bt 238) (es := cd_238) wk_238 (by decide +kernel)
theorem ck_243 : (am_T 243).2.2.all (fun e => am_ck (am_ow 243) (am_md 243) (am_rt 243) (am_nmb 243) (am_T 243).2.1 e) = true := by decide +kernel
theorem dc_243 : ∀ e ∈ (am_T 243).2.2, decode (am_bt 243) e.1 = .ok (e.2.1, e.2.2.1) := am_dc1 (code := am_bt 243) (es := cd_243) (os := [(11, .tableswitch 279 0 6 #[41, 69, 97, 128, 172, 211, 261], 41, 0, 0, 0)]) wk_243 (by rfl) (List.forall_mem_cons.mpr ⟨wo_243_11, fun _ h => absurd h List.not_mem_nil⟩)
theorem ck_248 : (am_T 248).2.2.all (fun e => am_ck (am_ow 248) (am_md 248) (am_rt 248) (am_nmb 248) (am_T 248).2.1 e) = true := by decide +kernel
theorem dc_248 : ∀ e ∈ (am_T 248).2.2, decode (am_bt 248) e.1 = .ok (e.2.1, e.2.2.1) := am_dc0 (code := am_bt 248) (es := cd_248) wk_248 (by decide +kernel)
theorem ck_253 : (am_T 253).2.2.all (fun e => am_ck (am_ow 253) (am_md 253) (am_rt 253) (am_nmb 253) (am_T 253).2.1 e) = true := by decide +kernel
theorem dc_253 : ∀ e ∈ (am_T 253).2.2, decode (am_bt 253) e.1 = .ok (e.2.1, e.2.2.1) := am_dc0 (code := am_bt 253) (es := cd_253) wk_253 (by decide +kernel)
theorem ck_258 : (am_T 258).2.2.all (fun e => am_ck (am_ow 258) (am_md 258) (am_rt 258) (am_nmb 258) (am_T 258).2.1 e) = true := by decide +kernel
theorem dc_258 : ∀ e ∈ (am_T 258).2.2, decode (am_bt 258) e.1 = .ok (e.2.1, e.2.2.1) := am_dc0 (code := am_bt 258) (es := cd_258) wk_258 (by decide +kernel)
theorem ck_263 : (am_T 263).2.2.all (fun e => am_ck (am_ow 263) (am_md 263) (am_rt 263) (am_nmb 263) (am_T 263).2.1 e) = true := by decide +kernel
theorem dc_263 : ∀ e ∈ (am_T 263).2.2, decode (am_bt 263) e.1 = .ok (e.2.1, e.2.2.1) := am_dc0 (code := am_bt 263) (es := cd_263) wk_263 (by decide +kernel)
theorem ck_268 : (am_T 268).2.2.all (fun e => am_ck (am_ow 268) (am_md 268) (am_rt 268) (am_nmb 268) (am_T 268).2.1 e) = true := by decide +kernel
theorem dc_268 : ∀ e ∈ (am_T 268).2.2, decode (am_bt 268) e.1 = .ok (e.2.1, e.2.2.1) := am_dc0 (code := am_bt 268) (es := cd_268) wk_268 (by decide +kernel)
theorem ck_273 : (am_T 273).2.2.all (fun e => am_ck (am_ow 273) (am_md 273) (am_rt 273) (am_nmb 273) (am_T 273).2.1 e) = true := by decide +kernel
theorem dc_273 : ∀ e ∈ (am_T 273).2.2, decode (am_bt 273) e.1 = .ok (e.2.1, e.2.2.1) := am_dc0 (code := am_bt 273) (es := cd_273) wk_273 (by decide +kernel)
theorem ck_278 : (am_T 278).2.2.all (fun e => am_ck (am_ow 278) (am_md 278) (am_rt 278) (am_nmb 278) (am_T 278).2.1 e) = true := by decide +kernel
theorem dc_278 : ∀ e ∈ (am_T 278).2.2, decode (am_bt 278) e.1 = .ok (e.2.1, e.2.2.1) := am_dc0 (code := am_bt 278) (es := cd_278) wk_278 (by decide +kernel)
theorem ck_283 : (am_T 283).2.2.all (fun e => am_ck (am_ow 283) (am_md 283) (am_rt 283) (am_nmb 283) (am_T 283).2.1 e) = true := by decide +kernel
theorem dc_283 : ∀ e ∈ (am_T 283).2.2, decode (am_bt 283) e.1 = .ok (e.2.1, e.2.2.1) := am_dc0 (code := am_bt 283) (es := cd_283) wk_283 (by decide +kernel)
theorem ck_288 : (am_T 288).2.2.all (fun e => am_ck (am_ow 288) (am_md 288) (am_rt 288) (am_nmb 288) (am_T 288).2.1 e) = true := by decide +kernel
theorem dc_288 : ∀ e ∈ (am_T 288).2.2, decode (am_bt 288) e.1 = .ok (e.2.1, e.2.2.1) := am_dc0 (code := am_bt 288) (es := cd_288) wk_288 (by decide +kernel)
theorem ck_293 : (am_T 293).2.2.all (fun e => am_ck (am_ow 293) (am_md 293) (am_rt 293) (am_nmb 293) (am_T 293).2.1 e) = true := by decide +kernel
theorem dc_293 : ∀ e ∈ (am_T 293).2.2, decode (am_bt 293) e.1 = .ok (e.2.1, e.2.2.1) := am_dc0 (code := am_bt 293) (es := cd_293) wk_293 (by decide +kernel)
theorem ck_298 : (am_T 298).2.2.all (fun e => am_ck (am_ow 298) (am_md 298) (am_rt 298) (am_nmb 298) (am_T 298).2.1 e) = true := by decide +kernel
theorem dc_298 : ∀ e ∈ (am_T 298).2.2, decode (am_bt 298) e.1 = .ok (e.2.1, e.2.2.1) := am_dc0 (code := am_bt 298) (es := cd_298) wk_298 (by decide +kernel)
theorem ck_303 : (am_T 303).2.2.all (fun e => am_ck (am_ow 303) (am_md 303) (am_rt 303) (am_nmb 303) (am_T 303).2.1 e) = true := by decide +kernel
theorem dc_303 : ∀ e ∈ (am_T 303).2.2, decode (am_bt 303) e.1 = .ok (e.2.1, e.2.2.1) := am_dc1 (code := am_bt 303) (es := cd_303) (os := [(208, .tableswitch 226 1 7 #[44, 72, 89, 106, 168, 187, 207], 44, 0, 0, 0)]) wk_303 (by rfl) (List.forall_mem_cons.mpr ⟨wo_303_208, fun _ h => absurd h List.not_mem_nil⟩)
theorem ck_308 : (am_T 308).2.2.all (fun e => am_ck (am_ow 308) (am_md 308) (am_rt 308) (am_nmb 308) (am_T 308).2.1 e) = true := by decide +kernel
theorem dc_308 : ∀ e ∈ (am_T 308).2.2, decode (am_bt 308) e.1 = .ok (e.2.1, e.2.2.1) := am_dc0 (code := am_bt 308) (es := cd_308) wk_308 (by decide +kernel)
theorem ck_313 : (am_T 313).2.2.all (fun e => am_ck (am_ow 313) (am_md 313) (am_rt 313) (am_nmb 313) (am_T 313).2.1 e) = true := by decide +kernel
theorem dc_313 : ∀ e ∈ (am_T 313).2.2, decode (am_bt 313) e.1 = .ok (e.2.1, e.2.2.1) := am_dc0 (code := am_bt 313) (es := cd_313) wk_313 (by decide +kernel)
theorem ck_318 : (am_T 318).2.2.all (fun e => am_ck (am_ow 318) (am_md 318) (am_rt 318) (am_nmb 318) (am_T 318).2.1 e) = true := by decide +kernel
theorem dc_318 : ∀ e ∈ (am_T 318).2.2, decode (am_bt 318) e.1 = .ok (e.2.1, e.2.2.1) := am_dc1 (code := am_bt 318) (es := cd_318) (os := [(1, .tableswitch 69 0 5 #[39, 44, 49, 54, 59, 64], 39, 0, 0, 0)]) wk_318 (by rfl) (List.forall_mem_cons.mpr ⟨wo_318_1, fun _ h => absurd h List.not_mem_nil⟩)
theorem ck_323 : (am_T 323).2.2.all (fun e => am_ck (am_ow 323) (am_md 323) (am_rt 323) (am_nmb 323) (am_T 323).2.1 e) = true := by decide +kernel
theorem dc_323 : ∀ e ∈ (am_T 323).2.2, decode (am_bt 323) e.1 = .ok (e.2.1, e.2.2.1) := am_dc0 (code := am_bt 323) (es := cd_323) wk_323 (by decide +kernel)
theorem ck_328 : (am_T 328).2.2.all (fun e => am_ck (am_ow 328) (am_md 328) (am_rt 328) (am_nmb 328) (am_T 328).2.1 e) = true := by decide +kernel
theorem dc_328 : ∀ e ∈ (am_T 328).2.2, decode (am_bt 328) e.1 = .ok (e.2.1, e.2.2.1) := am_dc0 (code := am_bt 328) (es := cd_328) wk_328 (by decide +kernel)
theorem ck_333 : (am_T 333).2.2.all (fun e => am_ck (am_ow 333) (am_md 333) (am_rt 333) (am_nmb 333) (am_T 333).2.1 e) = true := by decide +kernel
theorem dc_333 : ∀ e ∈ (am_T 333).2.2, decode (am_bt 333) e.1 = .ok (e.2.1, e.2.2.1) := am_dc0 (code := am_bt 333) (es := cd_333) wk_333 (by decide +kernel)
