/-! needs: 50.disp -/
/-! each method: its elements are as the tables of links say, and as its bytes decode; by tools/genchk.py -/
set_option maxRecDepth 100000
theorem ck_4 : (am_T 4).2.2.all (fun e => am_ck (am_ow 4) (am_md 4) (am_rt 4) (am_nmb 4) (am_T 4).2.1 e) = true := by decide +kernel
theorem dc_4 : ∀ e ∈ (am_T 4).2.2, decode (am_bt 4) e.1 = .ok (e.2.1, e.2.2.1) := am_dc0 (code := am_bt 4) (es := cd_4) wk_4 (by decide +kernel)
theorem ck_9 : (am_T 9).2.2.all (fun e => am_ck (am_ow 9) (am_md 9) (am_rt 9) (am_nmb 9) (am_T 9).2.1 e) = true := by decide +kernel
theorem dc_9 : ∀ e ∈ (am_T 9).2.2, decode (am_bt 9) e.1 = .ok (e.2.1, e.2.2.1) := am_dc0 (code := am_bt 9) (es := cd_9) wk_9 (by decide +kernel)
theorem ck_21 : (am_T 21).2.2.all (fun e => am_ck (am_ow 21) (am_md 21) (am_rt 21) (am_nmb 21) (am_T 21).2.1 e) = true := by decide +kernel
theorem dc_21 : ∀ e ∈ (am_T 21).2.2, decode (am_bt 21) e.1 = .ok (e.2.1, e.2.2.1) := am_dc0 (code := am_bt 21) (es := cd_21) wk_21 (by decide +kernel)
theorem ck_26 : (am_T 26).2.2.all (fun e => am_ck (am_ow 26) (am_md 26) (am_rt 26) (am_nmb 26) (am_T 26).2.1 e) = true := by decide +kernel
theorem dc_26 : ∀ e ∈ (am_T 26).2.2, decode (am_bt 26) e.1 = .ok (e.2.1, e.2.2.1) := am_dc0 (code := am_bt 26) (es := cd_26) wk_26 (by decide +kernel)
theorem ck_32 : (am_T 32).2.2.all (fun e => am_ck (am_ow 32) (am_md 32) (am_rt 32) (am_nmb 32) (am_T 32).2.1 e) = true := by decide +kernel
theorem dc_32 : ∀ e ∈ (am_T 32).2.2, decode (am_bt 32) e.1 = .ok (e.2.1, e.2.2.1) := am_dc0 (code := am_bt 32) (es := cd_32) wk_32 (by decide +kernel)
theorem ck_37 : (am_T 37).2.2.all (fun e => am_ck (am_ow 37) (am_md 37) (am_rt 37) (am_nmb 37) (am_T 37).2.1 e) = true := by decide +kernel
theorem dc_37 : ∀ e ∈ (am_T 37).2.2, decode (am_bt 37) e.1 = .ok (e.2.1, e.2.2.1) := am_dc0 (code := am_bt 37) (es := cd_37) wk_37 (by decide +kernel)
theorem ck_42 : (am_T 42).2.2.all (fun e => am_ck (am_ow 42) (am_md 42) (am_rt 42) (am_nmb 42) (am_T 42).2.1 e) = true := by decide +kernel
theorem dc_42 : ∀ e ∈ (am_T 42).2.2, decode (am_bt 42) e.1 = .ok (e.2.1, e.2.2.1) := am_dc0 (code := am_bt 42) (es := cd_42) wk_42 (by decide +kernel)
theorem ck_47 : (am_T 47).2.2.all (fun e => am_ck (am_ow 47) (am_md 47) (am_rt 47) (am_nmb 47) (am_T 47).2.1 e) = true := by decide +kernel
theorem dc_47 : ∀ e ∈ (am_T 47).2.2, decode (am_bt 47) e.1 = .ok (e.2.1, e.2.2.1) := am_dc0 (code := am_bt 47) (es := cd_47) wk_47 (by decide +kernel)
theorem ck_52 : (am_T 52).2.2.all (fun e => am_ck (am_ow 52) (am_md 52) (am_rt 52) (am_nmb 52) (am_T 52).2.1 e) = true := by decide +kernel
theorem dc_52 : ∀ e ∈ (am_T 52).2.2, decode (am_bt 52) e.1 = .ok (e.2.1, e.2.2.1) := am_dc0 (code := am_bt 52) (es := cd_52) wk_52 (by decide +kernel)
theorem ck_57 : (am_T 57).2.2.all (fun e => am_ck (am_ow 57) (am_md 57) (am_rt 57) (am_nmb 57) (am_T 57).2.1 e) = true := by decide +kernel
theorem dc_57 : ∀ e ∈ (am_T 57).2.2, decode (am_bt 57) e.1 = .ok (e.2.1, e.2.2.1) := am_dc0 (code := am_bt 57) (es := cd_57) wk_57 (by decide +kernel)
theorem ck_62 : (am_T 62).2.2.all (fun e => am_ck (am_ow 62) (am_md 62) (am_rt 62) (am_nmb 62) (am_T 62).2.1 e) = true := by decide +kernel
theorem dc_62 : ∀ e ∈ (am_T 62).2.2, decode (am_bt 62) e.1 = .ok (e.2.1, e.2.2.1) := am_dc0 (code := am_bt 62) (es := cd_62) wk_62 (by decide +kernel)
theorem ck_67 : (am_T 67).2.2.all (fun e => am_ck (am_ow 67) (am_md 67) (am_rt 67) (am_nmb 67) (am_T 67).2.1 e) = true := by decide +kernel
theorem dc_67 : ∀ e ∈ (am_T 67).2.2, decode (am_bt 67) e.1 = .ok (e.2.1, e.2.2.1) := am_dc1 (code := am_bt 67) (es := cd_67) (os := [(6, .tableswitch 120 0 8 #[50, 120, 120, 120, 63, 68, 81, 94, 107], 50, 0, 0, 0)]) wk_67 (by rfl) (List.forall_mem_cons.mpr ⟨wo_67_6, fun _ h => absurd h List.not_mem_nil⟩)
theorem ck_72 : (am_T 72).2.2.all (fun e => am_ck (am_ow 72) (am_md 72) (am_rt 72) (am_nmb 72) (am_T 72).2.1 e) = true := by decide +kernel
theorem dc_72 : ∀ e ∈ (am_T 72).2.2, decode (am_bt 72) e.1 = .ok (e.2.1, e.2.2.1) := am_dc0 (code := am_bt 72) (es := cd_72) wk_72 (by decide +kernel)
theorem ck_77 : (am_T 77).2.2.all (fun e => am_ck (am_ow 77) (am_md 77) (am_rt 77) (am_nmb 77) (am_T 77).2.1 e) = true := by decide +kernel
theorem dc_77 : ∀ e ∈ (am_T 77).2.2, decode (am_bt 77) e.1 = .ok (e.2.1, e.2.2.1) := am_dc0 (code := am_bt 77) (es := cd_77) wk_77 (by decide +kernel)
theorem ck_82 : (am_T 82).2.2.all (fun e => am_ck (am_ow 82) (am_md 82) (am_rt 82) (am_nmb 82) (am_T 82).2.1 e) = true := by decide +kernel
theorem dc_82 : ∀ e ∈ (am_T 82).2.2, decode (am_bt 82) e.1 = .ok (e.2.1, e.2.2.1) := am_dc0 (code := am_bt 82) (es := cd_82) wk_82 (by decide +kernel)
theorem ck_87 : (am_T 87).2.2.all (fun e => am_ck (am_ow 87) (am_md 87) (am_rt 87) (am_nmb 87) (am_T 87).2.1 e) = true := by decide +kernel
theorem dc_87 : ∀ e ∈ (am_T 87).2.2, decode (am_bt 87) e.1 = .ok (e.2.1, e.2.2.1) := am_dc0 (code := am_bt 87) (es := cd_87) wk_87 (by decide +kernel)
theorem ck_92 : (am_T 92).2.2.all (fun e => am_ck (am_ow 92) (am_md 92) (am_rt 92) (am_nmb 92) (am_T 92).2.1 e) = true := by decide +kernel
theorem dc_92 : ∀ e ∈ (am_T 92).2.2, decode (am_bt 92) e.1 = .ok (e.2.1, e.2.2.1) := am_dc0 (code := am_bt 92) (es := cd_92) wk_92 (by decide +kernel)
theorem ck_97 : (am_T 97).2.2.all (fun e => am_ck (am_ow 97) (am_md 97) (am_rt 97) (am_nmb 97) (am_T 97).2.1 e) = true := by decide +kernel
theorem dc_97 : ∀ e ∈ (am_T 97).2.2, decode (am_bt 97) e.1 = .ok (e.2.1, e.2.2.1) := am_dc0 (code := am_bt 97) (es := cd_97) wk_97 (by decide +kernel)
theorem ck_102 : (am_T 102).2.2.all (fun e => am_ck (am_ow 102) (am_md 102) (am_rt 102) (am_nmb 102) (am_T 102).2.1 e) = true := by decide +kernel
theorem dc_102 : ∀ e ∈ (am_T 102).2.2, decode (am_bt 102) e.1 = .ok (e.2.1, e.2.2.1) := am_dc0 (code := am_bt 102) (es := cd_102) wk_102 (by decide +kernel)
theorem ck_107 : (am_T 107).2.2.all (fun e => am_ck (am_ow 107) (am_md 107) (am_rt 107) (am_nmb 107) (am_T 107).2.1 e) = true := by decide +kernel
theorem dc_107 : ∀ e ∈ (am_T 107).2.2, decode (am_bt 107) e.1 = .ok (e.2.1, e.2.2.1) := am_dc0 (code := am_bt 107) (es := cd_107) wk_107 (by decide +kernel)
theorem ck_112 : (am_T 112).2.2.all (fun e => am_ck (am_ow 112) (am_md 112) (am_rt 112) (am_nmb 112) (am_T 112).2.1 e) = true := by decide +kernel
theorem dc_112 : ∀ e ∈ (am_T 112).2.2, decode (am_bt 112) e.1 = .ok (e.2.1, e.2.2.1) := am_dc0 (code := am_bt 112) (es := cd_112) wk_112 (by decide +kernel)
theorem ck_117 : (am_T 117).2.2.all (fun e => am_ck (am_ow 117) (am_md 117) (am_rt 117) (am_nmb 117) (am_T 117).2.1 e) = true := by decide +kernel
theorem dc_117 : ∀ e ∈ (am_T 117).2.2, decode (am_bt 117) e.1 = .ok (e.2.1, e.2.2.1) := am_dc0 (code := am_bt 117) (es := cd_117) wk_117 (by decide +kernel)
theorem ck_122 : (am_T 122).2.2.all (fun e => am_ck (am_ow 122) (am_md 122) (am_rt 122) (am_nmb 122) (am_T 122).2.1 e) = true := by decide +kernel
theorem dc_122 : ∀ e ∈ (am_T 122).2.2, decode (am_bt 122) e.1 = .ok (e.2.1, e.2.2.1) := am_dc0 (code := am_bt 122) (es := cd_122) wk_122 (by decide +kernel)
theorem ck_127 : (am_T 127).2.2.all (fun e => am_ck (am_ow 127) (am_md 127) (am_rt 127) (am_nmb 127) (am_T 127).2.1 e) = true := by decide +kernel
theorem dc_127 : ∀ e ∈ (am_T 127).2.2, decode (am_bt 127) e.1 = .ok (e.2.1, e.2.2.1) := am_dc0 (code := am_bt 127) (es := cd_127) wk_127 (by decide +kernel)
theorem ck_132 : (am_T 132).2.2.all (fun e => am_ck (am_ow 132) (am_md 132) (am_rt 132) (am_nmb 132) (am_T 132).2.1 e) = true := by decide +kernel
theorem dc_132 : ∀ e ∈ (am_T 132).2.2, decode (am_bt 132) e.1 = .ok (e.2.1, e.2.2.1) := am_dc0 (code := am_bt 132) (es := cd_132) wk_132 (by decide +kernel)
theorem ck_137 : (am_T 137).2.2.all (fun e => am_ck (am_ow 137) (am_md 137) (am_rt 137) (am_nmb 137) (am_T 137).2.1 e) = true := by decide +kernel
theorem dc_137 : ∀ e ∈ (am_T 137).2.2, decode (am_bt 137) e.1 = .ok (e.2.1, e.2.2.1) := am_dc0 (code := am_bt 137) (es := cd_137) wk_137 (by decide +kernel)
theorem ck_142 : (am_T 142).2.2.all (fun e => am_ck (am_ow 142) (am_md 142) (am_rt 142) (am_nmb 142) (am_T 142).2.1 e) = true := by decide +kernel
theorem dc_142 : ∀ e ∈ (am_T 142).2.2, decode (am_bt 142) e.1 = .ok (e.2.1, e.2.2.1) := am_dc0 (code := am_bt 142) (es := cd_142) wk_142 (by decide +kernel)
theorem ck_147 : (am_T 147).2.2.all (fun e => am_ck (am_ow 147) (am_md 147) (am_rt 147) (am_nmb 147) (am_T 147).2.1 e) = true := by decide +kernel
theorem dc_147 : ∀ e ∈ (am_T 147).2.2, decode (am_bt 147) e.1 = .ok (e.2.1, e.2.2.1) := am_dc1 (code := am_bt 147) (es := cd_147) (os := [(13, Instr.newarray ArrayType.int, 2, 40, 0, 0), (22, Instr.newarray ArrayType.int, 2, 40, 0, 0), (31, Instr.newarray ArrayType.int, 2, 40, 0, 0), (40, Instr.newarray ArrayType.int, 2, 40, 0, 0)]) wk_147 (by rfl) (List.forall_mem_cons.mpr ⟨wo_147_13, List.forall_mem_cons.mpr ⟨wo_147_22, List.forall_mem_cons.mpr ⟨wo_147_31, List.forall_mem_cons.mpr ⟨wo_147_40, fun _ h => absurd h List.not_mem_nil⟩⟩⟩⟩)
theorem ck_152 : (am_T 152).2.2.all (fun e => am_ck (am_ow 152) (am_md 152) (am_rt 152) (am_nmb 152) (am_T 152).2.1 e) = true := by decide +kernel
theorem dc_152 : ∀ e ∈ (am_T 152).2.2, decode (am_bt 152) e.1 = .ok (e.2.1, e.2.2.1) := am_dc0 (code := am_bt 152) (es := cd_152) wk_152 (by decide +kernel)
theorem ck_157 : (am_T 157).2.2.all (fun e => am_ck (am_ow 157) (am_md 157) (am_rt 157) (am_nmb 157) (am_T 157).2.1 e) = true := by decide +kernel
theorem dc_157 : ∀ e ∈ (am_T 157).2.2, decode (am_bt 157) e.1 = .ok (e.2.1, e.2.2.1) := am_dc0 (code := am_bt 157) (es := cd_157) wk_157 (by decide +kernel)
theorem ck_162 : (am_T 162).2.2.all (fun e => am_ck (am_ow 162) (am_md 162) (am_rt 162) (am_nmb 162) (am_T 162).2.1 e) = true := by decide +kernel
theorem dc_162 : ∀ e ∈ (am_T 162).2.2, decode (am_bt 162) e.1 = .ok (e.2.1, e.2.2.1) := am_dc0 (code := am_bt 162) (es := cd_162) wk_162 (by decide +kernel)
theorem ck_167 : (am_T 167).2.2.all (fun e => am_ck (am_ow 167) (am_md 167) (am_rt 167) (am_nmb 167) (am_T 167).2.1 e) = true := by decide +kernel
theorem dc_167 : ∀ e ∈ (am_T 167).2.2, decode (am_bt 167) e.1 = .ok (e.2.1, e.2.2.1) := am_dc0 (code := am_bt 167) (es := cd_167) wk_167 (by decide +kernel)
theorem ck_172 : (am_T 172).2.2.all (fun e => am_ck (am_ow 172) (am_md 172) (am_rt 172) (am_nmb 172) (am_T 172).2.1 e) = true := by decide +kernel
theorem dc_172 : ∀ e ∈ (am_T 172).2.2, decode (am_bt 172) e.1 = .ok (e.2.1, e.2.2.1) := am_dc0 (code := am_bt 172) (es := cd_172) wk_172 (by decide +kernel)
theorem ck_177 : (am_T 177).2.2.all (fun e => am_ck (am_ow 177) (am_md 177) (am_rt 177) (am_nmb 177) (am_T 177).2.1 e) = true := by decide +kernel
theorem dc_177 : ∀ e ∈ (am_T 177).2.2, decode (am_bt 177) e.1 = .ok (e.2.1, e.2.2.1) := am_dc0 (code := am_bt 177) (es := cd_177) wk_177 (by decide +kernel)
theorem ck_182 : (am_T 182).2.2.all (fun e => am_ck (am_ow 182) (am_md 182) (am_rt 182) (am_nmb 182) (am_T 182).2.1 e) = true := by decide +kernel
theorem dc_182 : ∀ e ∈ (am_T 182).2.2, decode (am_bt 182) e.1 = .ok (e.2.1, e.2.2.1) := am_dc0 (code := am_bt 182) (es := cd_182) wk_182 (by decide +kernel)
theorem ck_187 : (am_T 187).2.2.all (fun e => am_ck (am_ow 187) (am_md 187) (am_rt 187) (am_nmb 187) (am_T 187).2.1 e) = true := by decide +kernel
theorem dc_187 : ∀ e ∈ (am_T 187).2.2, decode (am_bt 187) e.1 = .ok (e.2.1, e.2.2.1) := am_dc0 (code := am_bt 187) (es := cd_187) wk_187 (by decide +kernel)
theorem ck_192 : (am_T 192).2.2.all (fun e => am_ck (am_ow 192) (am_md 192) (am_rt 192) (am_nmb 192) (am_T 192).2.1 e) = true := by decide +kernel
theorem dc_192 : ∀ e ∈ (am_T 192).2.2, decode (am_bt 192) e.1 = .ok (e.2.1, e.2.2.1) := am_dc0 (code := am_bt 192) (es := cd_192) wk_192 (by decide +kernel)
theorem ck_197 : (am_T 197).2.2.all (fun e => am_ck (am_ow 197) (am_md 197) (am_rt 197) (am_nmb 197) (am_T 197).2.1 e) = true := by decide +kernel
theorem dc_197 : ∀ e ∈ (am_T 197).2.2, decode (am_bt 197) e.1 = .ok (e.2.1, e.2.2.1) := am_dc0 (code := am_bt 197) (es := cd_197) wk_197 (by decide +kernel)
theorem ck_202 : (am_T 202).2.2.all (fun e => am_ck (am_ow 202) (am_md 202) (am_rt 202) (am_nmb 202) (am_T 202).2.1 e) = true := by decide +kernel
theorem dc_202 : ∀ e ∈ (am_T 202).2.2, decode (am_bt 202) e.1 = .ok (e.2.1, e.2.2.1) := am_dc0 (code := am_bt 202) (es := cd_202) wk_202 (by decide +kernel)
theorem ck_207 : (am_T 207).2.2.all (fun e => am_ck (am_ow 207) (am_md 207) (am_rt 207) (am_nmb 207) (am_T 207).2.1 e) = true := by decide +kernel
theorem dc_207 : ∀ e ∈ (am_T 207).2.2, decode (am_bt 207) e.1 = .ok (e.2.1, e.2.2.1) := am_dc0 (code := am_bt 207) (es := cd_207) wk_207 (by decide +kernel)
theorem ck_212 : (am_T 212).2.2.all (fun e => am_ck (am_ow 212) (am_md 212) (am_rt 212) (am_nmb 212) (am_T 212).2.1 e) = true := by decide +kernel
theorem dc_212 : ∀ e ∈ (am_T 212).2.2, decode (am_bt 212) e.1 = .ok (e.2.1, e.2.2.1) := am_dc0 (code := am_bt 212) (es := cd_212) wk_212 (by decide +kernel)
theorem ck_217 : (am_T 217).2.2.all (fun e => am_ck (am_ow 217) (am_md 217) (am_rt 217) (am_nmb 217) (am_T 217).2.1 e) = true := by decide +kernel
theorem dc_217 : ∀ e ∈ (am_T 217).2.2, decode (am_bt 217) e.1 = .ok (e.2.1, e.2.2.1) := am_dc0 (code := am_bt 217) (es := cd_217) wk_217 (by decide +kernel)
theorem ck_222 : (am_T 222).2.2.all (fun e => am_ck (am_ow 222) (am_md 222) (am_rt 222) (am_nmb 222) (am_T 222).2.1 e) = true := by decide +kernel
theorem dc_222 : ∀ e ∈ (am_T 222).2.2, decode (am_bt 222) e.1 = .ok (e.2.1, e.2.2.1) := am_dc0 (code := am_bt 222) (es := cd_222) wk_222 (by decide +kernel)
theorem ck_227 : (am_T 227).2.2.all (fun e => am_ck (am_ow 227) (am_md 227) (am_rt 227) (am_nmb 227) (am_T 227).2.1 e) = true := by decide +kernel
theorem dc_227 : ∀ e ∈ (am_T 227).2.2, decode (am_bt 227) e.1 = .ok (e.2.1, e.2.2.1) := am_dc0 (code := am_bt 227) (es := cd_227) wk_227 (by decide +kernel)
theorem ck_232 : (am_T 232).2.2.all (fun e => am_ck (am_ow 232) (am_md 232) (am_rt 232) (am_nmb 232) (am_T 232).2.1 e) = true := by decide +kernel
theorem dc_232 : ∀ e ∈ (am_T 232).2.2, decode (am_bt 232) e.1 = .ok (e.2.1, e.2.2.1) := am_dc0 (code := am_bt 232) (es := cd_232) wk_232 (by decide +kernel)
theorem ck_237 : (am_T 237).2.2.all (fun e => am_ck (am_ow 237) (am_md 237) (am_rt 237) (am_nmb 237) (am_T 237).2.1 e) = true := by decide +kernel
theorem dc_237 : ∀ e ∈ (am_T 237).2.2, decode (am_bt 237) e.1 = .ok (e.2.1, e.2.2.1) := am_dc0 (code := am_bt 237) (es := cd_237) wk_237 (by decide +kernel)
theorem ck_242 : (am_T 242).2.2.all (fun e => am_ck (am_ow 242) (am_md 242) (am_rt 242) (am_nmb 242) (am_T 242).2.1 e) = true := by decide +kernel
theorem dc_242 : ∀ e ∈ (am_T 242).2.2, decode (am_bt 242) e.1 = .ok (e.2.1, e.2.2.1) := am_dc0 (code := am_bt 242) (es := cd_242) wk_242 (by decide +kernel)
theorem ck_247 : (am_T 247).2.2.all (fun e => am_ck (am_ow 247) (am_md 247) (am_rt 247) (am_nmb 247) (am_T 247).2.1 e) = true := by decide +kernel
theorem dc_247 : ∀ e ∈ (am_T 247).2.2, decode (am_bt 247) e.1 = .ok (e.2.1, e.2.2.1) := am_dc1 (code := am_bt 247) (es := cd_247) (os := [(1, .tableswitch 130 1 11 #[59, 64, 70, 76, 82, 89, 95, 102, 109, 116, 123], 59, 0, 0, 0)]) wk_247 (by rfl) (List.forall_mem_cons.mpr ⟨wo_247_1, fun _ h => absurd h List.not_mem_nil⟩)
theorem ck_252 : (am_T 252).2.2.all (fun e => am_ck (am_ow 252) (am_md 252) (am_rt 252) (am_nmb 252) (am_T 252).2.1 e) = true := by decide +kernel
theorem dc_252 : ∀ e ∈ (am_T 252).2.2, decode (am_bt 252) e.1 = .ok (e.2.1, e.2.2.1) := am_dc0 (code := am_bt 252) (es := cd_252) wk_252 (by decide +kernel)
theorem ck_257 : (am_T 257).2.2.all (fun e => am_ck (am_ow 257) (am_md 257) (am_rt 257) (am_nmb 257) (am_T 257).2.1 e) = true := by decide +kernel
theorem dc_257 : ∀ e ∈ (am_T 257).2.2, decode (am_bt 257) e.1 = .ok (e.2.1, e.2.2.1) := am_dc0 (code := am_bt 257) (es := cd_257) wk_257 (by decide +kernel)
theorem ck_262 : (am_T 262).2.2.all (fun e => am_ck (am_ow 262) (am_md 262) (am_rt 262) (am_nmb 262) (am_T 262).2.1 e) = true := by decide +kernel
theorem dc_262 : ∀ e ∈ (am_T 262).2.2, decode (am_bt 262) e.1 = .ok (e.2.1, e.2.2.1) := am_dc0 (code := am_bt 262) (es := cd_262) wk_262 (by decide +kernel)
theorem ck_267 : (am_T 267).2.2.all (fun e => am_ck (am_ow 267) (am_md 267) (am_rt 267) (am_nmb 267) (am_T 267).2.1 e) = true := by decide +kernel
theorem dc_267 : ∀ e ∈ (am_T 267).2.2, decode (am_bt 267) e.1 = .ok (e.2.1, e.2.2.1) := am_dc0 (code := am_bt 267) (es := cd_267) wk_267 (by decide +kernel)
theorem ck_272 : (am_T 272).2.2.all (fun e => am_ck (am_ow 272) (am_md 272) (am_rt 272) (am_nmb 272) (am_T 272).2.1 e) = true := by decide +kernel
theorem dc_272 : ∀ e ∈ (am_T 272).2.2, decode (am_bt 272) e.1 = .ok (e.2.1, e.2.2.1) := am_dc0 (code := am_bt 272) (es := cd_272) wk_272 (by decide +kernel)
theorem ck_277 : (am_T 277).2.2.all (fun e => am_ck (am_ow 277) (am_md 277) (am_rt 277) (am_nmb 277) (am_T 277).2.1 e) = true := by decide +kernel
theorem dc_277 : ∀ e ∈ (am_T 277).2.2, decode (am_bt 277) e.1 = .ok (e.2.1, e.2.2.1) := am_dc0 (code := am_bt 277) (es := cd_277) wk_277 (by decide +kernel)
theorem ck_282 : (am_T 282).2.2.all (fun e => am_ck (am_ow 282) (am_md 282) (am_rt 282) (am_nmb 282) (am_T 282).2.1 e) = true := by decide +kernel
theorem dc_282 : ∀ e ∈ (am_T 282).2.2, decode (am_bt 282) e.1 = .ok (e.2.1, e.2.2.1) := am_dc0 (code := am_bt 282) (es := cd_282) wk_282 (by decide +kernel)
theorem ck_287 : (am_T 287).2.2.all (fun e => am_ck (am_ow 287) (am_md 287) (am_rt 287) (am_nmb 287) (am_T 287).2.1 e) = true := by decide +kernel
theorem dc_287 : ∀ e ∈ (am_T 287).2.2, decode (am_bt 287) e.1 = .ok (e.2.1, e.2.2.1) := am_dc0 (code := am_bt 287) (es := cd_287) wk_287 (by decide +kernel)
theorem ck_292 : (am_T 292).2.2.all (fun e => am_ck (am_ow 292) (am_md 292) (am_rt 292) (am_nmb 292) (am_T 292).2.1 e) = true := by decide +kernel
theorem dc_292 : ∀ e ∈ (am_T 292).2.2, decode (am_bt 292) e.1 = .ok (e.2.1, e.2.2.1) := am_dc0 (code := am_bt 292) (es := cd_292) wk_292 (by decide +kernel)
theorem ck_297 : (am_T 297).2.2.all (fun e => am_ck (am_ow 297) (am_md 297) (am_rt 297) (am_nmb 297) (am_T 297).2.1 e) = true := by decide +kernel
theorem dc_297 : ∀ e ∈ (am_T 297).2.2, decode (am_bt 297) e.1 = .ok (e.2.1, e.2.2.1) := am_dc0 (code := am_bt 297) (es := cd_297) wk_297 (by decide +kernel)
theorem ck_302 : (am_T 302).2.2.all (fun e => am_ck (am_ow 302) (am_md 302) (am_rt 302) (am_nmb 302) (am_T 302).2.1 e) = true := by decide +kernel
theorem dc_302 : ∀ e ∈ (am_T 302).2.2, decode (am_bt 302) e.1 = .ok (e.2.1, e.2.2.1) := am_dc0 (code := am_bt 302) (es := cd_302) wk_302 (by decide +kernel)
theorem ck_307 : (am_T 307).2.2.all (fun e => am_ck (am_ow 307) (am_md 307) (am_rt 307) (am_nmb 307) (am_T 307).2.1 e) = true := by decide +kernel
theorem dc_307 : ∀ e ∈ (am_T 307).2.2, decode (am_bt 307) e.1 = .ok (e.2.1, e.2.2.1) := am_dc0 (code := am_bt 307) (es := cd_307) wk_307 (by decide +kernel)
theorem ck_312 : (am_T 312).2.2.all (fun e => am_ck (am_ow 312) (am_md 312) (am_rt 312) (am_nmb 312) (am_T 312).2.1 e) = true := by decide +kernel
theorem dc_312 : ∀ e ∈ (am_T 312).2.2, decode (am_bt 312) e.1 = .ok (e.2.1, e.2.2.1) := am_dc0 (code := am_bt 312) (es := cd_312) wk_312 (by decide +kernel)
theorem ck_317 : (am_T 317).2.2.all (fun e => am_ck (am_ow 317) (am_md 317) (am_rt 317) (am_nmb 317) (am_T 317).2.1 e) = true := by decide +kernel
theorem dc_317 : ∀ e ∈ (am_T 317).2.2, decode (am_bt 317) e.1 = .ok (e.2.1, e.2.2.1) := am_dc0 (code := am_bt 317) (es := cd_317) wk_317 (by decide +kernel)
theorem ck_322 : (am_T 322).2.2.all (fun e => am_ck (am_ow 322) (am_md 322) (am_rt 322) (am_nmb 322) (am_T 322).2.1 e) = true := by decide +kernel
theorem dc_322 : ∀ e ∈ (am_T 322).2.2, decode (am_bt 322) e.1 = .ok (e.2.1, e.2.2.1) := am_dc0 (code := am_bt 322) (es := cd_322) wk_322 (by decide +kernel)
theorem ck_327 : (am_T 327).2.2.all (fun e => am_ck (am_ow 327) (am_md 327) (am_rt 327) (am_nmb 327) (am_T 327).2.1 e) = true := by decide +kernel
theorem dc_327 : ∀ e ∈ (am_T 327).2.2, decode (am_bt 327) e.1 = .ok (e.2.1, e.2.2.1) := am_dc0 (code := am_bt 327) (es := cd_327) wk_327 (by decide +kernel)
theorem ck_332 : (am_T 332).2.2.all (fun e => am_ck (am_ow 332) (am_md 332) (am_rt 332) (am_nmb 332) (am_T 332).2.1 e) = true := by decide +kernel
theorem dc_332 : ∀ e ∈ (am_T 332).2.2, decode (am_bt 332) e.1 = .ok (e.2.1, e.2.2.1) := am_dc0 (code := am_bt 332) (es := cd_332) wk_332 (by decide +kernel)
