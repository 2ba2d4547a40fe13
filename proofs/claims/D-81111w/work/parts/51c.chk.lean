/-! needs: 50.disp -/
/-! each method: its elements are as the tables of links say, and as its bytes decode; by tools/genchk.py -/
set_option maxRecDepth 100000
theorem ck_3 : (am_T 3).2.2.all (fun e => am_ck (am_ow 3) (am_md 3) (am_rt 3) (am_nmb 3) (am_T 3).2.1 e) = true := by decide +kernel
theorem dc_3 : ∀ e ∈ (am_T 3).2.2, decode (am_bt 3) e.1 = .ok (e.2.1, e.2.2.1) := am_dc0 (code := am_bt 3) (es := cd_3) wk_3 (by decide +kernel)
theorem ck_8 : (am_T 8).2.2.all (fun e => am_ck (am_ow 8) (am_md 8) (am_rt 8) (am_nmb 8) (am_T 8).2.1 e) = true := by decide +kernel
theorem dc_8 : ∀ e ∈ (am_T 8).2.2, decode (am_bt 8) e.1 = .ok (e.2.1, e.2.2.1) := am_dc1 (code := am_bt 8) (es := cd_8) (os := [(1, .invokeinterface 3 1, 5, 1002, 19, 0), (7, .invokeinterface 9 1, 5, 1003, 19, 0), (17, .invokeinterface 9 1, 5, 1003, 19, 0), (31, .invokeinterface 3 1, 5, 1002, 19, 0)]) wk_8 (by rfl) (List.forall_mem_cons.mpr ⟨wo_8_1, List.forall_mem_cons.mpr ⟨wo_8_7, List.forall_mem_cons.mpr ⟨wo_8_17, List.forall_mem_cons.mpr ⟨wo_8_31, fun _ h => absurd h List.not_mem_nil⟩⟩⟩⟩)
theorem ck_20 : (am_T 20).2.2.all (fun e => am_ck (am_ow 20) (am_md 20) (am_rt 20) (am_nmb 20) (am_T 20).2.1 e) = true := by decide +kernel
theorem dc_20 : ∀ e ∈ (am_T 20).2.2, decode (am_bt 20) e.1 = .ok (e.2.1, e.2.2.1) := am_dc0 (code := am_bt 20) (es := cd_20) wk_20 (by decide +kernel)
theorem ck_25 : (am_T 25).2.2.all (fun e => am_ck (am_ow 25) (am_md 25) (am_rt 25) (am_nmb 25) (am_T 25).2.1 e) = true := by decide +kernel
theorem dc_25 : ∀ e ∈ (am_T 25).2.2, decode (am_bt 25) e.1 = .ok (e.2.1, e.2.2.1) := am_dc0 (code := am_bt 25) (es := cd_25) wk_25 (by decide +kernel)
theorem ck_31 : (am_T 31).2.2.all (fun e => am_ck (am_ow 31) (am_md 31) (am_rt 31) (am_nmb 31) (am_T 31).2.1 e) = true := by decide +kernel
theorem dc_31 : ∀ e ∈ (am_T 31).2.2, decode (am_bt 31) e.1 = .ok (e.2.1, e.2.2.1) := am_dc1 (code := am_bt 31) (es := cd_31) (os := [(489, Instr.newarray ArrayType.int, 2, 40, 0, 0), (497, Instr.newarray ArrayType.int, 2, 40, 0, 0), (506, Instr.newarray ArrayType.int, 2, 40, 0, 0), (515, Instr.newarray ArrayType.boolean, 2, 42, 0, 0), (524, Instr.newarray ArrayType.boolean, 2, 42, 0, 0), (533, Instr.newarray ArrayType.int, 2, 40, 0, 0), (541, Instr.newarray ArrayType.int, 2, 40, 0, 0), (549, Instr.newarray ArrayType.int, 2, 40, 0, 0), (557, Instr.newarray ArrayType.int, 2, 40, 0, 0), (578, Instr.newarray ArrayType.int, 2, 40, 0, 0), (605, Instr.newarray ArrayType.int, 2, 40, 0, 0), (613, Instr.newarray ArrayType.int, 2, 40, 0, 0), (630, Instr.newarray ArrayType.int, 2, 40, 0, 0), (638, Instr.newarray ArrayType.int, 2, 40, 0, 0), (671, Instr.newarray ArrayType.int, 2, 40, 0, 0), (733, Instr.newarray ArrayType.int, 2, 40, 0, 0)]) wk_31 (by rfl) (List.forall_mem_cons.mpr ⟨wo_31_489, List.forall_mem_cons.mpr ⟨wo_31_497, List.forall_mem_cons.mpr ⟨wo_31_506, List.forall_mem_cons.mpr ⟨wo_31_515, List.forall_mem_cons.mpr ⟨wo_31_524, List.forall_mem_cons.mpr ⟨wo_31_533, List.forall_mem_cons.mpr ⟨wo_31_541, List.forall_mem_cons.mpr ⟨wo_31_549, List.forall_mem_cons.mpr ⟨wo_31_557, List.forall_mem_cons.mpr ⟨wo_31_578, List.forall_mem_cons.mpr ⟨wo_31_605, List.forall_mem_cons.mpr ⟨wo_31_613, List.forall_mem_cons.mpr ⟨wo_31_630, List.forall_mem_cons.mpr ⟨wo_31_638, List.forall_mem_cons.mpr ⟨wo_31_671, List.forall_mem_cons.mpr ⟨wo_31_733, fun _ h => absurd h List.not_mem_nil⟩⟩⟩⟩⟩⟩⟩⟩⟩⟩⟩⟩⟩⟩⟩⟩)
theorem ck_36 : (am_T 36).2.2.all (fun e => am_ck (am_ow 36) (am_md 36) (am_rt 36) (am_nmb 36) (am_T 36).2.1 e) = true := by decide +kernel
theorem dc_36 : ∀ e ∈ (am_T 36).2.2, decode (am_bt 36) e.1 = .ok (e.2.1, e.2.2.1) := am_dc0 (code := am_bt 36) (es := cd_36) wk_36 (by decide +kernel)
theorem ck_41 : (am_T 41).2.2.all (fun e => am_ck (am_ow 41) (am_md 41) (am_rt 41) (am_nmb 41) (am_T 41).2.1 e) = true := by decide +kernel
theorem dc_41 : ∀ e ∈ (am_T 41).2.2, decode (am_bt 41) e.1 = .ok (e.2.1, e.2.2.1) := am_dc0 (code := am_bt 41) (es := cd_41) wk_41 (by decide +kernel)
theorem ck_46 : (am_T 46).2.2.all (fun e => am_ck (am_ow 46) (am_md 46) (am_rt 46) (am_nmb 46) (am_T 46).2.1 e) = true := by decide +kernel
theorem dc_46 : ∀ e ∈ (am_T 46).2.2, decode (am_bt 46) e.1 = .ok (e.2.1, e.2.2.1) := am_dc0 (code := am_bt 46) (es := cd_46) wk_46 (by decide +kernel)
theorem ck_51 : (am_T 51).2.2.all (fun e => am_ck (am_ow 51) (am_md 51) (am_rt 51) (am_nmb 51) (am_T 51).2.1 e) = true := by decide +kernel
theorem dc_51 : ∀ e ∈ (am_T 51).2.2, decode (am_bt 51) e.1 = .ok (e.2.1, e.2.2.1) := am_dc0 (code := am_bt 51) (es := cd_51) wk_51 (by decide +kernel)
theorem ck_56 : (am_T 56).2.2.all (fun e => am_ck (am_ow 56) (am_md 56) (am_rt 56) (am_nmb 56) (am_T 56).2.1 e) = true := by decide +kernel
theorem dc_56 : ∀ e ∈ (am_T 56).2.2, decode (am_bt 56) e.1 = .ok (e.2.1, e.2.2.1) := am_dc0 (code := am_bt 56) (es := cd_56) wk_56 (by decide +kernel)
theorem ck_61 : (am_T 61).2.2.all (fun e => am_ck (am_ow 61) (am_md 61) (am_rt 61) (am_nmb 61) (am_T 61).2.1 e) = true := by decide +kernel
theorem dc_61 : ∀ e ∈ (am_T 61).2.2, decode (am_bt 61) e.1 = .ok (e.2.1, e.2.2.1) := am_dc0 (code := am_bt 61) (es := cd_61) wk_61 (by decide +kernel)
theorem ck_66 : (am_T 66).2.2.all (fun e => am_ck (am_ow 66) (am_md 66) (am_rt 66) (am_nmb 66) (am_T 66).2.1 e) = true := by decide +kernel
theorem dc_66 : ∀ e ∈ (am_T 66).2.2, decode (am_bt 66) e.1 = .ok (e.2.1, e.2.2.1) := am_dc0 (code := am_bt 66) (es := cd_66) wk_66 (by decide +kernel)
theorem ck_71 : (am_T 71).2.2.all (fun e => am_ck (am_ow 71) (am_md 71) (am_rt 71) (am_nmb 71) (am_T 71).2.1 e) = true := by decide +kernel
theorem dc_71 : ∀ e ∈ (am_T 71).2.2, decode (am_bt 71) e.1 = .ok (e.2.1, e.2.2.1) := am_dc0 (code := am_bt 71) (es := cd_71) wk_71 (by decide +kernel)
theorem ck_76 : (am_T 76).2.2.all (fun e => am_ck (am_ow 76) (am_md 76) (am_rt 76) (am_nmb 76) (am_T 76).2.1 e) = true := by decide +kernel
theorem dc_76 : ∀ e ∈ (am_T 76).2.2, decode (am_bt 76) e.1 = .ok (e.2.1, e.2.2.1) := am_dc0 (code := am_bt 76) (es := cd_76) wk_76 (by decide +kernel)
theorem ck_81 : (am_T 81).2.2.all (fun e => am_ck (am_ow 81) (am_md 81) (am_rt 81) (am_nmb 81) (am_T 81).2.1 e) = true := by decide +kernel
theorem dc_81 : ∀ e ∈ (am_T 81).2.2, decode (am_bt 81) e.1 = .ok (e.2.1, e.2.2.1) := am_dc1 (code := am_bt 81) (es := cd_81) (os := [(4, .tableswitch 280 1 9 #[52, 73, 94, 123, 158, 189, 209, 229, 260], 52, 0, 0, 0)]) wk_81 (by rfl) (List.forall_mem_cons.mpr ⟨wo_81_4, fun _ h => absurd h List.not_mem_nil⟩)
theorem ck_86 : (am_T 86).2.2.all (fun e => am_ck (am_ow 86) (am_md 86) (am_rt 86) (am_nmb 86) (am_T 86).2.1 e) = true := by decide +kernel
theorem dc_86 : ∀ e ∈ (am_T 86).2.2, decode (am_bt 86) e.1 = .ok (e.2.1, e.2.2.1) := am_dc0 (code := am_bt 86) (es := cd_86) wk_86 (by decide +kernel)
theorem ck_91 : (am_T 91).2.2.all (fun e => am_ck (am_ow 91) (am_md 91) (am_rt 91) (am_nmb 91) (am_T 91).2.1 e) = true := by decide +kernel
theorem dc_91 : ∀ e ∈ (am_T 91).2.2, decode (am_bt 91) e.1 = .ok (e.2.1, e.2.2.1) := am_dc0 (code := am_bt 91) (es := cd_91) wk_91 (by decide +kernel)
theorem ck_96 : (am_T 96).2.2.all (fun e => am_ck (am_ow 96) (am_md 96) (am_rt 96) (am_nmb 96) (am_T 96).2.1 e) = true := by decide +kernel
theorem dc_96 : ∀ e ∈ (am_T 96).2.2, decode (am_bt 96) e.1 = .ok (e.2.1, e.2.2.1) := am_dc0 (code := am_bt 96) (es := cd_96) wk_96 (by decide +kernel)
theorem ck_101 : (am_T 101).2.2.all (fun e => am_ck (am_ow 101) (am_md 101) (am_rt 101) (am_nmb 101) (am_T 101).2.1 e) = true := by decide +kernel
theorem dc_101 : ∀ e ∈ (am_T 101).2.2, decode (am_bt 101) e.1 = .ok (e.2.1, e.2.2.1) := am_dc0 (code := am_bt 101) (es := cd_101) wk_101 (by decide +kernel)
theorem ck_106 : (am_T 106).2.2.all (fun e => am_ck (am_ow 106) (am_md 106) (am_rt 106) (am_nmb 106) (am_T 106).2.1 e) = true := by decide +kernel
theorem dc_106 : ∀ e ∈ (am_T 106).2.2, decode (am_bt 106) e.1 = .ok (e.2.1, e.2.2.1) := am_dc0 (code := am_bt 106) (es := cd_106) wk_106 (by decide +kernel)
theorem ck_111 : (am_T 111).2.2.all (fun e => am_ck (am_ow 111) (am_md 111) (am_rt 111) (am_nmb 111) (am_T 111).2.1 e) = true := by decide +kernel
theorem dc_111 : ∀ e ∈ (am_T 111).2.2, decode (am_bt 111) e.1 = .ok (e.2.1, e.2.2.1) := am_dc0 (code := am_bt 111) (es := cd_111) wk_111 (by decide +kernel)
theorem ck_116 : (am_T 116).2.2.all (fun e => am_ck (am_ow 116) (am_md 116) (am_rt 116) (am_nmb 116) (am_T 116).2.1 e) = true := by decide +kernel
theorem dc_116 : ∀ e ∈ (am_T 116).2.2, decode (am_bt 116) e.1 = .ok (e.2.1, e.2.2.1) := am_dc0 (code := am_bt 116) (es := cd_116) wk_116 (by decide +kernel)
theorem ck_121 : (am_T 121).2.2.all (fun e => am_ck (am_ow 121) (am_md 121) (am_rt 121) (am_nmb 121) (am_T 121).2.1 e) = true := by decide +kernel
theorem dc_121 : ∀ e ∈ (am_T 121).2.2, decode (am_bt 121) e.1 = .ok (e.2.1, e.2.2.1) := am_dc0 (code := am_bt 121) (es := cd_121) wk_121 (by decide +kernel)
theorem ck_126 : (am_T 126).2.2.all (fun e => am_ck (am_ow 126) (am_md 126) (am_rt 126) (am_nmb 126) (am_T 126).2.1 e) = true := by decide +kernel
theorem dc_126 : ∀ e ∈ (am_T 126).2.2, decode (am_bt 126) e.1 = .ok (e.2.1, e.2.2.1) := am_dc0 (code := am_bt 126) (es := cd_126) wk_126 (by decide +kernel)
theorem ck_131 : (am_T 131).2.2.all (fun e => am_ck (am_ow 131) (am_md 131) (am_rt 131) (am_nmb 131) (am_T 131).2.1 e) = true := by decide +kernel
theorem dc_131 : ∀ e ∈ (am_T 131).2.2, decode (am_bt 131) e.1 = .ok (e.2.1, e.2.2.1) := am_dc1 (code := am_bt 131) (es := cd_131) (os := [(90, .lookupswitch 154 #[(52, 86), (53, 86), (54, 86), (65, 117), (70, 58), (145, 97)], 58, 0, 0, 0)]) wk_131 (by rfl) (List.forall_mem_cons.mpr ⟨wo_131_90, fun _ h => absurd h List.not_mem_nil⟩)
theorem ck_136 : (am_T 136).2.2.all (fun e => am_ck (am_ow 136) (am_md 136) (am_rt 136) (am_nmb 136) (am_T 136).2.1 e) = true := by decide +kernel
theorem dc_136 : ∀ e ∈ (am_T 136).2.2, decode (am_bt 136) e.1 = .ok (e.2.1, e.2.2.1) := am_dc0 (code := am_bt 136) (es := cd_136) wk_136 (by decide +kernel)
theorem ck_141 : (am_T 141).2.2.all (fun e => am_ck (am_ow 141) (am_md 141) (am_rt 141) (am_nmb 141) (am_T 141).2.1 e) = true := by decide +kernel
theorem dc_141 : ∀ e ∈ (am_T 141).2.2, decode (am_bt 141) e.1 = .ok (e.2.1, e.2.2.1) := am_dc0 (code := am_bt 141) (es := cd_141) wk_141 (by decide +kernel)
theorem ck_146 : (am_T 146).2.2.all (fun e => am_ck (am_ow 146) (am_md 146) (am_rt 146) (am_nmb 146) (am_T 146).2.1 e) = true := by decide +kernel
theorem dc_146 : ∀ e ∈ (am_T 146).2.2, decode (am_bt 146) e.1 = .ok (e.2.1, e.2.2.1) := am_dc1 (code := am_bt 146) (es := cd_146) (os := [(1, .tableswitch 69 0 5 #[39, 44, 49, 54, 59, 64], 39, 0, 0, 0)]) wk_146 (by rfl) (List.forall_mem_cons.mpr ⟨wo_146_1, fun _ h => absurd h List.not_mem_nil⟩)
theorem ck_151 : (am_T 151).2.2.all (fun e => am_ck (am_ow 151) (am_md 151) (am_rt 151) (am_nmb 151) (am_T 151).2.1 e) = true := by decide +kernel
theorem dc_151 : ∀ e ∈ (am_T 151).2.2, decode (am_bt 151) e.1 = .ok (e.2.1, e.2.2.1) := am_dc0 (code := am_bt 151) (es := cd_151) wk_151 (by decide +kernel)
theorem ck_156 : (am_T 156).2.2.all (fun e => am_ck (am_ow 156) (am_md 156) (am_rt 156) (am_nmb 156) (am_T 156).2.1 e) = true := by decide +kernel
theorem dc_156 : ∀ e ∈ (am_T 156).2.2, decode (am_bt 156) e.1 = .ok (e.2.1, e.2.2.1) := am_dc0 (code := am_bt 156) (es := cd_156) wk_156 (by decide +kernel)
theorem ck_161 : (am_T 161).2.2.all (fun e => am_ck (am_ow 161) (am_md 161) (am_rt 161) (am_nmb 161) (am_T 161).2.1 e) = true := by decide +kernel
theorem dc_161 : ∀ e ∈ (am_T 161).2.2, decode (am_bt 161) e.1 = .ok (e.2.1, e.2.2.1) := am_dc0 (code := am_bt 161) (es := cd_161) wk_161 (by decide +kernel)
theorem ck_166 : (am_T 166).2.2.all (fun e => am_ck (am_ow 166) (am_md 166) (am_rt 166) (am_nmb 166) (am_T 166).2.1 e) = true := by decide +kernel
theorem dc_166 : ∀ e ∈ (am_T 166).2.2, decode (am_bt 166) e.1 = .ok (e.2.1, e.2.2.1) := am_dc0 (code := am_bt 166) (es := cd_166) wk_166 (by decide +kernel)
theorem ck_171 : (am_T 171).2.2.all (fun e => am_ck (am_ow 171) (am_md 171) (am_rt 171) (am_nmb 171) (am_T 171).2.1 e) = true := by decide +kernel
theorem dc_171 : ∀ e ∈ (am_T 171).2.2, decode (am_bt 171) e.1 = .ok (e.2.1, e.2.2.1) := am_dc0 (code := am_bt 171) (es := cd_171) wk_171 (by decide +kernel)
theorem ck_176 : (am_T 176).2.2.all (fun e => am_ck (am_ow 176) (am_md 176) (am_rt 176) (am_nmb 176) (am_T 176).2.1 e) = true := by decide +kernel
theorem dc_176 : ∀ e ∈ (am_T 176).2.2, decode (am_bt 176) e.1 = .ok (e.2.1, e.2.2.1) := am_dc0 (code := am_bt 176) (es := cd_176) wk_176 (by decide +kernel)
theorem ck_181 : (am_T 181).2.2.all (fun e => am_ck (am_ow 181) (am_md 181) (am_rt 181) (am_nmb 181) (am_T 181).2.1 e) = true := by decide +kernel
theorem dc_181 : ∀ e ∈ (am_T 181).2.2, decode (am_bt 181) e.1 = .ok (e.2.1, e.2.2.1) := am_dc0 (code := am_bt 181) (es := cd_181) wk_181 (by decide +kernel)
theorem ck_186 : (am_T 186).2.2.all (fun e => am_ck (am_ow 186) (am_md 186) (am_rt 186) (am_nmb 186) (am_T 186).2.1 e) = true := by decide +kernel
theorem dc_186 : ∀ e ∈ (am_T 186).2.2, decode (am_bt 186) e.1 = .ok (e.2.1, e.2.2.1) := am_dc0 (code := am_bt 186) (es := cd_186) wk_186 (by decide +kernel)
theorem ck_191 : (am_T 191).2.2.all (fun e => am_ck (am_ow 191) (am_md 191) (am_rt 191) (am_nmb 191) (am_T 191).2.1 e) = true := by decide +kernel
theorem dc_191 : ∀ e ∈ (am_T 191).2.2, decode (am_bt 191) e.1 = .ok (e.2.1, e.2.2.1) := am_dc0 (code := am_bt 191) (es := cd_191) wk_191 (by decide +kernel)
theorem ck_196 : (am_T 196).2.2.all (fun e => am_ck (am_ow 196) (am_md 196) (am_rt 196) (am_nmb 196) (am_T 196).2.1 e) = true := by decide +kernel
theorem dc_196 : ∀ e ∈ (am_T 196).2.2, decode (am_bt 196) e.1 = .ok (e.2.1, e.2.2.1) := am_dc0 (code := am_bt 196) (es := cd_196) wk_196 (by decide +kernel)
theorem ck_201 : (am_T 201).2.2.all (fun e => am_ck (am_ow 201) (am_md 201) (am_rt 201) (am_nmb 201) (am_T 201).2.1 e) = true := by decide +kernel
theorem dc_201 : ∀ e ∈ (am_T 201).2.2, decode (am_bt 201) e.1 = .ok (e.2.1, e.2.2.1) := am_dc0 (code := am_bt 201) (es := cd_201) wk_201 (by decide +kernel)
theorem ck_206 : (am_T 206).2.2.all (fun e => am_ck (am_ow 206) (am_md 206) (am_rt 206) (am_nmb 206) (am_T 206).2.1 e) = true := by decide +kernel
theorem dc_206 : ∀ e ∈ (am_T 206).2.2, decode (am_bt 206) e.1 = .ok (e.2.1, e.2.2.1) := am_dc0 (code := am_bt 206) (es := cd_206) wk_206 (by decide +kernel)
theorem ck_211 : (am_T 211).2.2.all (fun e => am_ck (am_ow 211) (am_md 211) (am_rt 211) (am_nmb 211) (am_T 211).2.1 e) = true := by decide +kernel
theorem dc_211 : ∀ e ∈ (am_T 211).2.2, decode (am_bt 211) e.1 = .ok (e.2.1, e.2.2.1) := am_dc0 (code := am_bt 211) (es := cd_211) wk_211 (by decide +kernel)
theorem ck_216 : (am_T 216).2.2.all (fun e => am_ck (am_ow 216) (am_md 216) (am_rt 216) (am_nmb 216) (am_T 216).2.1 e) = true := by decide +kernel
theorem dc_216 : ∀ e ∈ (am_T 216).2.2, decode (am_bt 216) e.1 = .ok (e.2.1, e.2.2.1) := am_dc0 (code := am_bt 216) (es := cd_216) wk_216 (by decide +kernel)
theorem ck_221 : (am_T 221).2.2.all (fun e => am_ck (am_ow 221) (am_md 221) (am_rt 221) (am_nmb 221) (am_T 221).2.1 e) = true := by decide +kernel
theorem dc_221 : ∀ e ∈ (am_T 221).2.2, decode (am_bt 221) e.1 = .ok (e.2.1, e.2.2.1) := am_dc0 (code := am_bt 221) (es := cd_221) wk_221 (by decide +kernel)
theorem ck_226 : (am_T 226).2.2.all (fun e => am_ck (am_ow 226) (am_md 226) (am_rt 226) (am_nmb 226) (am_T 226).2.1 e) = true := by decide +kernel
theorem dc_226 : ∀ e ∈ (am_T 226).2.2, decode (am_bt 226) e.1 = .ok (e.2.1, e.2.2.1) := am_dc0 (code := am_bt 226) (es := cd_226) wk_226 (by decide +kernel)
theorem ck_231 : (am_T 231).2.2.all (fun e => am_ck (am_ow 231) (am_md 231) (am_rt 231) (am_nmb 231) (am_T 231).2.1 e) = true := by decide +kernel
theorem dc_231 : ∀ e ∈ (am_T 231).2.2, decode (am_bt 231) e.1 = .ok (e.2.1, e.2.2.1) := am_dc0 (code := am_bt 231) (es := cd_231) wk_231 (by decide +kernel)
theorem ck_236 : (am_T 236).2.2.all (fun e => am_ck (am_ow 236) (am_md 236) (am_rt 236) (am_nmb 236) (am_T 236).2.1 e) = true := by decide +kernel
theorem dc_236 : ∀ e ∈ (am_T 236).2.2, decode (am_bt 236) e.1 = .ok (e.2.1, e.2.2.1) := am_dc0 (code := am_bt 236) (es := cd_236) wk_236 (by decide +kernel)
theorem ck_241 : (am_T 241).2.2.all (fun e => am_ck (am_ow 241) (am_md 241) (am_rt 241) (am_nmb 241) (am_T 241).2.1 e) = true := by decide +kernel
theorem dc_241 : ∀ e ∈ (am_T 241).2.2, decode (am_bt 241) e.1 = .ok (e.2.1, e.2.2.1) := am_dc0 (code := am_bt 241) (es := cd_241) wk_241 (by decide +kernel)
theorem ck_246 : (am_T 246).2.2.all (fun e => am_ck (am_ow 246) (am_md 246) (am_rt 246) (am_nmb 246) (am_T 246).2.1 e) = true := by decide +kernel
theorem dc_246 : ∀ e ∈ (am_T 246).2.2, decode (am_bt 246) e.1 = .ok (e.2.1, e.2.2.1) := am_dc0 (code := am_bt 246) (es := cd_246) wk_246 (by decide +kernel)
theorem ck_251 : (am_T 251).2.2.all (fun e => am_ck (am_ow 251) (am_md 251) (am_rt 251) (am_nmb 251) (am_T 251).2.1 e) = true := by decide +kernel
theorem dc_251 : ∀ e ∈ (am_T 251).2.2, decode (am_bt 251) e.1 = .ok (e.2.1, e.2.2.1) := am_dc0 (code := am_bt 251) (es := cd_251) wk_251 (by decide +kernel)
theorem ck_256 : (am_T 256).2.2.all (fun e => am_ck (am_ow 256) (am_md 256) (am_rt 256) (am_nmb 256) (am_T 256).2.1 e) = true := by decide +kernel
theorem dc_256 : ∀ e ∈ (am_T 256).2.2, decode (am_bt 256) e.1 = .ok (e.2.1, e.2.2.1) := am_dc0 (code := am_bt 256) (es := cd_256) wk_256 (by decide +kernel)
theorem ck_261 : (am_T 261).2.2.all (fun e => am_ck (am_ow 261) (am_md 261) (am_rt 261) (am_nmb 261) (am_T 261).2.1 e) = true := by decide +kernel
theorem dc_261 : ∀ e ∈ (am_T 261).2.2, decode (am_bt 261) e.1 = .ok (e.2.1, e.2.2.1) := am_dc0 (code := am_bt 261) (es := cd_261) wk_261 (by decide +kernel)
theorem ck_266 : (am_T 266).2.2.all (fun e => am_ck (am_ow 266) (am_md 266) (am_rt 266) (am_nmb 266) (am_T 266).2.1 e) = true := by decide +kernel
theorem dc_266 : ∀ e ∈ (am_T 266).2.2, decode (am_bt 266) e.1 = .ok (e.2.1, e.2.2.1) := am_dc0 (code := am_bt 266) (es := cd_266) wk_266 (by decide +kernel)
theorem ck_271 : (am_T 271).2.2.all (fun e => am_ck (am_ow 271) (am_md 271) (am_rt 271) (am_nmb 271) (am_T 271).2.1 e) = true := by decide +kernel
theorem dc_271 : ∀ e ∈ (am_T 271).2.2, decode (am_bt 271) e.1 = .ok (e.2.1, e.2.2.1) := am_dc0 (code := am_bt 271) (es := cd_271) wk_271 (by decide +kernel)
theorem ck_276 : (am_T 276).2.2.all (fun e => am_ck (am_ow 276) (am_md 276) (am_rt 276) (am_nmb 276) (am_T 276).2.1 e) = true := by decide +kernel
theorem dc_276 : ∀ e ∈ (am_T 276).2.2, decode (am_bt 276) e.1 = .ok (e.2.1, e.2.2.1) := am_dc0 (code := am_bt 276) (es := cd_276) wk_276 (by decide +kernel)
theorem ck_281 : (am_T 281).2.2.all (fun e => am_ck (am_ow 281) (am_md 281) (am_rt 281) (am_nmb 281) (am_T 281).2.1 e) = true := by decide +kernel
theorem dc_281 : ∀ e ∈ (am_T 281).2.2, decode (am_bt 281) e.1 = .ok (e.2.1, e.2.2.1) := am_dc0 (code := am_bt 281) (es := cd_281) wk_281 (by decide +kernel)
theorem ck_286 : (am_T 286).2.2.all (fun e => am_ck (am_ow 286) (am_md 286) (am_rt 286) (am_nmb 286) (am_T 286).2.1 e) = true := by decide +kernel
theorem dc_286 : ∀ e ∈ (am_T 286).2.2, decode (am_bt 286) e.1 = .ok (e.2.1, e.2.2.1) := am_dc0 (code := am_bt 286) (es := cd_286) wk_286 (by decide +kernel)
theorem ck_291 : (am_T 291).2.2.all (fun e => am_ck (am_ow 291) (am_md 291) (am_rt 291) (am_nmb 291) (am_T 291).2.1 e) = true := by decide +kernel
theorem dc_291 : ∀ e ∈ (am_T 291).2.2, decode (am_bt 291) e.1 = .ok (e.2.1, e.2.2.1) := am_dc0 (code := am_bt 291) (es := cd_291) wk_291 (by decide +kernel)
theorem ck_296 : (am_T 296).2.2.all (fun e => am_ck (am_ow 296) (am_md 296) (am_rt 296) (am_nmb 296) (am_T 296).2.1 e) = true := by decide +kernel
theorem dc_296 : ∀ e ∈ (am_T 296).2.2, decode (am_bt 296) e.1 = .ok (e.2.1, e.2.2.1) := am_dc0 (code := am_bt 296) (es := cd_296) wk_296 (by decide +kernel)
theorem ck_301 : (am_T 301).2.2.all (fun e => am_ck (am_ow 301) (am_md 301) (am_rt 301) (am_nmb 301) (am_T 301).2.1 e) = true := by decide +kernel
theorem dc_301 : ∀ e ∈ (am_T 301).2.2, decode (am_bt 301) e.1 = .ok (e.2.1, e.2.2.1) := am_dc0 (code := am_bt 301) (es := cd_301) wk_301 (by decide +kernel)
theorem ck_306 : (am_T 306).2.2.all (fun e => am_ck (am_ow 306) (am_md 306) (am_rt 306) (am_nmb 306) (am_T 306).2.1 e) = true := by decide +kernel
theorem dc_306 : ∀ e ∈ (am_T 306).2.2, decode (am_bt 306) e.1 = .ok (e.2.1, e.2.2.1) := am_dc0 (code := am_bt 306) (es := cd_306) wk_306 (by decide +kernel)
theorem ck_311 : (am_T 311).2.2.all (fun e => am_ck (am_ow 311) (am_md 311) (am_rt 311) (am_nmb 311) (am_T 311).2.1 e) = true := by decide +kernel
theorem dc_311 : ∀ e ∈ (am_T 311).2.2, decode (am_bt 311) e.1 = .ok (e.2.1, e.2.2.1) := am_dc0 (code := am_bt 311) (es := cd_311) wk_311 (by decide +kernel)
theorem ck_316 : (am_T 316).2.2.all (fun e => am_ck (am_ow 316) (am_md 316) (am_rt 316) (am_nmb 316) (am_T 316).2.1 e) = true := by decide +kernel
theorem dc_316 : ∀ e ∈ (am_T 316).2.2, decode (am_bt 316) e.1 = .ok (e.2.1, e.2.2.1) := am_dc0 (code := am_bt 316) (es := cd_316) wk_316 (by decide +kernel)
theorem ck_321 : (am_T 321).2.2.all (fun e => am_ck (am_ow 321) (am_md 321) (am_rt 321) (am_nmb 321) (am_T 321).2.1 e) = true := by decide +kernel
theorem dc_321 : ∀ e ∈ (am_T 321).2.2, decode (am_bt 321) e.1 = .ok (e.2.1, e.2.2.1) := am_dc0 (code := am_bt 321) (es := cd_321) wk_321 (by decide +kernel)
theorem ck_326 : (am_T 326).2.2.all (fun e => am_ck (am_ow 326) (am_md 326) (am_rt 326) (am_nmb 326) (am_T 326).2.1 e) = true := by decide +kernel
theorem dc_326 : ∀ e ∈ (am_T 326).2.2, decode (am_bt 326) e.1 = .ok (e.2.1, e.2.2.1) := am_dc0 (code := am_bt 326) (es := cd_326) wk_326 (by decide +kernel)
theorem ck_331 : (am_T 331).2.2.all (fun e => am_ck (am_ow 331) (am_md 331) (am_rt 331) (am_nmb 331) (am_T 331).2.1 e) = true := by decide +kernel
theorem dc_331 : ∀ e ∈ (am_T 331).2.2, decode (am_bt 331) e.1 = .ok (e.2.1, e.2.2.1) := am_dc0 (code := am_bt 331) (es := cd_331) wk_331 (by decide +kernel)
