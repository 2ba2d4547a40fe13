/-! needs: 50.disp -/
/-! each method: its elements are as the tables of links say, and as its bytes decode; by tools/genchk.py -/
set_option maxRecDepth 100000
theorem ck_1 : (am_T 1).2.2.all (fun e => am_ck (am_ow 1) (am_md 1) (am_rt 1) (am_nmb 1) (am_T 1).2.1 e) = true := by decide +kernel
theorem dc_1 : ∀ e ∈ (am_T 1).2.2, decode (am_bt 1) e.1 = .ok (e.2.1, e.2.2.1) := am_dc1 (code := am_bt 1) (es := cd_1) (os := [(13, .lookupswitch 257 #[(51, 99), (55, 130), (56, 145), (57, 157), (58, 170), (59, 179), (60, 196), (61, 209), (62, 222), (63, 238), (145, 119)], 99, 0, 0, 0), (197, .invokeinterface 70 1, 5, 1001, 18, 0)]) wk_1 (by rfl) (List.forall_mem_cons.mpr ⟨wo_1_13, List.forall_mem_cons.mpr ⟨wo_1_197, fun _ h => absurd h List.not_mem_nil⟩⟩)
theorem ck_6 : (am_T 6).2.2.all (fun e => am_ck (am_ow 6) (am_md 6) (am_rt 6) (am_nmb 6) (am_T 6).2.1 e) = true := by decide +kernel
theorem dc_6 : ∀ e ∈ (am_T 6).2.2, decode (am_bt 6) e.1 = .ok (e.2.1, e.2.2.1) := am_dc0 (code := am_bt 6) (es := cd_6) wk_6 (by decide +kernel)
theorem ck_11 : (am_T 11).2.2.all (fun e => am_ck (am_ow 11) (am_md 11) (am_rt 11) (am_nmb 11) (am_T 11).2.1 e) = true := by decide +kernel
theorem dc_11 : ∀ e ∈ (am_T 11).2.2, decode (am_bt 11) e.1 = .ok (e.2.1, e.2.2.1) := am_dc0 (code := am_bt 11) (es := cd_11) wk_11 (by decide +kernel)
theorem ck_23 : (am_T 23).2.2.all (fun e => am_ck (am_ow 23) (am_md 23) (am_rt 23) (am_nmb 23) (am_T 23).2.1 e) = true := by decide +kernel
theorem dc_23 : ∀ e ∈ (am_T 23).2.2, decode (am_bt 23) e.1 = .ok (e.2.1, e.2.2.1) := am_dc0 (code := am_bt 23) (es := cd_23) wk_23 (by decide +kernel)
theorem ck_28 : (am_T 28).2.2.all (fun e => am_ck (am_ow 28) (am_md 28) (am_rt 28) (am_nmb 28) (am_T 28).2.1 e) = true := by decide +kernel
theorem dc_28 : ∀ e ∈ (am_T 28).2.2, decode (am_bt 28) e.1 = .ok (e.2.1, e.2.2.1) := am_dc0 (code := am_bt 28) (es := cd_28) wk_28 (by decide +kernel)
theorem ck_34 : (am_T 34).2.2.all (fun e => am_ck (am_ow 34) (am_md 34) (am_rt 34) (am_nmb 34) (am_T 34).2.1 e) = true := by decide +kernel
theorem dc_34 : ∀ e ∈ (am_T 34).2.2, decode (am_bt 34) e.1 = .ok (e.2.1, e.2.2.1) := am_dc0 (code := am_bt 34) (es := cd_34) wk_34 (by decide +kernel)
theorem ck_39 : (am_T 39).2.2.all (fun e => am_ck (am_ow 39) (am_md 39) (am_rt 39) (am_nmb 39) (am_T 39).2.1 e) = true := by decide +kernel
theorem dc_39 : ∀ e ∈ (am_T 39).2.2, decode (am_bt 39) e.1 = .ok (e.2.1, e.2.2.1) := am_dc0 (code := am_bt 39) (es := cd_39) wk_39 (by decide +kernel)
theorem ck_44 : (am_T 44).2.2.all (fun e => am_ck (am_ow 44) (am_md 44) (am_rt 44) (am_nmb 44) (am_T 44).2.1 e) = true := by decide +kernel
theorem dc_44 : ∀ e ∈ (am_T 44).2.2, decode (am_bt 44) e.1 = .ok (e.2.1, e.2.2.1) := am_dc0 (code := am_bt 44) (es := cd_44) wk_44 (by decide +kernel)
theorem ck_49 : (am_T 49).2.2.all (fun e => am_ck (am_ow 49) (am_md 49) (am_rt 49) (am_nmb 49) (am_T 49).2.1 e) = true := by decide +kernel
theorem dc_49 : ∀ e ∈ (am_T 49).2.2, decode (am_bt 49) e.1 = .ok (e.2.1, e.2.2.1) := am_dc0 (code := am_bt 49) (es := cd_49) wk_49 (by decide +kernel)
theorem ck_54 : (am_T 54).2.2.all (fun e => am_ck (am_ow 54) (am_md 54) (am_rt 54) (am_nmb 54) (am_T 54).2.1 e) = true := by decide +kernel
theorem dc_54 : ∀ e ∈ (am_T 54).2.2, decode (am_bt 54) e.1 = .ok (e.2.1, e.2.2.1) := am_dc0 (code := am_bt 54) (es := cd_54) wk_54 (by decide +kernel)
theorem ck_59 : (am_T 59).2.2.all (fun e => am_ck (am_ow 59) (am_md 59) (am_rt 59) (am_nmb 59) (am_T 59).2.1 e) = true := by decide +kernel
theorem dc_59 : ∀ e ∈ (am_T 59).2.2, decode (am_bt 59) e.1 = .ok (e.2.1, e.2.2.1) := am_dc0 (code := am_bt 59) (es := cd_59) wk_59 (by decide +kernel)
theorem ck_64 : (am_T 64).2.2.all (fun e => am_ck (am_ow 64) (am_md 64) (am_rt 64) (am_nmb 64) (am_T 64).2.1 e) = true := by decide +kernel
theorem dc_64 : ∀ e ∈ (am_T 64).2.2, decode (am_bt 64) e.1 = .ok (e.2.1, e.2.2.1) := am_dc0 (code := am_bt 64) (es := cd_64) wk_64 (by decide +kernel)
theorem ck_69 : (am_T 69).2.2.all (fun e => am_ck (am_ow 69) (am_md 69) (am_rt 69) (am_nmb 69) (am_T 69).2.1 e) = true := by decide +kernel
theorem dc_69 : ∀ e ∈ (am_T 69).2.2, decode (am_bt 69) e.1 = .ok (e.2.1, e.2.2.1) := am_dc0 (code := am_bt 69) (es := cd_69) wk_69 (by decide +kernel)
theorem ck_74 : (am_T 74).2.2.all (fun e => am_ck (am_ow 74) (am_md 74) (am_rt 74) (am_nmb 74) (am_T 74).2.1 e) = true := by decide +kernel
theorem dc_74 : ∀ e ∈ (am_T 74).2.2, decode (am_bt 74) e.1 = .ok (e.2.1, e.2.2.1) := am_dc0 (code := am_bt 74) (es := cd_74) wk_74 (by decide +kernel)
theorem ck_79 : (am_T 79).2.2.all (fun e => am_ck (am_ow 79) (am_md 79) (am_rt 79) (am_nmb 79) (am_T 79).2.1 e) = true := by decide +kernel
theorem dc_79 : ∀ e ∈ (am_T 79).2.2, decode (am_bt 79) e.1 = .ok (e.2.1, e.2.2.1) := am_dc0 (code := am_bt 79) (es := cd_79) wk_79 (by decide +kernel)
theorem ck_84 : (am_T 84).2.2.all (fun e => am_ck (am_ow 84) (am_md 84) (am_rt 84) (am_nmb 84) (am_T 84).2.1 e) = true := by decide +kernel
theorem dc_84 : ∀ e ∈ (am_T 84).2.2, decode (am_bt 84) e.1 = .ok (e.2.1, e.2.2.1) := am_dc1 (code := am_bt 84) (es := cd_84) (os := [(4, .tableswitch 300 0 6 #[44, 75, 106, 140, 184, 223, 279], 44, 0, 0, 0)]) wk_84 (by rfl) (List.forall_mem_cons.mpr ⟨wo_84_4, fun _ h => absurd h List.not_mem_nil⟩)
theorem ck_89 : (am_T 89).2.2.all (fun e => am_ck (am_ow 89) (am_md 89) (am_rt 89) (am_nmb 89) (am_T 89).2.1 e) = true := by decide +kernel
theorem dc_89 : ∀ e ∈ (am_T 89).2.2, decode (am_bt 89) e.1 = .ok (e.2.1, e.2.2.1) := am_dc0 (code := am_bt 89) (es := cd_89) wk_89 (by decide +kernel)
theorem ck_94 : (am_T 94).2.2.all (fun e => am_ck (am_ow 94) (am_md 94) (am_rt 94) (am_nmb 94) (am_T 94).2.1 e) = true := by decide +kernel
theorem dc_94 : ∀ e ∈ (am_T 94).2.2, decode (am_bt 94) e.1 = .ok (e.2.1, e.2.2.1) := am_dc0 (code := am_bt 94) (es := cd_94) wk_94 (by decide +kernel)
theorem ck_99 : (am_T 99).2.2.all (fun e => am_ck (am_ow 99) (am_md 99) (am_rt 99) (am_nmb 99) (am_T 99).2.1 e) = true := by decide +kernel
theorem dc_99 : ∀ e ∈ (am_T 99).2.2, decode (am_bt 99) e.1 = .ok (e.2.1, e.2.2.1) := am_dc0 (code := am_bt 99) (es := cd_99) wk_99 (by decide +kernel)
theorem ck_104 : (am_T 104).2.2.all (fun e => am_ck (am_ow 104) (am_md 104) (am_rt 104) (am_nmb 104) (am_T 104).2.1 e) = true := by decide +kernel
theorem dc_104 : ∀ e ∈ (am_T 104).2.2, decode (am_bt 104) e.1 = .ok (e.2.1, e.2.2.1) := am_dc0 (code := am_bt 104) (es := cd_104) wk_104 (by decide +kernel)
theorem ck_109 : (am_T 109).2.2.all (fun e => am_ck (am_ow 109) (am_md 109) (am_rt 109) (am_nmb 109) (am_T 109).2.1 e) = true := by decide +kernel
theorem dc_109 : ∀ e ∈ (am_T 109).2.2, decode (am_bt 109) e.1 = .ok (e.2.1, e.2.2.1) := am_dc0 (code := am_bt 109) (es := cd_109) wk_109 (by decide +kernel)
theorem ck_114 : (am_T 114).2.2.all (fun e => am_ck (am_ow 114) (am_md 114) (am_rt 114) (am_nmb 114) (am_T 114).2.1 e) = true := by decide +kernel
theorem dc_114 : ∀ e ∈ (am_T 114).2.2, decode (am_bt 114) e.1 = .ok (e.2.1, e.2.2.1) := am_dc0 (code := am_bt 114) (es := cd_114) wk_114 (by decide +kernel)
theorem ck_119 : (am_T 119).2.2.all (fun e => am_ck (am_ow 119) (am_md 119) (am_rt 119) (am_nmb 119) (am_T 119).2.1 e) = true := by decide +kernel
theorem dc_119 : ∀ e ∈ (am_T 119).2.2, decode (am_bt 119) e.1 = .ok (e.2.1, e.2.2.1) := am_dc0 (code := am_bt 119) (es := cd_119) wk_119 (by decide +kernel)
theorem ck_124 : (am_T 124).2.2.all (fun e => am_ck (am_ow 124) (am_md 124) (am_rt 124) (am_nmb 124) (am_T 124).2.1 e) = true := by decide +kernel
theorem dc_124 : ∀ e ∈ (am_T 124).2.2, decode (am_bt 124) e.1 = .ok (e.2.1, e.2.2.1) := am_dc0 (code := am_bt 124) (es := cd_124) wk_124 (by decide +kernel)
theorem ck_129 : (am_T 129).2.2.all (fun e => am_ck (am_ow 129) (am_md 129) (am_rt 129) (am_nmb 129) (am_T 129).2.1 e) = true := by decide +kernel
theorem dc_129 : ∀ e ∈ (am_T 129).2.2, decode (am_bt 129) e.1 = .ok (e.2.1, e.2.2.1) := am_dc0 (code := am_bt 129) (es := cd_129) wk_129 (by decide +kernel)
theorem ck_134 : (am_T 134).2.2.all (fun e => am_ck (am_ow 134) (am_md 134) (am_rt 134) (am_nmb 134) (am_T 134).2.1 e) = true := by decide +kernel
theorem dc_134 : ∀ e ∈ (am_T 134).2.2, decode (am_bt 134) e.1 = .ok (e.2.1, e.2.2.1) := am_dc0 (code := am_bt 134) (es := cd_134) wk_134 (by decide +kernel)
theorem ck_139 : (am_T 139).2.2.all (fun e => am_ck (am_ow 139) (am_md 139) (am_rt 139) (am_nmb 139) (am_T 139).2.1 e) = true := by decide +kernel
theorem dc_139 : ∀ e ∈ (am_T 139).2.2, decode (am_bt 139) e.1 = .ok (e.2.1, e.2.2.1) := am_dc0 (code := am_bt 139) (es := cd_139) wk_139 (by decide +kernel)
theorem ck_144 : (am_T 144).2.2.all (fun e => am_ck (am_ow 144) (am_md 144) (am_rt 144) (am_nmb 144) (am_T 144).2.1 e) = true := by decide +kernel
theorem dc_144 : ∀ e ∈ (am_T 144).2.2, decode (am_bt 144) e.1 = .ok (e.2.1, e.2.2.1) := am_dc0 (code := am_bt 144) (es := cd_144) wk_144 (by decide +kernel)
theorem ck_149 : (am_T 149).2.2.all (fun e => am_ck (am_ow 149) (am_md 149) (am_rt 149) (am_nmb 149) (am_T 149).2.1 e) = true := by decide +kernel
theorem dc_149 : ∀ e ∈ (am_T 149).2.2, decode (am_bt 149) e.1 = .ok (e.2.1, e.2.2.1) := am_dc0 (code := am_bt 149) (es := cd_149) wk_149 (by decide +kernel)
theorem ck_154 : (am_T 154).2.2.all (fun e => am_ck (am_ow 154) (am_md 154) (am_rt 154) (am_nmb 154) (am_T 154).2.1 e) = true := by decide +kernel
theorem dc_154 : ∀ e ∈ (am_T 154).2.2, decode (am_bt 154) e.1 = .ok (e.2.1, e.2.2.1) := am_dc0 (code := am_bt 154) (es := cd_154) wk_154 (by decide +kernel)
theorem ck_159 : (am_T 159).2.2.all (fun e => am_ck (am_ow 159) (am_md 159) (am_rt 159) (am_nmb 159) (am_T 159).2.1 e) = true := by decide +kernel
theorem dc_159 : ∀ e ∈ (am_T 159).2.2, decode (am_bt 159) e.1 = .ok (e.2.1, e.2.2.1) := am_dc0 (code := am_bt 159) (es := cd_159) wk_159 (by decide +kernel)
theorem ck_164 : (am_T 164).2.2.all (fun e => am_ck (am_ow 164) (am_md 164) (am_rt 164) (am_nmb 164) (am_T 164).2.1 e) = true := by decide +kernel
theorem dc_164 : ∀ e ∈ (am_T 164).2.2, decode (am_bt 164) e.1 = .ok (e.2.1, e.2.2.1) := am_dc0 (code := am_bt 164) (es := cd_164) wk_164 (by decide +kernel)
theorem ck_169 : (am_T 169).2.2.all (fun e => am_ck (am_ow 169) (am_md 169) (am_rt 169) (am_nmb 169) (am_T 169).2.1 e) = true := by decide +kernel
theorem dc_169 : ∀ e ∈ (am_T 169).2.2, decode (am_bt 169) e.1 = .ok (e.2.1, e.2.2.1) := am_dc0 (code := am_bt 169) (es := cd_169) wk_169 (by decide +kernel)
theorem ck_174 : (am_T 174).2.2.all (fun e => am_ck (am_ow 174) (am_md 174) (am_rt 174) (am_nmb 174) (am_T 174).2.1 e) = true := by decide +kernel
theorem dc_174 : ∀ e ∈ (am_T 174).2.2, decode (am_bt 174) e.1 = .ok (e.2.1, e.2.2.1) := am_dc0 (code := am_bt 174) (es := cd_174) wk_174 (by decide +kernel)
theorem ck_179 : (am_T 179).2.2.all (fun e => am_ck (am_ow 179) (am_md 179) (am_rt 179) (am_nmb 179) (am_T 179).2.1 e) = true := by decide +kernel
theorem dc_179 : ∀ e ∈ (am_T 179).2.2, decode (am_bt 179) e.1 = .ok (e.2.1, e.2.2.1) := am_dc1 (code := am_bt 179) (es := cd_179) (os := [(8, Instr.newarray ArrayType.int, 2, 40, 0, 0), (17, Instr.newarray ArrayType.int, 2, 40, 0, 0), (26, Instr.newarray ArrayType.int, 2, 40, 0, 0), (34, Instr.newarray ArrayType.long, 2, 41, 0, 0), (42, Instr.newarray ArrayType.long, 2, 41, 0, 0), (49, Instr.newarray ArrayType.long, 2, 41, 0, 0), (57, Instr.newarray ArrayType.long, 2, 41, 0, 0), (64, Instr.newarray ArrayType.long, 2, 41, 0, 0), (72, Instr.newarray ArrayType.long, 2, 41, 0, 0), (81, Instr.newarray ArrayType.int, 2, 40, 0, 0), (89, Instr.newarray ArrayType.int, 2, 40, 0, 0), (102, Instr.newarray ArrayType.int, 2, 40, 0, 0), (110, Instr.newarray ArrayType.int, 2, 40, 0, 0), (119, Instr.newarray ArrayType.int, 2, 40, 0, 0), (127, Instr.newarray ArrayType.boolean, 2, 42, 0, 0), (135, Instr.newarray ArrayType.int, 2, 40, 0, 0), (143, Instr.newarray ArrayType.int, 2, 40, 0, 0), (151, Instr.newarray ArrayType.int, 2, 40, 0, 0), (159, Instr.newarray ArrayType.int, 2, 40, 0, 0), (167, Instr.newarray ArrayType.int, 2, 40, 0, 0), (175, Instr.newarray ArrayType.int, 2, 40, 0, 0), (183, Instr.newarray ArrayType.boolean, 2, 42, 0, 0), (191, Instr.newarray ArrayType.int, 2, 40, 0, 0), (199, Instr.newarray ArrayType.int, 2, 40, 0, 0), (207, Instr.newarray ArrayType.int, 2, 40, 0, 0), (215, Instr.newarray ArrayType.int, 2, 40, 0, 0), (223, Instr.newarray ArrayType.int, 2, 40, 0, 0), (231, Instr.newarray ArrayType.int, 2, 40, 0, 0), (239, Instr.newarray ArrayType.int, 2, 40, 0, 0), (248, Instr.newarray ArrayType.int, 2, 40, 0, 0), (257, Instr.newarray ArrayType.int, 2, 40, 0, 0), (266, Instr.newarray ArrayType.int, 2, 40, 0, 0), (275, Instr.newarray ArrayType.int, 2, 40, 0, 0), (289, Instr.newarray ArrayType.int, 2, 40, 0, 0), (298, Instr.newarray ArrayType.int, 2, 40, 0, 0)]) wk_179 (by rfl) (List.forall_mem_cons.mpr ⟨wo_179_8, List.forall_mem_cons.mpr ⟨wo_179_17, List.forall_mem_cons.mpr ⟨wo_179_26, List.forall_mem_cons.mpr ⟨wo_179_34, List.forall_mem_cons.mpr ⟨wo_179_42, List.forall_mem_cons.mpr ⟨wo_179_49, List.forall_mem_cons.mpr ⟨wo_179_57, List.forall_mem_cons.mpr ⟨wo_179_64, List.forall_mem_cons.mpr ⟨wo_179_72, List.forall_mem_cons.mpr ⟨wo_179_81, List.forall_mem_cons.mpr ⟨wo_179_89, List.forall_mem_cons.mpr ⟨wo_179_102, List.forall_mem_cons.mpr ⟨wo_179_110, List.forall_mem_cons.mpr ⟨wo_179_119, List.forall_mem_cons.mpr ⟨wo_179_127, List.forall_mem_cons.mpr ⟨wo_179_135, List.forall_mem_cons.mpr ⟨wo_179_143, List.forall_mem_cons.mpr ⟨wo_179_151, List.forall_mem_cons.mpr ⟨wo_179_159, List.forall_mem_cons.mpr ⟨wo_179_167, List.forall_mem_cons.mpr ⟨wo_179_175, List.forall_mem_cons.mpr ⟨wo_179_183, List.forall_mem_cons.mpr ⟨wo_179_191, List.forall_mem_cons.mpr ⟨wo_179_199, List.forall_mem_cons.mpr ⟨wo_179_207, List.forall_mem_cons.mpr ⟨wo_179_215, List.forall_mem_cons.mpr ⟨wo_179_223, List.forall_mem_cons.mpr ⟨wo_179_231, List.forall_mem_cons.mpr ⟨wo_179_239, List.forall_mem_cons.mpr ⟨wo_179_248, List.forall_mem_cons.mpr ⟨wo_179_257, List.forall_mem_cons.mpr ⟨wo_179_266, List.forall_mem_cons.mpr ⟨wo_179_275, List.forall_mem_cons.mpr ⟨wo_179_289, List.forall_mem_cons.mpr ⟨wo_179_298, fun _ h => absurd h List.not_mem_nil⟩⟩⟩⟩⟩⟩⟩⟩⟩⟩⟩⟩⟩⟩⟩⟩⟩⟩⟩⟩⟩⟩⟩⟩⟩⟩⟩⟩⟩⟩⟩⟩⟩⟩⟩)
theorem ck_184 : (am_T 184).2.2.all (fun e => am_ck (am_ow 184) (am_md 184) (am_rt 184) (am_nmb 184) (am_T 184).2.1 e) = true := by decide +kernel
theorem dc_184 : ∀ e ∈ (am_T 184).2.2, decode (am_bt 184) e.1 = .ok (e.2.1, e.2.2.1) := am_dc0 (code := am_bt 184) (es := cd_184) wk_184 (by decide +kernel)
theorem ck_189 : (am_T 189).2.2.all (fun e => am_ck (am_ow 189) (am_md 189) (am_rt 189) (am_nmb 189) (am_T 189).2.1 e) = true := by decide +kernel
theorem dc_189 : ∀ e ∈ (am_T 189).2.2, decode (am_bt 189) e.1 = .ok (e.2.1, e.2.2.1) := am_dc0 (code := am_bt 189) (es := cd_189) wk_189 (by decide +kernel)
theorem ck_194 : (am_T 194).2.2.all (fun e => am_ck (am_ow 194) (am_md 194) (am_rt 194) (am_nmb 194) (am_T 194).2.1 e) = true := by decide +kernel
theorem dc_194 : ∀ e ∈ (am_T 194).2.2, decode (am_bt 194) e.1 = .ok (e.2.1, e.2.2.1) := am_dc0 (code := am_bt 194) (es := cd_194) wk_194 (by decide +kernel)
theorem ck_199 : (am_T 199).2.2.all (fun e => am_ck (am_ow 199) (am_md 199) (am_rt 199) (am_nmb 199) (am_T 199).2.1 e) = true := by decide +kernel
theorem dc_199 : ∀ e ∈ (am_T 199).2.2, decode (am_bt 199) e.1 = .ok (e.2.1, e.2.2.1) := am_dc0 (code := am_bt 199) (es := cd_199) wk_199 (by decide +kernel)
theorem ck_204 : (am_T 204).2.2.all (fun e => am_ck (am_ow 204) (am_md 204) (am_rt 204) (am_nmb 204) (am_T 204).2.1 e) = true := by decide +kernel
theorem dc_204 : ∀ e ∈ (am_T 204).2.2, decode (am_bt 204) e.1 = .ok (e.2.1, e.2.2.1) := am_dc0 (code := am_bt 204) (es := cd_204) wk_204 (by decide +kernel)
theorem ck_209 : (am_T 209).2.2.all (fun e => am_ck (am_ow 209) (am_md 209) (am_rt 209) (am_nmb 209) (am_T 209).2.1 e) = true := by decide +kernel
theorem dc_209 : ∀ e ∈ (am_T 209).2.2, decode (am_bt 209) e.1 = .ok (e.2.1, e.2.2.1) := am_dc0 (code := am_bt 209) (es := cd_209) wk_209 (by decide +kernel)
theorem ck_214 : (am_T 214).2.2.all (fun e => am_ck (am_ow 214) (am_md 214) (am_rt 214) (am_nmb 214) (am_T 214).2.1 e) = true := by decide +kernel
theorem dc_214 : ∀ e ∈ (am_T 214).2.2, decode (am_bt 214) e.1 = .ok (e.2.1, e.2.2.1) := am_dc0 (code := am_bt 214) (es := cd_214) wk_214 (by decide +kernel)
theorem ck_219 : (am_T 219).2.2.all (fun e => am_ck (am_ow 219) (am_md 219) (am_rt 219) (am_nmb 219) (am_T 219).2.1 e) = true := by decide +kernel
theorem dc_219 : ∀ e ∈ (am_T 219).2.2, decode (am_bt 219) e.1 = .ok (e.2.1, e.2.2.1) := am_dc0 (code := am_bt 219) (es := cd_219) wk_219 (by decide +kernel)
theorem ck_224 : (am_T 224).2.2.all (fun e => am_ck (am_ow 224) (am_md 224) (am_rt 224) (am_nmb 224) (am_T 224).2.1 e) = true := by decide +kernel
theorem dc_224 : ∀ e ∈ (am_T 224).2.2, decode (am_bt 224) e.1 = .ok (e.2.1, e.2.2.1) := am_dc0 (code := am_bt 224) (es := cd_224) wk_224 (by decide +kernel)
theorem ck_229 : (am_T 229).2.2.all (fun e => am_ck (am_ow 229) (am_md 229) (am_rt 229) (am_nmb 229) (am_T 229).2.1 e) = true := by decide +kernel
theorem dc_229 : ∀ e ∈ (am_T 229).2.2, decode (am_bt 229) e.1 = .ok (e.2.1, e.2.2.1) := am_dc0 (code := am_bt 229) (es := cd_229) wk_229 (by decide +kernel)
theorem ck_234 : (am_T 234).2.2.all (fun e => am_ck (am_ow 234) (am_md 234) (am_rt 234) (am_nmb 234) (am_T 234).2.1 e) = true := by decide +kernel
theorem dc_234 : ∀ e ∈ (am_T 234).2.2, decode (am_bt 234) e.1 = .ok (e.2.1, e.2.2.1) := am_dc0 (code := am_bt 234) (es := cd_234) wk_234 (by decide +kernel)
theorem ck_239 : (am_T 239).2.2.all (fun e => am_ck (am_ow 239) (am_md 239) (am_rt 239) (am_nmb 239) (am_T 239).2.1 e) = true := by decide +kernel
theorem dc_239 : ∀ e ∈ (am_T 239).2.2, decode (am_bt 239) e.1 = .ok (e.2.1, e.2.2.1) := am_dc1 (code := am_bt 239) (es := cd_239) (os := [(1, .tableswitch 267 1 9 #[51, 70, 89, 117, 150, 182, 200, 217, 246], 51, 0, 0, 0)]) wk_239 (by rfl) (List.forall_mem_cons.mpr ⟨wo_239_1, fun _ h => absurd h List.not_mem_nil⟩)
theorem ck_244 : (am_T 244).2.2.all (fun e => am_ck (am_ow 244) (am_md 244) (am_rt 244) (am_nmb 244) (am_T 244).2.1 e) = true := by decide +kernel
theorem dc_244 : ∀ e ∈ (am_T 244).2.2, decode (am_bt 244) e.1 = .ok (e.2.1, e.2.2.1) := am_dc0 (code := am_bt 244) (es := cd_244) wk_244 (by decide +kernel)
theorem ck_249 : (am_T 249).2.2.all (fun e => am_ck (am_ow 249) (am_md 249) (am_rt 249) (am_nmb 249) (am_T 249).2.1 e) = true := by decide +kernel
theorem dc_249 : ∀ e ∈ (am_T 249).2.2, decode (am_bt 249) e.1 = .ok (e.2.1, e.2.2.1) := am_dc0 (code := am_bt 249) (es := cd_249) wk_249 (by decide +kernel)
theorem ck_254 : (am_T 254).2.2.all (fun e => am_ck (am_ow 254) (am_md 254) (am_rt 254) (am_nmb 254) (am_T 254).2.1 e) = true := by decide +kernel
theorem dc_254 : ∀ e ∈ (am_T 254).2.2, decode (am_bt 254) e.1 = .ok (e.2.1, e.2.2.1) := am_dc0 (code := am_bt 254) (es := cd_254) wk_254 (by decide +kernel)
theorem ck_259 : (am_T 259).2.2.all (fun e => am_ck (am_ow 259) (am_md 259) (am_rt 259) (am_nmb 259) (am_T 259).2.1 e) = true := by decide +kernel
theorem dc_259 : ∀ e ∈ (am_T 259).2.2, decode (am_bt 259) e.1 = .ok (e.2.1, e.2.2.1) := am_dc0 (code := am_bt 259) (es := cd_259) wk_259 (by decide +kernel)
theorem ck_264 : (am_T 264).2.2.all (fun e => am_ck (am_ow 264) (am_md 264) (am_rt 264) (am_nmb 264) (am_T 264).2.1 e) = true := by decide +kernel
theorem dc_264 : ∀ e ∈ (am_T 264).2.2, decode (am_bt 264) e.1 = .ok (e.2.1, e.2.2.1) := am_dc0 (code := am_bt 264) (es := cd_264) wk_264 (by decide +kernel)
theorem ck_269 : (am_T 269).2.2.all (fun e => am_ck (am_ow 269) (am_md 269) (am_rt 269) (am_nmb 269) (am_T 269).2.1 e) = true := by decide +kernel
theorem dc_269 : ∀ e ∈ (am_T 269).2.2, decode (am_bt 269) e.1 = .ok (e.2.1, e.2.2.1) := am_dc0 (code := am_bt 269) (es := cd_269) wk_269 (by decide +kernel)
theorem ck_274 : (am_T 274).2.2.all (fun e => am_ck (am_ow 274) (am_md 274) (am_rt 274) (am_nmb 274) (am_T 274).2.1 e) = true := by decide +kernel
theorem dc_274 : ∀ e ∈ (am_T 274).2.2, decode (am_bt 274) e.1 = .ok (e.2.1, e.2.2.1) := am_dc0 (code := am_bt 274) (es := cd_274) wk_274 (by decide +kernel)
theorem ck_279 : (am_T 279).2.2.all (fun e => am_ck (am_ow 279) (am_md 279) (am_rt 279) (am_nmb 279) (am_T 279).2.1 e) = true := by decide +kernel
theorem dc_279 : ∀ e ∈ (am_T 279).2.2, decode (am_bt 279) e.1 = .ok (e.2.1, e.2.2.1) := am_dc0 (code := am_bt 279) (es := cd_279) wk_279 (by decide +kernel)
theorem ck_284 : (am_T 284).2.2.all (fun e => am_ck (am_ow 284) (am_md 284) (am_rt 284) (am_nmb 284) (am_T 284).2.1 e) = true := by decide +kernel
theorem dc_284 : ∀ e ∈ (am_T 284).2.2, decode (am_bt 284) e.1 = .ok (e.2.1, e.2.2.1) := am_dc0 (code := am_bt 284) (es := cd_284) wk_284 (by decide +kernel)
theorem ck_289 : (am_T 289).2.2.all (fun e => am_ck (am_ow 289) (am_md 289) (am_rt 289) (am_nmb 289) (am_T 289).2.1 e) = true := by decide +kernel
theorem dc_289 : ∀ e ∈ (am_T 289).2.2, decode (am_bt 289) e.1 = .ok (e.2.1, e.2.2.1) := am_dc0 (code := am_bt 289) (es := cd_289) wk_289 (by decide +kernel)
theorem ck_294 : (am_T 294).2.2.all (fun e => am_ck (am_ow 294) (am_md 294) (am_rt 294) (am_nmb 294) (am_T 294).2.1 e) = true := by decide +kernel
theorem dc_294 : ∀ e ∈ (am_T 294).2.2, decode (am_bt 294) e.1 = .ok (e.2.1, e.2.2.1) := am_dc0 (code := am_bt 294) (es := cd_294) wk_294 (by decide +kernel)
theorem ck_299 : (am_T 299).2.2.all (fun e => am_ck (am_ow 299) (am_md 299) (am_rt 299) (am_nmb 299) (am_T 299).2.1 e) = true := by decide +kernel
theorem dc_299 : ∀ e ∈ (am_T 299).2.2, decode (am_bt 299) e.1 = .ok (e.2.1, e.2.2.1) := am_dc1 (code := am_bt 299) (es := cd_299) (os := [(32, .tableswitch 241 0 8 #[52, 66, 79, 96, 112, 143, 178, 241, 205], 52, 0, 0, 0)]) wk_299 (by rfl) (List.forall_mem_cons.mpr ⟨wo_299_32, fun _ h => absurd h List.not_mem_nil⟩)
theorem ck_304 : (am_T 304).2.2.all (fun e => am_ck (am_ow 304) (am_md 304) (am_rt 304) (am_nmb 304) (am_T 304).2.1 e) = true := by decide +kernel
theorem dc_304 : ∀ e ∈ (am_T 304).2.2, decode (am_bt 304) e.1 = .ok (e.2.1, e.2.2.1) := am_dc0 (code := am_bt 304) (es := cd_304) wk_304 (by decide +kernel)
theorem ck_309 : (am_T 309).2.2.all (fun e => am_ck (am_ow 309) (am_md 309) (am_rt 309) (am_nmb 309) (am_T 309).2.1 e) = true := by decide +kernel
theorem dc_309 : ∀ e ∈ (am_T 309).2.2, decode (am_bt 309) e.1 = .ok (e.2.1, e.2.2.1) := am_dc0 (code := am_bt 309) (es := cd_309) wk_309 (by decide +kernel)
theorem ck_314 : (am_T 314).2.2.all (fun e => am_ck (am_ow 314) (am_md 314) (am_rt 314) (am_nmb 314) (am_T 314).2.1 e) = true := by decide +kernel
theorem dc_314 : ∀ e ∈ (am_T 314).2.2, decode (am_bt 314) e.1 = .ok (e.2.1, e.2.2.1) := am_dc0 (code := am_bt 314) (es := cd_314) wk_314 (by decide +kernel)
theorem ck_319 : (am_T 319).2.2.all (fun e => am_ck (am_ow 319) (am_md 319) (am_rt 319) (am_nmb 319) (am_T 319).2.1 e) = true := by decide +kernel
theorem dc_319 : ∀ e ∈ (am_T 319).2.2, decode (am_bt 319) e.1 = .ok (e.2.1, e.2.2.1) := am_dc0 (code := am_bt 319) (es := cd_319) wk_319 (by decide +kernel)
theorem ck_324 : (am_T 324).2.2.all (fun e => am_ck (am_ow 324) (am_md 324) (am_rt 324) (am_nmb 324) (am_T 324).2.1 e) = true := by decide +kernel
theorem dc_324 : ∀ e ∈ (am_T 324).2.2, decode (am_bt 324) e.1 = .ok (e.2.1, e.2.2.1) := am_dc0 (code := am_bt 324) (es := cd_324) wk_324 (by decide +kernel)
theorem ck_329 : (am_T 329).2.2.all (fun e => am_ck (am_ow 329) (am_md 329) (am_rt 329) (am_nmb 329) (am_T 329).2.1 e) = true := by decide +kernel
theorem dc_329 : ∀ e ∈ (am_T 329).2.2, decode (am_bt 329) e.1 = .ok (e.2.1, e.2.2.1) := am_dc0 (code := am_bt 329) (es := cd_329) wk_329 (by decide +kernel)
theorem ck_334 : (am_T 334).2.2.all (fun e => am_ck (am_ow 334) (am_md 334) (am_rt 334) (am_nmb 334) (am_T 334).2.1 e) = true := by decide +kernel
theorem dc_334 : ∀ e ∈ (am_T 334).2.2, decode (am_bt 334) e.1 = .ok (e.2.1, e.2.2.1) := am_dc0 (code := am_bt 334) (es := cd_334) wk_334 (by decide +kernel)
