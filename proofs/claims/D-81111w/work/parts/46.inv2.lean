/-! FROM AN ABSTRACT STEP TO THE MACHINE's: calls; by tools/gencall.py -/
set_option maxRecDepth 100000
/-- how many arguments a method takes -/
def am_np (y : Nat) : Nat := (bif Nat.ble y 171 then (bif Nat.ble y 89 then (bif Nat.ble y 48 then (bif Nat.ble y 27 then (bif Nat.ble y 10 then (bif Nat.ble y 5 then (bif Nat.ble y 2 then (bif Nat.ble y 1 then 1 else 1) else (bif Nat.ble y 3 then 1 else (bif Nat.ble y 4 then 1 else 1))) else (bif Nat.ble y 7 then (bif Nat.ble y 6 then 0 else 0) else (bif Nat.ble y 8 then 0 else (bif Nat.ble y 9 then 0 else 0)))) else (bif Nat.ble y 22 then (bif Nat.ble y 12 then (bif Nat.ble y 11 then 0 else 0) else (bif Nat.ble y 20 then 0 else (bif Nat.ble y 21 then 0 else 1))) else (bif Nat.ble y 24 then (bif Nat.ble y 23 then 0 else 2) else (bif Nat.ble y 25 then 2 else (bif Nat.ble y 26 then 3 else 2))))) else (bif Nat.ble y 38 then (bif Nat.ble y 33 then (bif Nat.ble y 29 then (bif Nat.ble y 28 then 2 else 1) else (bif Nat.ble y 31 then 0 else (bif Nat.ble y 32 then 0 else 1))) else (bif Nat.ble y 35 then (bif Nat.ble y 34 then 1 else 1) else (bif Nat.ble y 36 then 1 else (bif Nat.ble y 37 then 3 else 2)))) else (bif Nat.ble y 43 then (bif Nat.ble y 40 then (bif Nat.ble y 39 then 3 else 1) else (bif Nat.ble y 41 then 0 else (bif Nat.ble y 42 then 1 else 0))) else (bif Nat.ble y 45 then (bif Nat.ble y 44 then 0 else 1) else (bif Nat.ble y 46 then 1 else (bif Nat.ble y 47 then 1 else 3)))))) else (bif Nat.ble y 68 then (bif Nat.ble y 58 then (bif Nat.ble y 53 then (bif Nat.ble y 50 then (bif Nat.ble y 49 then 2 else 2) else (bif Nat.ble y 51 then 1 else (bif Nat.ble y 52 then 1 else 2))) else (bif Nat.ble y 55 then (bif Nat.ble y 54 then 1 else 0) else (bif Nat.ble y 56 then 1 else (bif Nat.ble y 57 then 0 else 2)))) else (bif Nat.ble y 63 then (bif Nat.ble y 60 then (bif Nat.ble y 59 then 1 else 1) else (bif Nat.ble y 61 then 2 else (bif Nat.ble y 62 then 2 else 2))) else (bif Nat.ble y 65 then (bif Nat.ble y 64 then 1 else 3) else (bif Nat.ble y 66 then 2 else (bif Nat.ble y 67 then 2 else 1))))) else (bif Nat.ble y 78 then (bif Nat.ble y 73 then (bif Nat.ble y 70 then (bif Nat.ble y 69 then 1 else 1) else (bif Nat.ble y 71 then 1 else (bif Nat.ble y 72 then 1 else 1))) else (bif Nat.ble y 75 then (bif Nat.ble y 74 then 1 else 1) else (bif Nat.ble y 76 then 1 else (bif Nat.ble y 77 then 2 else 3)))) else (bif Nat.ble y 83 then (bif Nat.ble y 80 then (bif Nat.ble y 79 then 1 else 2) else (bif Nat.ble y 81 then 3 else (bif Nat.ble y 82 then 2 else 2))) else (bif Nat.ble y 86 then (bif Nat.ble y 84 then 3 else (bif Nat.ble y 85 then 1 else 2)) else (bif Nat.ble y 87 then 2 else (bif Nat.ble y 88 then 4 else 3))))))) else (bif Nat.ble y 130 then (bif Nat.ble y 109 then (bif Nat.ble y 99 then (bif Nat.ble y 94 then (bif Nat.ble y 91 then (bif Nat.ble y 90 then 3 else 2) else (bif Nat.ble y 92 then 2 else (bif Nat.ble y 93 then 5 else 1))) else (bif Nat.ble y 96 then (bif Nat.ble y 95 then 1 else 2) else (bif Nat.ble y 97 then 1 else (bif Nat.ble y 98 then 3 else 1)))) else (bif Nat.ble y 104 then (bif Nat.ble y 101 then (bif Nat.ble y 100 then 2 else 2) else (bif Nat.ble y 102 then 2 else (bif Nat.ble y 103 then 3 else 2))) else (bif Nat.ble y 106 then (bif Nat.ble y 105 then 1 else 2) else (bif Nat.ble y 107 then 3 else (bif Nat.ble y 108 then 2 else 2))))) else (bif Nat.ble y 119 then (bif Nat.ble y 114 then (bif Nat.ble y 111 then (bif Nat.ble y 110 then 2 else 2) else (bif Nat.ble y 112 then 2 else (bif Nat.ble y 113 then 3 else 3))) else (bif Nat.ble y 116 then (bif Nat.ble y 115 then 2 else 2) else (bif Nat.ble y 117 then 2 else (bif Nat.ble y 118 then 1 else 4)))) else (bif Nat.ble y 124 then (bif Nat.ble y 121 then (bif Nat.ble y 120 then 3 else 2) else (bif Nat.ble y 122 then 0 else (bif Nat.ble y 123 then 1 else 2))) else (bif Nat.ble y 127 then (bif Nat.ble y 125 then 0 else (bif Nat.ble y 126 then 1 else 1)) else (bif Nat.ble y 128 then 0 else (bif Nat.ble y 129 then 1 else 1)))))) else (bif Nat.ble y 150 then (bif Nat.ble y 140 then (bif Nat.ble y 135 then (bif Nat.ble y 132 then (bif Nat.ble y 131 then 1 else 2) else (bif Nat.ble y 133 then 2 else (bif Nat.ble y 134 then 2 else 0))) else (bif Nat.ble y 137 then (bif Nat.ble y 136 then 0 else 1) else (bif Nat.ble y 138 then 1 else (bif Nat.ble y 139 then 1 else 1)))) else (bif Nat.ble y 145 then (bif Nat.ble y 142 then (bif Nat.ble y 141 then 4 else 2) else (bif Nat.ble y 143 then 3 else (bif Nat.ble y 144 then 3 else 0))) else (bif Nat.ble y 147 then (bif Nat.ble y 146 then 1 else 1) else (bif Nat.ble y 148 then 2 else (bif Nat.ble y 149 then 1 else 1))))) else (bif Nat.ble y 160 then (bif Nat.ble y 155 then (bif Nat.ble y 152 then (bif Nat.ble y 151 then 2 else 1) else (bif Nat.ble y 153 then 2 else (bif Nat.ble y 154 then 2 else 0))) else (bif Nat.ble y 157 then (bif Nat.ble y 156 then 2 else 1) else (bif Nat.ble y 158 then 1 else (bif Nat.ble y 159 then 1 else 0)))) else (bif Nat.ble y 165 then (bif Nat.ble y 162 then (bif Nat.ble y 161 then 0 else 2) else (bif Nat.ble y 163 then 0 else (bif Nat.ble y 164 then 5 else 0))) else (bif Nat.ble y 168 then (bif Nat.ble y 166 then 0 else (bif Nat.ble y 167 then 0 else 0)) else (bif Nat.ble y 169 then 0 else (bif Nat.ble y 170 then 0 else 0)))))))) else (bif Nat.ble y 253 then (bif Nat.ble y 212 then (bif Nat.ble y 191 then (bif Nat.ble y 181 then (bif Nat.ble y 176 then (bif Nat.ble y 173 then (bif Nat.ble y 172 then 0 else 1) else (bif Nat.ble y 174 then 3 else (bif Nat.ble y 175 then 2 else 1))) else (bif Nat.ble y 178 then (bif Nat.ble y 177 then 0 else 1) else (bif Nat.ble y 179 then 0 else (bif Nat.ble y 180 then 0 else 1)))) else (bif Nat.ble y 186 then (bif Nat.ble y 183 then (bif Nat.ble y 182 then 1 else 2) else (bif Nat.ble y 184 then 4 else (bif Nat.ble y 185 then 2 else 2))) else (bif Nat.ble y 188 then (bif Nat.ble y 187 then 3 else 3) else (bif Nat.ble y 189 then 1 else (bif Nat.ble y 190 then 1 else 0))))) else (bif Nat.ble y 201 then (bif Nat.ble y 196 then (bif Nat.ble y 193 then (bif Nat.ble y 192 then 0 else 0) else (bif Nat.ble y 194 then 0 else (bif Nat.ble y 195 then 1 else 1))) else (bif Nat.ble y 198 then (bif Nat.ble y 197 then 0 else 1) else (bif Nat.ble y 199 then 0 else (bif Nat.ble y 200 then 3 else 1)))) else (bif Nat.ble y 206 then (bif Nat.ble y 203 then (bif Nat.ble y 202 then 0 else 0) else (bif Nat.ble y 204 then 2 else (bif Nat.ble y 205 then 1 else 1))) else (bif Nat.ble y 209 then (bif Nat.ble y 207 then 0 else (bif Nat.ble y 208 then 1 else 1)) else (bif Nat.ble y 210 then 2 else (bif Nat.ble y 211 then 2 else 1)))))) else (bif Nat.ble y 232 then (bif Nat.ble y 222 then (bif Nat.ble y 217 then (bif Nat.ble y 214 then (bif Nat.ble y 213 then 2 else 2) else (bif Nat.ble y 215 then 1 else (bif Nat.ble y 216 then 0 else 2))) else (bif Nat.ble y 219 then (bif Nat.ble y 218 then 0 else 2) else (bif Nat.ble y 220 then 0 else (bif Nat.ble y 221 then 2 else 1)))) else (bif Nat.ble y 227 then (bif Nat.ble y 224 then (bif Nat.ble y 223 then 2 else 1) else (bif Nat.ble y 225 then 3 else (bif Nat.ble y 226 then 1 else 1))) else (bif Nat.ble y 229 then (bif Nat.ble y 228 then 1 else 1) else (bif Nat.ble y 230 then 1 else (bif Nat.ble y 231 then 1 else 2))))) else (bif Nat.ble y 242 then (bif Nat.ble y 237 then (bif Nat.ble y 234 then (bif Nat.ble y 233 then 1 else 1) else (bif Nat.ble y 235 then 2 else (bif Nat.ble y 236 then 3 else 1))) else (bif Nat.ble y 239 then (bif Nat.ble y 238 then 2 else 5) else (bif Nat.ble y 240 then 2 else (bif Nat.ble y 241 then 1 else 2)))) else (bif Nat.ble y 247 then (bif Nat.ble y 244 then (bif Nat.ble y 243 then 4 else 2) else (bif Nat.ble y 245 then 2 else (bif Nat.ble y 246 then 5 else 2))) else (bif Nat.ble y 250 then (bif Nat.ble y 248 then 3 else (bif Nat.ble y 249 then 4 else 2)) else (bif Nat.ble y 251 then 2 else (bif Nat.ble y 252 then 5 else 1))))))) else (bif Nat.ble y 294 then (bif Nat.ble y 273 then (bif Nat.ble y 263 then (bif Nat.ble y 258 then (bif Nat.ble y 255 then (bif Nat.ble y 254 then 1 else 2) else (bif Nat.ble y 256 then 3 else (bif Nat.ble y 257 then 2 else 2))) else (bif Nat.ble y 260 then (bif Nat.ble y 259 then 2 else 3) else (bif Nat.ble y 261 then 2 else (bif Nat.ble y 262 then 2 else 2)))) else (bif Nat.ble y 268 then (bif Nat.ble y 265 then (bif Nat.ble y 264 then 1 else 2) else (bif Nat.ble y 266 then 3 else (bif Nat.ble y 267 then 2 else 2))) else (bif Nat.ble y 270 then (bif Nat.ble y 269 then 2 else 2) else (bif Nat.ble y 271 then 2 else (bif Nat.ble y 272 then 2 else 3))))) else (bif Nat.ble y 283 then (bif Nat.ble y 278 then (bif Nat.ble y 275 then (bif Nat.ble y 274 then 2 else 3) else (bif Nat.ble y 276 then 2 else (bif Nat.ble y 277 then 3 else 2))) else (bif Nat.ble y 280 then (bif Nat.ble y 279 then 2 else 1) else (bif Nat.ble y 281 then 2 else (bif Nat.ble y 282 then 0 else 0)))) else (bif Nat.ble y 288 then (bif Nat.ble y 285 then (bif Nat.ble y 284 then 1 else 1) else (bif Nat.ble y 286 then 0 else (bif Nat.ble y 287 then 0 else 0))) else (bif Nat.ble y 291 then (bif Nat.ble y 289 then 4 else (bif Nat.ble y 290 then 0 else 0)) else (bif Nat.ble y 292 then 0 else (bif Nat.ble y 293 then 0 else 1)))))) else (bif Nat.ble y 314 then (bif Nat.ble y 304 then (bif Nat.ble y 299 then (bif Nat.ble y 296 then (bif Nat.ble y 295 then 1 else 4) else (bif Nat.ble y 297 then 2 else (bif Nat.ble y 298 then 2 else 1))) else (bif Nat.ble y 301 then (bif Nat.ble y 300 then 2 else 1) else (bif Nat.ble y 302 then 2 else (bif Nat.ble y 303 then 2 else 2)))) else (bif Nat.ble y 309 then (bif Nat.ble y 306 then (bif Nat.ble y 305 then 1 else 0) else (bif Nat.ble y 307 then 0 else (bif Nat.ble y 308 then 1 else 1))) else (bif Nat.ble y 311 then (bif Nat.ble y 310 then 1 else 4) else (bif Nat.ble y 312 then 1 else (bif Nat.ble y 313 then 1 else 2))))) else (bif Nat.ble y 324 then (bif Nat.ble y 319 then (bif Nat.ble y 316 then (bif Nat.ble y 315 then 3 else 3) else (bif Nat.ble y 317 then 0 else (bif Nat.ble y 318 then 1 else 4))) else (bif Nat.ble y 321 then (bif Nat.ble y 320 then 0 else 1) else (bif Nat.ble y 322 then 2 else (bif Nat.ble y 323 then 1 else 1)))) else (bif Nat.ble y 329 then (bif Nat.ble y 326 then (bif Nat.ble y 325 then 1 else 1) else (bif Nat.ble y 327 then 4 else (bif Nat.ble y 328 then 1 else 1))) else (bif Nat.ble y 332 then (bif Nat.ble y 330 then 1 else (bif Nat.ble y 331 then 1 else 3)) else (bif Nat.ble y 333 then 3 else (bif Nat.ble y 334 then 4 else 5)))))))))
theorem am_np_ok : ∀ y ∈ am_ys, (parseMethodDescriptor (am_mn y).desc).map (fun d => d.parameters.length) = some (am_np y) := by decide +kernel
/-- the tags that an object of class k may have -/
def am_tg (k : Nat) : List Int := match k with
  | 12 => [13, 14, 15, 16, 17]
  | 18 => [5, 7, 8, 10]
  | 19 => [8, 10]
  | k => [(k : Int)]
theorem am_tg_ok {k : Nat} {t : Int} (h : am_ok (k : Int) t) : t ∈ am_tg k := by
  unfold am_tg
  split
  · have h' : 13 ≤ t ∧ t ≤ 17 := h
    simp only [List.mem_cons, List.not_mem_nil, or_false]
    omega
  · have h' : t = 5 ∨ t = 7 ∨ t = 8 ∨ t = 10 := h
    simp only [List.mem_cons, List.not_mem_nil, or_false]
    omega
  · have h' : t = 8 ∨ t = 10 := h
    simp only [List.mem_cons, List.not_mem_nil, or_false]
    omega
  · next h12 h18 h19 =>
    have := am_ok_eq (x := (k : Int)) (t := t) ⟨fun z => h12 (by omega), fun z => h18 (by omega), fun z => h19 (by omega)⟩ h
    simp [this]
/-- invokevirtual idx in class o on an object of tag t runs method y -/
def am_vo (o idx : Nat) (t : Int) (y : Nat) : Bool := decide (y ∈ am_ys) && am_isO t && decide (y ∈ am_iT) &&
  ((decide ((t, y) ∈ am_sT) && (decide ((o, idx, y) ∈ am_mT) || decide ((o, idx, y) ∈ am_mN))) || (decide ((o, idx, t.toNat, y) ∈ am_uT) && decide (am_on t.toNat = am_cN t) && decide ((⟨"ArmsHouse$Node", (am_mn y).name, (am_mn y).desc⟩ : MethodName) ∈ am_dl)) || (Nat.beq o 12 && Nat.beq idx 24 && decide ((t, y) ∈ am_wT)))
/-- invokeinterface idx in class o on an object of tag t runs method y -/
def am_fo (o idx : Nat) (t : Int) (y : Nat) : Bool := decide (y ∈ am_ys) && am_isO t && decide (y ∈ am_iT) && am_fc.any (fun q => decide (q.1 = t) && Nat.beq q.2.2 y && decide (Jvm.Cond.methodLink (am_on o) idx q.2.1 ∈ lw_all) && (decide (Jvm.Cond.selects (am_cN t) q.2.1 (am_mn y) ∈ lw_all) || (decide (q.2.1 = am_tin) && Nat.beq y 8 && decide (am_cN t ∈ am_df))))
theorem am_wk_desc : ∀ y ∈ ([1, 2, 3, 4, 5] : List Nat), (am_mn y).desc = am_wk.desc := by decide +kernel
theorem am_fc_desc : ∀ q ∈ am_fc, (am_mn q.2.2).desc = q.2.1.desc ∧ (q.2.1.cls ≠ "java/lang/invoke/MethodHandle" ∧ q.2.1.cls ≠ "java/lang/invoke/VarHandle") := by decide +kernel
theorem am_wT_y : ∀ q ∈ am_wT, q.2 ∈ ([1, 2, 3, 4, 5] : List Nat) := by decide +kernel
section Inv2
variable {p : Program} {l : Launch} {e : Env} {R : Room} {s : State} {m : MethodId} {args : Array Value} {below : List Frame} {meth : Method} {c : Code} {cc : ByteArray} {s0 : State} {ad : Int → Nat} {fm : Value} {cid : Int → ClassId} {slo : Int → Nat → Nat} {mm : aM} {H : Heap} {pc idx o y : Nat} {ls : Array Slot} {r as : List aV} {mk : MethodId} {methk : Method} {ck : Code} {t a : Int}
theorem am_len {n : Nat} (hy : y ∈ am_ys) (hn : as.length = n) (hnp : am_np y = n) : ∀ sig, parseMethodDescriptor (am_mn y).desc = some sig → (as.map (am_c ad fm)).length = sig.parameters.length := by
  intro sig hs
  have h := am_np_ok y hy
  rw [hs] at h
  rw [List.length_map, hn, ← hnp]
  exact (Option.some.inj h).symm
/-- the stack ahead of the call -/
theorem am_stk (as r : List aV) (a : Int) (h0 : am_rv ad fm a = .ref (ad a)) : (as.reverse ++ aR a :: r).map (am_c ad fm) = (as.map (am_c ad fm)).reverse ++ .ref (ad a) :: r.map (am_c ad fm) := by
  rw [List.map_append, List.map_cons, List.map_reverse, show am_c ad fm (aR a) = am_rv ad fm a from rfl, h0]
theorem am_vo_inv (hx : p.tables.exec = Jvm.exec) (hb : c.code = cc) (X : am_Wd s0 ad fm cid slo s) (hown : s.vm.findClass (am_on o) = some m.cls) (hM : am_MX cid s y mk methk ck) (hvo : am_vo o idx t y = true) (ht : mm a (-1) = t) (hnp : am_np y = as.length) (hd : decode cc pc = .ok (.invokevirtual idx, 3)) (hR : am_Rep s0 ad fm cid slo am_cF am_ft mm H) :
    am_Inv p l e R s m args below meth c H (F0 m pc ls ((as.reverse ++ aR a :: r).map (am_c ad fm))) pc ls (r.map (am_c ad fm)) mk ((aR a :: as).map (am_c ad fm)).toArray := by
  unfold am_vo at hvo
  simp only [Bool.and_eq_true, Bool.or_eq_true, decide_eq_true_eq] at hvo
  obtain ⟨⟨⟨hy, ho⟩, hi⟩, hvo⟩ := hvo
  have hne : mm a (-1) ≠ 0 := by
    intro z
    rw [ht] at z
    rw [z] at ho
    exact absurd ho (by decide)
  obtain ⟨cell, c1, c2, c3⟩ := hR.of hne
  rw [ht] at c3
  have hrv := (hR.rv hne).1
  have hcls : s.vm.findClass (am_cN t) = some cell.cls := by rw [c3]; exact (X.kn t ho).2.1
  have hnh := (am_plain y hy).2.2
  rw [am_stk as r a hrv, List.map_cons, show am_c ad fm (aR a) = am_rv ad fm a from rfl, hrv]
  rcases hvo with (⟨hs, hl⟩ | ⟨⟨hu, hcn⟩, hdl⟩) | ⟨⟨ho12, hi24⟩, hw⟩
  · refine am_i_virtual hx hb hown hM.1 ?_ (X.words args _ (am_iT_ok _ hi)) (X.words args _ (am_sT_ok _ hs)) hnh c1 c2 hcls (am_len hy rfl hnp) hd
    rcases hl with hl | hl
    · exact Or.inl (X.words args _ (am_mT_ok _ hl))
    · exact Or.inr ⟨_, va_Nw.use rfl (X.nM _ hl)⟩
  · obtain ⟨u1, u2, u3⟩ := am_uT_ok _ hu
    simp only at u1 u2 u3
    refine am_i_up hx hb hown hM.1 (x := ⟨am_on t.toNat, (am_mn y).name, (am_mn y).desc⟩) (owner := "ArmsHouse$Node") (C := am_cN t) (X.words args _ u1) (X.words args _ u2) (va_Decl.abs (X.decls _ hdl)) (by decide) (by rw [← hcn]; exact X.words args _ u3) (X.words args _ (am_iT_ok _ hi)) c1 c2 hcls (am_len hy rfl hnp) hd
  · have e1 := Nat.eq_of_beq_eq_true ho12
    have e2 := Nat.eq_of_beq_eq_true hi24
    subst e1
    subst e2
    have hdesc := am_wk_desc y (am_wT_y _ hw)
    refine am_i_up hx hb hown hM.1 (x := am_wk) (owner := "ArmsHouse$Node") (C := am_cN t) (X.words args _ am_wk_link) (X.words args _ am_wk_same) (va_Decl.abs (X.decls am_wk (by decide +kernel))) (by decide) (X.words args _ (am_wT_ok _ hw)) (X.words args _ (am_iT_ok _ hi)) c1 c2 hcls (by rw [← hdesc]; exact am_len hy rfl hnp) hd
theorem am_i_face2 (hx : p.tables.exec = Jvm.exec) (hb : c.code = cc) {own : String} {argsL rest : List Value} {yn : MethodName} {bk : ByteArray} {maxL : Nat} {ret : Option FieldType} (hown : s.vm.findClass own = some m.cls) (hM : am_MD s yn mk methk ck bk maxL ret) {x : MethodName} {C : String} {count : Nat} (hlink : (Jvm.Cond.methodLink own idx x).before args s = true) (hF : va_Fw C x yn s) (hsel : ∃ c2 r2, s.vm.findClass C = some c2 ∧ s.methodFound? x.cls x.name x.desc = some r2 ∧ selectMethod {} s.vm c2 r2 = .method mk) (hinst : (Jvm.Cond.instanceMethod yn).before args s = true) (hnx : am_nMH x)
    {b : Addr} {cellB : Cell} {kB : Class} (hcell : H[b]? = some cellB) (hobj : cellB.vm.isStatics = false) (hcls : s.vm.findClass C = some cellB.cls) (hkB : s.vm.classes[cellB.cls]? = some kB)
    (hlen : ∀ sig, parseMethodDescriptor x.desc = some sig → argsL.length = sig.parameters.length) (hd : decode cc pc = .ok (.invokeinterface idx count, 5)) : am_Inv p l e R s m args below meth c H (F0 m pc ls (argsL.reverse ++ .ref b :: rest)) pc ls rest mk (.ref b :: argsL).toArray := by
  intro locs cells slots T hT X
  obtain ⟨h1, h2, h3, h4, h5, h6, h7, h8⟩ := hM
  obtain ⟨hdecl, hface, hpub, hunh, hcast⟩ := hF
  obtain ⟨r0, r, hn, hrm, hstR, hsigR⟩ := Cond.declares_spec hdecl
  obtain ⟨cL, kL, r1, hcL, hkL, hiL, hfoundL, hn1⟩ := Cond.interfaceMethod_spec hface
  cases hn.symm.trans hn1
  have hr0cls : r0.cls = cL := Option.some.inj ((findClass_of_methodNamed hn).symm.trans hcL)
  obtain ⟨hnameR, hdescR⟩ := name_of_methodNamed hn hrm
  obtain ⟨mk', methM, hnamed, hmethM, -, habM⟩ := Cond.instanceMethod_spec hinst
  cases h1.symm.trans hnamed
  cases h2.symm.trans hmethM
  obtain ⟨c2, r2, q1, q2, q4⟩ := hsel
  cases hcls.symm.trans q1
  cases hfoundL.symm.trans q2
  have hselP : selectMethod e.platform s.vm cellB.cls r0 = .method mk := by rw [Launch.admits_selectMethod X.admits]; exact q4
  have hpubM : hasFlag methk.accessFlags Acc.public_ = true := Cond.publicMethod_spec h1 h2 hpub
  have hway : ((cellB.cls :: s.vm.superclasses cellB.cls).any fun k => (declaredIn s.vm r.name r.desc k).any fun (_, z) => z.isPrivate || z.isStatic) = false := by
    rw [hnameR, hdescR]; exact Cond.unhidden_spec hcls hunh
  obtain ⟨c3, t3, w1, w2, w3⟩ := Cond.castable_spec hcast
  cases hcls.symm.trans w1
  cases hcL.symm.trans w2
  obtain ⟨vm', X1, st⟩ := X.invokeinterface hx hown hlink hn hrm hstR (by rw [hr0cls]; exact hkL) hiL hnx (a := b) (cell := cellB) (kcell := kB) (by rw [hT]; exact hcell) (VmData.ne_statics_of hobj) hkB (by rw [hr0cls]; exact w3) hselP h2 hway hpubM habM (g := F0 m pc ls (argsL.reverse ++ .ref b :: rest)) rfl (argsL := argsL) (rest := rest) (hlen _ hsigR) rfl (by rw [hb]; exact hd)
  exact ⟨vm', X1, st⟩
theorem am_fo_inv {count : Nat} (hx : p.tables.exec = Jvm.exec) (hb : c.code = cc) (X : am_Wd s0 ad fm cid slo s) (hown : s.vm.findClass (am_on o) = some m.cls) (hM : am_MX cid s y mk methk ck) (hfo : am_fo o idx t y = true) (ht : mm a (-1) = t) (hnp : am_np y = 0) (hd : decode cc pc = .ok (.invokeinterface idx count, 5)) (hR : am_Rep s0 ad fm cid slo am_cF am_ft mm H) :
    am_Inv p l e R s m args below meth c H (F0 m pc ls ((aR a :: r).map (am_c ad fm))) pc ls (r.map (am_c ad fm)) mk (([aR a] : List aV).map (am_c ad fm)).toArray := by
  unfold am_fo at hfo
  simp only [Bool.and_eq_true, decide_eq_true_eq] at hfo
  obtain ⟨⟨⟨hy, ho⟩, hi⟩, hfo⟩ := hfo
  obtain ⟨q, hq, hfo⟩ := List.any_eq_true.mp hfo
  simp only [Bool.and_eq_true, Bool.or_eq_true, decide_eq_true_eq] at hfo
  obtain ⟨⟨⟨q1, q2⟩, q3⟩, q4⟩ := hfo
  have q2 := Nat.eq_of_beq_eq_true q2
  have hne : mm a (-1) ≠ 0 := by
    intro z
    rw [ht] at z
    rw [z] at ho
    exact absurd ho (by decide)
  obtain ⟨cell, c1, c2, c3⟩ := hR.of hne
  rw [ht] at c3
  have hrv := (hR.rv hne).1
  have hcls : s.vm.findClass (am_cN t) = some cell.cls := by rw [c3]; exact (X.kn t ho).2.1
  obtain ⟨kB, hkB⟩ := am_clsAt hcls
  have hF := X.faces q hq
  rw [q1, q2] at hF
  obtain ⟨d1, d2⟩ := am_fc_desc q hq
  rw [q2] at d1
  rw [show (aR a :: r).map (am_c ad fm) = ([] : List Value).reverse ++ .ref (ad a) :: r.map (am_c ad fm) from by rw [List.map_cons, show am_c ad fm (aR a) = am_rv ad fm a from rfl, hrv]; rfl, List.map_cons, List.map_nil, show am_c ad fm (aR a) = am_rv ad fm a from rfl, hrv]
  refine am_i_face2 hx hb hown hM.1 (X.words args _ q3) hF ?_ (X.words args _ (am_iT_ok _ hi)) d2 c1 c2 hcls hkB (by rw [← d1]; exact am_len (ad := ad) (fm := fm) (as := []) hy rfl hnp) hd
  rcases q4 with q4 | ⟨⟨e1, e2⟩, e3⟩
  · obtain ⟨cc2, r2, m2, p1, p2, p3, p4, -⟩ := Cond.selects_spec (X.words args _ q4)
    cases hM.1.1.symm.trans p3
    exact ⟨cc2, r2, p1, p2, p4⟩
  · have e2 := Nat.eq_of_beq_eq_true e2
    obtain ⟨cc2, r2, m2, p1, p2, p3, p4⟩ := X.dflt _ e3
    rw [e1]
    have p3' : s.methodNamed? (am_mn y) = some m2 := by rw [e2]; exact p3
    cases hM.1.1.symm.trans p3'
    exact ⟨cc2, r2, p1, p2, p4⟩
end Inv2
