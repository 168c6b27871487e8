set_option maxRecDepth 100000
theorem dX1_init_0 : decode cX1_init 0 = .ok (.aload_n 0, 1) := by decide +kernel
theorem dX1_init_1 : decode cX1_init 1 = .ok (.invokespecial 9, 3) := by decide +kernel
theorem dX1_init_4 : decode cX1_init 4 = .ok (.aload_n 0, 1) := by decide +kernel
theorem dX1_init_5 : decode cX1_init 5 = .ok (.new 15, 3) := by decide +kernel
theorem dX1_init_8 : decode cX1_init 8 = .ok (.dup, 1) := by decide +kernel
theorem dX1_init_9 : decode cX1_init 9 = .ok (.invokespecial 17, 3) := by decide +kernel
theorem dX1_init_12 : decode cX1_init 12 = .ok (.putfield 18, 3) := by decide +kernel
theorem dX1_init_15 : decode cX1_init 15 = .ok (.aload_n 0, 1) := by decide +kernel
theorem dX1_init_16 : decode cX1_init 16 = .ok (.bipush 8, 2) := by decide +kernel
theorem dX1_init_18 : decode cX1_init 18 = .ok (.anewarray 22, 3) := by decide +kernel
theorem dX1_init_21 : decode cX1_init 21 = .ok (.putfield 24, 3) := by decide +kernel
theorem dX1_init_24 : decode cX1_init 24 = .ok (.aload_n 0, 1) := by decide +kernel
theorem dX1_init_25 : decode cX1_init 25 = .ok (.sipush 160, 3) := by decide +kernel
theorem dX1_init_28 : decode cX1_init 28 = .ok (.newarray .byte, 2) := by decide +kernel
theorem dX1_init_30 : decode cX1_init 30 = .ok (.putfield 28, 3) := by decide +kernel
theorem dX1_init_33 : decode cX1_init 33 = .ok (.aload_n 0, 1) := by decide +kernel
theorem dX1_init_34 : decode cX1_init 34 = .ok (.bipush 12, 2) := by decide +kernel
theorem dX1_init_36 : decode cX1_init 36 = .ok (.anewarray 32, 3) := by decide +kernel
theorem dX1_init_39 : decode cX1_init 39 = .ok (.putfield 34, 3) := by decide +kernel
theorem dX1_init_42 : decode cX1_init 42 = .ok (.aload_n 0, 1) := by decide +kernel
theorem dX1_init_43 : decode cX1_init 43 = .ok (.bipush 6, 2) := by decide +kernel
theorem dX1_init_45 : decode cX1_init 45 = .ok (.newarray .int, 2) := by decide +kernel
theorem dX1_init_47 : decode cX1_init 47 = .ok (.putfield 38, 3) := by decide +kernel
theorem dX1_init_50 : decode cX1_init 50 = .ok (.aload_n 0, 1) := by decide +kernel
theorem dX1_init_51 : decode cX1_init 51 = .ok (.bipush 8, 2) := by decide +kernel
theorem dX1_init_53 : decode cX1_init 53 = .ok (.newarray .int, 2) := by decide +kernel
theorem dX1_init_55 : decode cX1_init 55 = .ok (.putfield 42, 3) := by decide +kernel
theorem dX1_init_58 : decode cX1_init 58 = .ok (.aload_n 0, 1) := by decide +kernel
theorem dX1_init_59 : decode cX1_init 59 = .ok (.bipush 8, 2) := by decide +kernel
theorem dX1_init_61 : decode cX1_init 61 = .ok (.newarray .int, 2) := by decide +kernel
theorem dX1_init_63 : decode cX1_init 63 = .ok (.putfield 45, 3) := by decide +kernel
theorem dX1_init_66 : decode cX1_init 66 = .ok (.aload_n 0, 1) := by decide +kernel
theorem dX1_init_67 : decode cX1_init 67 = .ok (.bipush 8, 2) := by decide +kernel
theorem dX1_init_69 : decode cX1_init 69 = .ok (.newarray .int, 2) := by decide +kernel
theorem dX1_init_71 : decode cX1_init 71 = .ok (.putfield 48, 3) := by decide +kernel
theorem dX1_init_74 : decode cX1_init 74 = .ok (.aload_n 0, 1) := by decide +kernel
theorem dX1_init_75 : decode cX1_init 75 = .ok (.bipush 8, 2) := by decide +kernel
theorem dX1_init_77 : decode cX1_init 77 = .ok (.newarray .int, 2) := by decide +kernel
theorem dX1_init_79 : decode cX1_init 79 = .ok (.putfield 51, 3) := by decide +kernel
theorem dX1_init_82 : decode cX1_init 82 = .ok (.aload_n 0, 1) := by decide +kernel
theorem dX1_init_83 : decode cX1_init 83 = .ok (.bipush 8, 2) := by decide +kernel
theorem dX1_init_85 : decode cX1_init 85 = .ok (.newarray .int, 2) := by decide +kernel
theorem dX1_init_87 : decode cX1_init 87 = .ok (.putfield 54, 3) := by decide +kernel
theorem dX1_init_90 : decode cX1_init 90 = .ok (.aload_n 0, 1) := by decide +kernel
theorem dX1_init_91 : decode cX1_init 91 = .ok (.bipush 8, 2) := by decide +kernel
theorem dX1_init_93 : decode cX1_init 93 = .ok (.newarray .int, 2) := by decide +kernel
theorem dX1_init_95 : decode cX1_init 95 = .ok (.putfield 57, 3) := by decide +kernel
theorem dX1_init_98 : decode cX1_init 98 = .ok (.aload_n 0, 1) := by decide +kernel
theorem dX1_init_99 : decode cX1_init 99 = .ok (.bipush 8, 2) := by decide +kernel
theorem dX1_init_101 : decode cX1_init 101 = .ok (.newarray .int, 2) := by decide +kernel
theorem dX1_init_103 : decode cX1_init 103 = .ok (.putfield 60, 3) := by decide +kernel
theorem dX1_init_106 : decode cX1_init 106 = .ok (.aload_n 0, 1) := by decide +kernel
theorem dX1_init_107 : decode cX1_init 107 = .ok (.bipush 8, 2) := by decide +kernel
theorem dX1_init_109 : decode cX1_init 109 = .ok (.newarray .int, 2) := by decide +kernel
theorem dX1_init_111 : decode cX1_init 111 = .ok (.putfield 63, 3) := by decide +kernel
theorem dX1_init_114 : decode cX1_init 114 = .ok (.aload_n 0, 1) := by decide +kernel
theorem dX1_init_115 : decode cX1_init 115 = .ok (.bipush 8, 2) := by decide +kernel
theorem dX1_init_117 : decode cX1_init 117 = .ok (.newarray .int, 2) := by decide +kernel
theorem dX1_init_119 : decode cX1_init 119 = .ok (.putfield 66, 3) := by decide +kernel
theorem dX1_init_122 : decode cX1_init 122 = .ok (.aload_n 0, 1) := by decide +kernel
theorem dX1_init_123 : decode cX1_init 123 = .ok (.bipush 8, 2) := by decide +kernel
theorem dX1_init_125 : decode cX1_init 125 = .ok (.newarray .int, 2) := by decide +kernel
theorem dX1_init_127 : decode cX1_init 127 = .ok (.putfield 69, 3) := by decide +kernel
theorem dX1_init_130 : decode cX1_init 130 = .ok (.aload_n 0, 1) := by decide +kernel
theorem dX1_init_131 : decode cX1_init 131 = .ok (.bipush 8, 2) := by decide +kernel
theorem dX1_init_133 : decode cX1_init 133 = .ok (.newarray .int, 2) := by decide +kernel
theorem dX1_init_135 : decode cX1_init 135 = .ok (.putfield 72, 3) := by decide +kernel
theorem dX1_init_138 : decode cX1_init 138 = .ok (.aload_n 0, 1) := by decide +kernel
theorem dX1_init_139 : decode cX1_init 139 = .ok (.ldc 75, 2) := by decide +kernel
theorem dX1_init_141 : decode cX1_init 141 = .ok (.newarray .int, 2) := by decide +kernel
theorem dX1_init_143 : decode cX1_init 143 = .ok (.putfield 76, 3) := by decide +kernel
theorem dX1_init_146 : decode cX1_init 146 = .ok (.aload_n 0, 1) := by decide +kernel
theorem dX1_init_147 : decode cX1_init 147 = .ok (.bipush 6, 2) := by decide +kernel
theorem dX1_init_149 : decode cX1_init 149 = .ok (.newarray .int, 2) := by decide +kernel
theorem dX1_init_151 : decode cX1_init 151 = .ok (.putfield 79, 3) := by decide +kernel
theorem dX1_init_154 : decode cX1_init 154 = .ok (.aload_n 0, 1) := by decide +kernel
theorem dX1_init_155 : decode cX1_init 155 = .ok (.bipush 6, 2) := by decide +kernel
theorem dX1_init_157 : decode cX1_init 157 = .ok (.newarray .int, 2) := by decide +kernel
theorem dX1_init_159 : decode cX1_init 159 = .ok (.putfield 82, 3) := by decide +kernel
theorem dX1_init_162 : decode cX1_init 162 = .ok (.aload_n 0, 1) := by decide +kernel
theorem dX1_init_163 : decode cX1_init 163 = .ok (.bipush 6, 2) := by decide +kernel
theorem dX1_init_165 : decode cX1_init 165 = .ok (.newarray .int, 2) := by decide +kernel
theorem dX1_init_167 : decode cX1_init 167 = .ok (.putfield 85, 3) := by decide +kernel
theorem dX1_init_170 : decode cX1_init 170 = .ok (.aload_n 0, 1) := by decide +kernel
theorem dX1_init_171 : decode cX1_init 171 = .ok (.bipush 6, 2) := by decide +kernel
theorem dX1_init_173 : decode cX1_init 173 = .ok (.newarray .int, 2) := by decide +kernel
theorem dX1_init_175 : decode cX1_init 175 = .ok (.putfield 88, 3) := by decide +kernel
theorem dX1_init_178 : decode cX1_init 178 = .ok (.aload_n 0, 1) := by decide +kernel
theorem dX1_init_179 : decode cX1_init 179 = .ok (.bipush 6, 2) := by decide +kernel
theorem dX1_init_181 : decode cX1_init 181 = .ok (.anewarray 91, 3) := by decide +kernel
theorem dX1_init_184 : decode cX1_init 184 = .ok (.putfield 93, 3) := by decide +kernel
theorem dX1_init_187 : decode cX1_init 187 = .ok (.aload_n 0, 1) := by decide +kernel
theorem dX1_init_188 : decode cX1_init 188 = .ok (.new 22, 3) := by decide +kernel
theorem dX1_init_191 : decode cX1_init 191 = .ok (.dup, 1) := by decide +kernel
theorem dX1_init_192 : decode cX1_init 192 = .ok (.invokespecial 97, 3) := by decide +kernel
theorem dX1_init_195 : decode cX1_init 195 = .ok (.putfield 98, 3) := by decide +kernel
theorem dX1_init_198 : decode cX1_init 198 = .ok (.aload_n 0, 1) := by decide +kernel
theorem dX1_init_199 : decode cX1_init 199 = .ok (.bipush 20, 2) := by decide +kernel
theorem dX1_init_201 : decode cX1_init 201 = .ok (.newarray .int, 2) := by decide +kernel
theorem dX1_init_203 : decode cX1_init 203 = .ok (.putfield 102, 3) := by decide +kernel
theorem dX1_init_206 : decode cX1_init 206 = .ok (.aload_n 0, 1) := by decide +kernel
theorem dX1_init_207 : decode cX1_init 207 = .ok (.sipush 4941, 3) := by decide +kernel
theorem dX1_init_210 : decode cX1_init 210 = .ok (.newarray .int, 2) := by decide +kernel
theorem dX1_init_212 : decode cX1_init 212 = .ok (.putfield 105, 3) := by decide +kernel
theorem dX1_init_215 : decode cX1_init 215 = .ok (.aload_n 0, 1) := by decide +kernel
theorem dX1_init_216 : decode cX1_init 216 = .ok (.bipush 100, 2) := by decide +kernel
theorem dX1_init_218 : decode cX1_init 218 = .ok (.newarray .int, 2) := by decide +kernel
theorem dX1_init_220 : decode cX1_init 220 = .ok (.putfield 108, 3) := by decide +kernel
theorem dX1_init_223 : decode cX1_init 223 = .ok (.aload_n 0, 1) := by decide +kernel
theorem dX1_init_224 : decode cX1_init 224 = .ok (.bipush 100, 2) := by decide +kernel
theorem dX1_init_226 : decode cX1_init 226 = .ok (.newarray .int, 2) := by decide +kernel
theorem dX1_init_228 : decode cX1_init 228 = .ok (.putfield 111, 3) := by decide +kernel
theorem dX1_init_231 : decode cX1_init 231 = .ok (.aload_n 0, 1) := by decide +kernel
theorem dX1_init_232 : decode cX1_init 232 = .ok (.bipush 100, 2) := by decide +kernel
theorem dX1_init_234 : decode cX1_init 234 = .ok (.newarray .int, 2) := by decide +kernel
theorem dX1_init_236 : decode cX1_init 236 = .ok (.putfield 114, 3) := by decide +kernel
theorem dX1_init_239 : decode cX1_init 239 = .ok (.aload_n 0, 1) := by decide +kernel
theorem dX1_init_240 : decode cX1_init 240 = .ok (.bipush 100, 2) := by decide +kernel
theorem dX1_init_242 : decode cX1_init 242 = .ok (.newarray .int, 2) := by decide +kernel
theorem dX1_init_244 : decode cX1_init 244 = .ok (.putfield 117, 3) := by decide +kernel
theorem dX1_init_247 : decode cX1_init 247 = .ok (.aload_n 0, 1) := by decide +kernel
theorem dX1_init_248 : decode cX1_init 248 = .ok (.bipush 100, 2) := by decide +kernel
theorem dX1_init_250 : decode cX1_init 250 = .ok (.newarray .int, 2) := by decide +kernel
theorem dX1_init_252 : decode cX1_init 252 = .ok (.putfield 120, 3) := by decide +kernel
theorem dX1_init_255 : decode cX1_init 255 = .ok (.iconst 0, 1) := by decide +kernel
theorem dX1_init_256 : decode cX1_init 256 = .ok (.istore_n 1, 1) := by decide +kernel
theorem dX1_init_257 : decode cX1_init 257 = .ok (.iload_n 1, 1) := by decide +kernel
theorem dX1_init_258 : decode cX1_init 258 = .ok (.bipush 8, 2) := by decide +kernel
theorem dX1_init_260 : decode cX1_init 260 = .ok (.if_icmp .ge 44, 3) := by decide +kernel
theorem dX1_init_263 : decode cX1_init 263 = .ok (.aload_n 0, 1) := by decide +kernel
theorem dX1_init_264 : decode cX1_init 264 = .ok (.getfield 18, 3) := by decide +kernel
theorem dX1_init_267 : decode cX1_init 267 = .ok (.getfield 123, 3) := by decide +kernel
theorem dX1_init_270 : decode cX1_init 270 = .ok (.iload_n 1, 1) := by decide +kernel
theorem dX1_init_271 : decode cX1_init 271 = .ok (.sipush 200, 3) := by decide +kernel
theorem dX1_init_274 : decode cX1_init 274 = .ok (.iastore, 1) := by decide +kernel
theorem dX1_init_275 : decode cX1_init 275 = .ok (.aload_n 0, 1) := by decide +kernel
theorem dX1_init_276 : decode cX1_init 276 = .ok (.getfield 18, 3) := by decide +kernel
theorem dX1_init_279 : decode cX1_init 279 = .ok (.getfield 126, 3) := by decide +kernel
theorem dX1_init_282 : decode cX1_init 282 = .ok (.iload_n 1, 1) := by decide +kernel
theorem dX1_init_283 : decode cX1_init 283 = .ok (.sipush 600, 3) := by decide +kernel
theorem dX1_init_286 : decode cX1_init 286 = .ok (.iastore, 1) := by decide +kernel
theorem dX1_init_287 : decode cX1_init 287 = .ok (.aload_n 0, 1) := by decide +kernel
theorem dX1_init_288 : decode cX1_init 288 = .ok (.getfield 18, 3) := by decide +kernel
theorem dX1_init_291 : decode cX1_init 291 = .ok (.getfield 129, 3) := by decide +kernel
theorem dX1_init_294 : decode cX1_init 294 = .ok (.iload_n 1, 1) := by decide +kernel
theorem dX1_init_295 : decode cX1_init 295 = .ok (.bipush 50, 2) := by decide +kernel
theorem dX1_init_297 : decode cX1_init 297 = .ok (.iastore, 1) := by decide +kernel
theorem dX1_init_298 : decode cX1_init 298 = .ok (.iinc 1 1, 3) := by decide +kernel
theorem dX1_init_301 : decode cX1_init 301 = .ok (.goto (-44), 3) := by decide +kernel
theorem dX1_init_304 : decode cX1_init 304 = .ok (.return_, 1) := by decide +kernel
section
variable {p : Program} {l : Launch} {e : Env} {s : State} {m : MethodId} {args : Array Value} {below : List Frame} {meth : Method} {c : Code} {D : gD} {A : Nat → Prop} {ad : Nat → Nat} {τ : Shp} {σ : Mem}
set_option maxRecDepth 100000 in
set_option maxHeartbeats 4000000 in
theorem w_X1_init_L257 (Z : Cz D (Ew D A) A cX1_init 2 none RX1 p s m args meth c) (hex : c.exceptionTable.toList.map (fun h => (h.startPc, h.endPc, h.handlerPc, h.catchType)) = []) {r : (Rs Unit)} {k304 : Mem → Shp → Option (Rs Unit)}
    (hk304 : ∀ (σ : Mem) (τ1 : Shp)  (ad1 : Nat → Nat) (cl sl : Nat) (H : Heap) (locs : List Loc) (ls : Array Slot), Gx τ ad τ1 ad1 → ∀ (_ : sS τ1 0 = (10, 1)), St D A ad1 (sS τ1) σ s.heap H locs → Bd (sC τ) (sL τ) (rmA 4 72 τ) τ1 cl sl → lv_has ls 2 [(0, .ref (ad1 0))] → k304 σ τ1 = some r → W p l e (rmA 4 72 τ) s m args below meth c H locs cl sl (GQ below (QR D A ad τ vU r) args s A) (F0 m 304 ls [])) :
    ∀ (n : Nat) (σ : Mem) (τ1 : Shp) (v1 : Int32) (ad1 : Nat → Nat) (cl sl : Nat) (H : Heap) (locs : List Loc) (ls : Array Slot), Gx τ ad τ1 ad1 → ∀ (hu0 : sS τ1 0 = (10, 1)), St D A ad1 (sS τ1) σ s.heap H locs → Bd (sC τ) (sL τ) (rmA 4 72 τ) τ1 cl sl → lv_has ls 2 [(0, .ref (ad1 0)), (1, .int v1)] → f_X1_init_L257 k304 n σ τ1 v1 = some r → W p l e (rmA 4 72 τ) s m args below meth c H locs cl sl (GQ below (QR D A ad τ vU r) args s A) (F0 m 257 ls []) := by
  have hx := Z.1
  have hb := Z.2.1
  have hown := Z.2.2.2.2.2.1
  have hts := Z.2.2.2.2.2.2.1
  intro n
  induction n with
  | zero => intro σ τ1 v1 ad1 cl sl H locs ls G hu0 hS B hl h; cases h
  | succ n ih =>
    intro σ τ1 v1 ad1 cl sl H locs ls G hu0 hS B hl h
    unfold f_X1_init_L257 at h
    refine lv_iload_n hx hb dX1_init_257 rfl (lv_at hl 1 rfl) ?_
    refine lv_bipush (v := (8 : Int32)) hx hb dX1_init_258 (by decide) ?_
    refine lv_icmp_ge (tgt := 304) hx hb dX1_init_260 (by decide) (fun c127 => ?_) (fun c127 => ?_)
    · have h := if_t h c127
      exact hk304 _ _ _ _ _ _ _ _ G hu0 hS B (lv_sub hl [0] rfl) h
    · have h := if_f h c127
      refine lv_aload_n hx hb dX1_init_263 rfl (lv_at hl 0 rfl) ?_
      refine h_rgetN Z hS cls_0 hu0 (by decide) rfl fl_X1_18_0 dX1_init_264 h (fun j128 h => ?_)
      obtain ⟨hj128, h⟩ := gd_el h
      replace hj128 := isSh_1 hj128
      refine h_getC (n := 1) (j := (j128 + 1)) (sh := (1, 8)) Z hS cls_1 hj128 (by decide) rfl rfl rfl fl_X1_123_1 dX1_init_267 (fun hc129 => ?_)
      refine lv_iload_n hx hb dX1_init_270 rfl (lv_at hl 1 rfl) ?_
      refine lv_sipush (v := (200 : Int32)) hx hb dX1_init_271 (by decide) ?_
      refine h_iast Z hS hc129 dX1_init_274 h (fun σ130 H locs hS h => ?_)
      refine lv_aload_n hx hb dX1_init_275 rfl (lv_at hl 0 rfl) ?_
      refine h_rgetN Z hS cls_0 hu0 (by decide) rfl fl_X1_18_0 dX1_init_276 h (fun j131 h => ?_)
      obtain ⟨hj131, h⟩ := gd_el h
      replace hj131 := isSh_1 hj131
      refine h_getC (n := 2) (j := (j131 + 2)) (sh := (1, 8)) Z hS cls_1 hj131 (by decide) rfl rfl rfl fl_X1_126_1 dX1_init_279 (fun hc132 => ?_)
      refine lv_iload_n hx hb dX1_init_282 rfl (lv_at hl 1 rfl) ?_
      refine lv_sipush (v := (600 : Int32)) hx hb dX1_init_283 (by decide) ?_
      refine h_iast Z hS hc132 dX1_init_286 h (fun σ133 H locs hS h => ?_)
      refine lv_aload_n hx hb dX1_init_287 rfl (lv_at hl 0 rfl) ?_
      refine h_rgetN Z hS cls_0 hu0 (by decide) rfl fl_X1_18_0 dX1_init_288 h (fun j134 h => ?_)
      obtain ⟨hj134, h⟩ := gd_el h
      replace hj134 := isSh_1 hj134
      refine h_getC (n := 3) (j := (j134 + 3)) (sh := (1, 8)) Z hS cls_1 hj134 (by decide) rfl rfl rfl fl_X1_129_1 dX1_init_291 (fun hc135 => ?_)
      refine lv_iload_n hx hb dX1_init_294 rfl (lv_at hl 1 rfl) ?_
      refine lv_bipush (v := (50 : Int32)) hx hb dX1_init_295 (by decide) ?_
      refine h_iast Z hS hc135 dX1_init_297 h (fun σ136 H locs hS h => ?_)
      refine lv_iinc (v := (v1 + (1 : Int32))) (lv' := [(1, .int (v1 + (1 : Int32))), (0, .ref (ad1 0))]) hx hb dX1_init_298 hl (k := 1) rfl rfl (by decide) rfl (fun ls hl => ?_)
      refine lv_goto (tgt := 257) hx hb dX1_init_301 (by decide) ?_
      exact ih _ _ _ _ _ _ _ _ _ G hu0 hS B (lv_sub hl [1, 0] rfl) h
set_option maxRecDepth 100000 in
set_option maxHeartbeats 4000000 in
theorem w_X1_init (hc0 : sC τ ≤ LCl) (hs0 : sL τ ≤ LSl) (hi0 : sS τ 0 = (10, 1)) {r : (Rs Unit)} (h : f_X1_init σ τ = some r) : Mg l yX1_init (ws_ yX1_init cX1_init 2 none) (rmA 4 72 τ) (va_Pc [.ref (ad 0)] (PreG D (Ew D A) A ad (sS τ) σ)) (QR D A ad τ vU r) A := by
  refine a_met hc0 hs0 (by decide) (Nat.le_of_ble_eq_true rfl) (fun p e s m args below meth c ls Z hnm hex hS B G hl => ?_)
  have hx := Z.1
  have hb := Z.2.1
  have hown := Z.2.2.2.2.2.1
  have hts := Z.2.2.2.2.2.2.1
  refine (?_ : ∀ cl sl, Bd (sC τ) (sL τ) (rmA 4 72 τ) τ cl sl → W p l e (rmA 4 72 τ) s m args below meth c s.heap [] cl sl (GQ below (QR D A ad τ vU r) args s A) (F0 m 0 ls [])) 0 0 B
  clear B
  intro cl sl B
  unfold f_X1_init at h
  refine lv_aload_n hx hb dX1_init_0 rfl (lv_at hl 0 rfl) ?_
  refine h_oinit Z q110 q111 q112 hl.1 (Nat.le_of_ble_eq_true rfl) (Nat.le_of_ble_eq_true rfl) dX1_init_1 ?_
  refine lv_aload_n hx hb dX1_init_4 rfl (lv_at hl 0 rfl) ?_
  refine a_newO (z := 1) (j := 100) Z hS B cls_1 dv_1 (fun z => by cases z) q113 q114 q77 dX1_init_5 h (fun ad1 σ1 τ1 H ga gb gc hn2 _ hS B h => ?_)
  have g1 : Gx τ ad τ1 ad1 := ⟨ga, gb, gc⟩
  have G := G.trans g1
  generalize cl + 1 = cl at B ⊢
  generalize sl + 3 = sl at B ⊢
  have ea3 := g1.ad hi0
  obtain ⟨hi0, h⟩ := gd_el h
  replace hi0 := isSh_1 hi0
  replace hl : lv_has ls 2 [(0, .ref (ad1 0))] := by rw [ea3]; exact hl
  refine W_stk (st' := [.ref (ad1 100), .ref (ad1 0)]) (by first | (rw [ea3]; done) | (rw [ea3]; rfl)) ?_
  refine lv_dup hx hb dX1_init_8 rfl ?_
  refine a_call (av := [.ref (ad1 100)]) (rest := [.ref (ad1 100), .ref (ad1 0)]) Z hex hS B G (en_I (rest := [.ref (ad1 100), .ref (ad1 0)]) Z vc_X1_17 rfl rfl dX1_init_9) q117 ⟨Nat.le_of_ble_eq_true rfl, Nat.le_of_ble_eq_true rfl⟩ hl.1 (Nat.le_of_ble_eq_true rfl) dX1_init_9 h (fun z hz => w_X2_init B.2.2.2.2.1 B.2.2.2.2.2 hn2 hz) (fun σ4 τ4 _ ad4 H locs cl sl g4 hS B h => ?_)
  have G := G.trans g4
  have eb5 := g4.ad hn2
  obtain ⟨hk5, h⟩ := gd_el h
  replace hk5 := isSh_1 hk5
  have ea6 := g4.ad hi0
  obtain ⟨hi0, h⟩ := gd_el h
  replace hi0 := isSh_1 hi0
  replace hl : lv_has ls 2 [(0, .ref (ad4 0))] := by rw [ea6]; exact hl
  refine W_stk (st' := [.ref (ad4 100), .ref (ad4 0)]) (by first | (rw [eb5, ea6]; done) | (rw [eb5, ea6]; rfl)) ?_
  refine h_rputFR (k := 1) Z hnm hS cls_0 hi0 (by decide) rfl rfl rfl (by first | exact Or.inl ⟨_, rfl⟩ | exact Or.inr ⟨_, rfl⟩) (by rw [hk5]; decide) q229 dX1_init_12 h (fun σ7 H locs hS h => ?_)
  refine lv_aload_n hx hb dX1_init_15 rfl (lv_at hl 0 rfl) ?_
  refine lv_bipush (v := (8 : Int32)) hx hb dX1_init_16 (by decide) ?_
  refine a_newq (a := 5) (j := 3) Z hS B (by decide) (by decide) q135 (List.mem_of_getElem? (i := 72) rfl) (by decide) (by decide) (by decide) dX1_init_18 h (fun ad8 σ8 τ8 H g8 hn9 hS B h => ?_)
  have G := G.trans g8
  generalize cl + 1 = cl at B ⊢
  generalize sl + 8 = sl at B ⊢
  have ea10 := g8.ad hi0
  obtain ⟨hi0, h⟩ := gd_el h
  replace hi0 := isSh_1 hi0
  replace hl : lv_has ls 2 [(0, .ref (ad8 0))] := by rw [ea10]; exact hl
  refine W_stk (st' := [.ref (ad8 3), .ref (ad8 0)]) (by first | (rw [ea10]; done) | (rw [ea10]; rfl)) ?_
  refine h_rputFR (k := 2) Z hnm hS cls_0 hi0 (by decide) rfl rfl rfl (by first | exact Or.inl ⟨_, rfl⟩ | exact Or.inr ⟨_, rfl⟩) (by rw [hn9]; decide) q230 dX1_init_21 h (fun σ11 H locs hS h => ?_)
  refine lv_aload_n hx hb dX1_init_24 rfl (lv_at hl 0 rfl) ?_
  refine lv_sipush (v := (160 : Int32)) hx hb dX1_init_25 (by decide) ?_
  refine a_newaB (j := 5) Z hS B q166 (by decide) (by decide) (by decide) dX1_init_28 h (fun ad12 σ12 τ12 H g12 hn13 hS B h => ?_)
  have G := G.trans g12
  generalize cl + 1 = cl at B ⊢
  generalize sl + 160 = sl at B ⊢
  have ea14 := g12.ad hi0
  obtain ⟨hi0, h⟩ := gd_el h
  replace hi0 := isSh_1 hi0
  replace hl : lv_has ls 2 [(0, .ref (ad12 0))] := by rw [ea14]; exact hl
  refine W_stk (st' := [.ref (ad12 5), .ref (ad12 0)]) (by first | (rw [ea14]; done) | (rw [ea14]; rfl)) ?_
  refine h_rputFR (k := 4) Z hnm hS cls_0 hi0 (by decide) rfl rfl rfl (by first | exact Or.inl ⟨_, rfl⟩ | exact Or.inr ⟨_, rfl⟩) (by rw [hn13]; decide) q232 dX1_init_30 h (fun σ15 H locs hS h => ?_)
  refine lv_aload_n hx hb dX1_init_33 rfl (lv_at hl 0 rfl) ?_
  refine lv_bipush (v := (12 : Int32)) hx hb dX1_init_34 (by decide) ?_
  refine a_newq (a := 7) (j := 6) Z hS B (by decide) (by decide) q137 (List.mem_of_getElem? (i := 73) rfl) (by decide) (by decide) (by decide) dX1_init_36 h (fun ad16 σ16 τ16 H g16 hn17 hS B h => ?_)
  have G := G.trans g16
  generalize cl + 1 = cl at B ⊢
  generalize sl + 12 = sl at B ⊢
  have ea18 := g16.ad hi0
  obtain ⟨hi0, h⟩ := gd_el h
  replace hi0 := isSh_1 hi0
  replace hl : lv_has ls 2 [(0, .ref (ad16 0))] := by rw [ea18]; exact hl
  refine W_stk (st' := [.ref (ad16 6), .ref (ad16 0)]) (by first | (rw [ea18]; done) | (rw [ea18]; rfl)) ?_
  refine h_rputFR (k := 5) Z hnm hS cls_0 hi0 (by decide) rfl rfl rfl (by first | exact Or.inl ⟨_, rfl⟩ | exact Or.inr ⟨_, rfl⟩) (by rw [hn17]; decide) q233 dX1_init_39 h (fun σ19 H locs hS h => ?_)
  refine lv_aload_n hx hb dX1_init_42 rfl (lv_at hl 0 rfl) ?_
  refine lv_bipush (v := (6 : Int32)) hx hb dX1_init_43 (by decide) ?_
  refine a_newaI (j := 7) Z hS B q134 (by decide) (by decide) (by decide) dX1_init_45 h (fun ad20 σ20 τ20 H g20 hn21 hS B h => ?_)
  have G := G.trans g20
  generalize cl + 1 = cl at B ⊢
  generalize sl + 6 = sl at B ⊢
  have ea22 := g20.ad hi0
  obtain ⟨hi0, h⟩ := gd_el h
  replace hi0 := isSh_1 hi0
  replace hl : lv_has ls 2 [(0, .ref (ad20 0))] := by rw [ea22]; exact hl
  refine W_stk (st' := [.ref (ad20 7), .ref (ad20 0)]) (by first | (rw [ea22]; done) | (rw [ea22]; rfl)) ?_
  refine h_rputFR (k := 6) Z hnm hS cls_0 hi0 (by decide) rfl rfl rfl (by first | exact Or.inl ⟨_, rfl⟩ | exact Or.inr ⟨_, rfl⟩) (by rw [hn21]; decide) q234 dX1_init_47 h (fun σ23 H locs hS h => ?_)
  refine lv_aload_n hx hb dX1_init_50 rfl (lv_at hl 0 rfl) ?_
  refine lv_bipush (v := (8 : Int32)) hx hb dX1_init_51 (by decide) ?_
  refine a_newaI (j := 10) Z hS B q134 (by decide) (by decide) (by decide) dX1_init_53 h (fun ad24 σ24 τ24 H g24 hn25 hS B h => ?_)
  have G := G.trans g24
  generalize cl + 1 = cl at B ⊢
  generalize sl + 8 = sl at B ⊢
  have ea26 := g24.ad hi0
  obtain ⟨hi0, h⟩ := gd_el h
  replace hi0 := isSh_1 hi0
  replace hl : lv_has ls 2 [(0, .ref (ad24 0))] := by rw [ea26]; exact hl
  refine W_stk (st' := [.ref (ad24 10), .ref (ad24 0)]) (by first | (rw [ea26]; done) | (rw [ea26]; rfl)) ?_
  refine h_rputFR (k := 9) Z hnm hS cls_0 hi0 (by decide) rfl rfl rfl (by first | exact Or.inl ⟨_, rfl⟩ | exact Or.inr ⟨_, rfl⟩) (by rw [hn25]; decide) q237 dX1_init_55 h (fun σ27 H locs hS h => ?_)
  refine lv_aload_n hx hb dX1_init_58 rfl (lv_at hl 0 rfl) ?_
  refine lv_bipush (v := (8 : Int32)) hx hb dX1_init_59 (by decide) ?_
  refine a_newaI (j := 11) Z hS B q134 (by decide) (by decide) (by decide) dX1_init_61 h (fun ad28 σ28 τ28 H g28 hn29 hS B h => ?_)
  have G := G.trans g28
  generalize cl + 1 = cl at B ⊢
  generalize sl + 8 = sl at B ⊢
  have ea30 := g28.ad hi0
  obtain ⟨hi0, h⟩ := gd_el h
  replace hi0 := isSh_1 hi0
  replace hl : lv_has ls 2 [(0, .ref (ad28 0))] := by rw [ea30]; exact hl
  refine W_stk (st' := [.ref (ad28 11), .ref (ad28 0)]) (by first | (rw [ea30]; done) | (rw [ea30]; rfl)) ?_
  refine h_rputFR (k := 10) Z hnm hS cls_0 hi0 (by decide) rfl rfl rfl (by first | exact Or.inl ⟨_, rfl⟩ | exact Or.inr ⟨_, rfl⟩) (by rw [hn29]; decide) q238 dX1_init_63 h (fun σ31 H locs hS h => ?_)
  refine lv_aload_n hx hb dX1_init_66 rfl (lv_at hl 0 rfl) ?_
  refine lv_bipush (v := (8 : Int32)) hx hb dX1_init_67 (by decide) ?_
  refine a_newaI (j := 12) Z hS B q134 (by decide) (by decide) (by decide) dX1_init_69 h (fun ad32 σ32 τ32 H g32 hn33 hS B h => ?_)
  have G := G.trans g32
  generalize cl + 1 = cl at B ⊢
  generalize sl + 8 = sl at B ⊢
  have ea34 := g32.ad hi0
  obtain ⟨hi0, h⟩ := gd_el h
  replace hi0 := isSh_1 hi0
  replace hl : lv_has ls 2 [(0, .ref (ad32 0))] := by rw [ea34]; exact hl
  refine W_stk (st' := [.ref (ad32 12), .ref (ad32 0)]) (by first | (rw [ea34]; done) | (rw [ea34]; rfl)) ?_
  refine h_rputFR (k := 11) Z hnm hS cls_0 hi0 (by decide) rfl rfl rfl (by first | exact Or.inl ⟨_, rfl⟩ | exact Or.inr ⟨_, rfl⟩) (by rw [hn33]; decide) q239 dX1_init_71 h (fun σ35 H locs hS h => ?_)
  refine lv_aload_n hx hb dX1_init_74 rfl (lv_at hl 0 rfl) ?_
  refine lv_bipush (v := (8 : Int32)) hx hb dX1_init_75 (by decide) ?_
  refine a_newaI (j := 13) Z hS B q134 (by decide) (by decide) (by decide) dX1_init_77 h (fun ad36 σ36 τ36 H g36 hn37 hS B h => ?_)
  have G := G.trans g36
  generalize cl + 1 = cl at B ⊢
  generalize sl + 8 = sl at B ⊢
  have ea38 := g36.ad hi0
  obtain ⟨hi0, h⟩ := gd_el h
  replace hi0 := isSh_1 hi0
  replace hl : lv_has ls 2 [(0, .ref (ad36 0))] := by rw [ea38]; exact hl
  refine W_stk (st' := [.ref (ad36 13), .ref (ad36 0)]) (by first | (rw [ea38]; done) | (rw [ea38]; rfl)) ?_
  refine h_rputFR (k := 12) Z hnm hS cls_0 hi0 (by decide) rfl rfl rfl (by first | exact Or.inl ⟨_, rfl⟩ | exact Or.inr ⟨_, rfl⟩) (by rw [hn37]; decide) q240 dX1_init_79 h (fun σ39 H locs hS h => ?_)
  refine lv_aload_n hx hb dX1_init_82 rfl (lv_at hl 0 rfl) ?_
  refine lv_bipush (v := (8 : Int32)) hx hb dX1_init_83 (by decide) ?_
  refine a_newaI (j := 14) Z hS B q134 (by decide) (by decide) (by decide) dX1_init_85 h (fun ad40 σ40 τ40 H g40 hn41 hS B h => ?_)
  have G := G.trans g40
  generalize cl + 1 = cl at B ⊢
  generalize sl + 8 = sl at B ⊢
  have ea42 := g40.ad hi0
  obtain ⟨hi0, h⟩ := gd_el h
  replace hi0 := isSh_1 hi0
  replace hl : lv_has ls 2 [(0, .ref (ad40 0))] := by rw [ea42]; exact hl
  refine W_stk (st' := [.ref (ad40 14), .ref (ad40 0)]) (by first | (rw [ea42]; done) | (rw [ea42]; rfl)) ?_
  refine h_rputFR (k := 13) Z hnm hS cls_0 hi0 (by decide) rfl rfl rfl (by first | exact Or.inl ⟨_, rfl⟩ | exact Or.inr ⟨_, rfl⟩) (by rw [hn41]; decide) q241 dX1_init_87 h (fun σ43 H locs hS h => ?_)
  refine lv_aload_n hx hb dX1_init_90 rfl (lv_at hl 0 rfl) ?_
  refine lv_bipush (v := (8 : Int32)) hx hb dX1_init_91 (by decide) ?_
  refine a_newaI (j := 15) Z hS B q134 (by decide) (by decide) (by decide) dX1_init_93 h (fun ad44 σ44 τ44 H g44 hn45 hS B h => ?_)
  have G := G.trans g44
  generalize cl + 1 = cl at B ⊢
  generalize sl + 8 = sl at B ⊢
  have ea46 := g44.ad hi0
  obtain ⟨hi0, h⟩ := gd_el h
  replace hi0 := isSh_1 hi0
  replace hl : lv_has ls 2 [(0, .ref (ad44 0))] := by rw [ea46]; exact hl
  refine W_stk (st' := [.ref (ad44 15), .ref (ad44 0)]) (by first | (rw [ea46]; done) | (rw [ea46]; rfl)) ?_
  refine h_rputFR (k := 14) Z hnm hS cls_0 hi0 (by decide) rfl rfl rfl (by first | exact Or.inl ⟨_, rfl⟩ | exact Or.inr ⟨_, rfl⟩) (by rw [hn45]; decide) q242 dX1_init_95 h (fun σ47 H locs hS h => ?_)
  refine lv_aload_n hx hb dX1_init_98 rfl (lv_at hl 0 rfl) ?_
  refine lv_bipush (v := (8 : Int32)) hx hb dX1_init_99 (by decide) ?_
  refine a_newaI (j := 16) Z hS B q134 (by decide) (by decide) (by decide) dX1_init_101 h (fun ad48 σ48 τ48 H g48 hn49 hS B h => ?_)
  have G := G.trans g48
  generalize cl + 1 = cl at B ⊢
  generalize sl + 8 = sl at B ⊢
  have ea50 := g48.ad hi0
  obtain ⟨hi0, h⟩ := gd_el h
  replace hi0 := isSh_1 hi0
  replace hl : lv_has ls 2 [(0, .ref (ad48 0))] := by rw [ea50]; exact hl
  refine W_stk (st' := [.ref (ad48 16), .ref (ad48 0)]) (by first | (rw [ea50]; done) | (rw [ea50]; rfl)) ?_
  refine h_rputFR (k := 15) Z hnm hS cls_0 hi0 (by decide) rfl rfl rfl (by first | exact Or.inl ⟨_, rfl⟩ | exact Or.inr ⟨_, rfl⟩) (by rw [hn49]; decide) q243 dX1_init_103 h (fun σ51 H locs hS h => ?_)
  refine lv_aload_n hx hb dX1_init_106 rfl (lv_at hl 0 rfl) ?_
  refine lv_bipush (v := (8 : Int32)) hx hb dX1_init_107 (by decide) ?_
  refine a_newaI (j := 17) Z hS B q134 (by decide) (by decide) (by decide) dX1_init_109 h (fun ad52 σ52 τ52 H g52 hn53 hS B h => ?_)
  have G := G.trans g52
  generalize cl + 1 = cl at B ⊢
  generalize sl + 8 = sl at B ⊢
  have ea54 := g52.ad hi0
  obtain ⟨hi0, h⟩ := gd_el h
  replace hi0 := isSh_1 hi0
  replace hl : lv_has ls 2 [(0, .ref (ad52 0))] := by rw [ea54]; exact hl
  refine W_stk (st' := [.ref (ad52 17), .ref (ad52 0)]) (by first | (rw [ea54]; done) | (rw [ea54]; rfl)) ?_
  refine h_rputFR (k := 16) Z hnm hS cls_0 hi0 (by decide) rfl rfl rfl (by first | exact Or.inl ⟨_, rfl⟩ | exact Or.inr ⟨_, rfl⟩) (by rw [hn53]; decide) q244 dX1_init_111 h (fun σ55 H locs hS h => ?_)
  refine lv_aload_n hx hb dX1_init_114 rfl (lv_at hl 0 rfl) ?_
  refine lv_bipush (v := (8 : Int32)) hx hb dX1_init_115 (by decide) ?_
  refine a_newaI (j := 18) Z hS B q134 (by decide) (by decide) (by decide) dX1_init_117 h (fun ad56 σ56 τ56 H g56 hn57 hS B h => ?_)
  have G := G.trans g56
  generalize cl + 1 = cl at B ⊢
  generalize sl + 8 = sl at B ⊢
  have ea58 := g56.ad hi0
  obtain ⟨hi0, h⟩ := gd_el h
  replace hi0 := isSh_1 hi0
  replace hl : lv_has ls 2 [(0, .ref (ad56 0))] := by rw [ea58]; exact hl
  refine W_stk (st' := [.ref (ad56 18), .ref (ad56 0)]) (by first | (rw [ea58]; done) | (rw [ea58]; rfl)) ?_
  refine h_rputFR (k := 17) Z hnm hS cls_0 hi0 (by decide) rfl rfl rfl (by first | exact Or.inl ⟨_, rfl⟩ | exact Or.inr ⟨_, rfl⟩) (by rw [hn57]; decide) q245 dX1_init_119 h (fun σ59 H locs hS h => ?_)
  refine lv_aload_n hx hb dX1_init_122 rfl (lv_at hl 0 rfl) ?_
  refine lv_bipush (v := (8 : Int32)) hx hb dX1_init_123 (by decide) ?_
  refine a_newaI (j := 19) Z hS B q134 (by decide) (by decide) (by decide) dX1_init_125 h (fun ad60 σ60 τ60 H g60 hn61 hS B h => ?_)
  have G := G.trans g60
  generalize cl + 1 = cl at B ⊢
  generalize sl + 8 = sl at B ⊢
  have ea62 := g60.ad hi0
  obtain ⟨hi0, h⟩ := gd_el h
  replace hi0 := isSh_1 hi0
  replace hl : lv_has ls 2 [(0, .ref (ad60 0))] := by rw [ea62]; exact hl
  refine W_stk (st' := [.ref (ad60 19), .ref (ad60 0)]) (by first | (rw [ea62]; done) | (rw [ea62]; rfl)) ?_
  refine h_rputFR (k := 18) Z hnm hS cls_0 hi0 (by decide) rfl rfl rfl (by first | exact Or.inl ⟨_, rfl⟩ | exact Or.inr ⟨_, rfl⟩) (by rw [hn61]; decide) q246 dX1_init_127 h (fun σ63 H locs hS h => ?_)
  refine lv_aload_n hx hb dX1_init_130 rfl (lv_at hl 0 rfl) ?_
  refine lv_bipush (v := (8 : Int32)) hx hb dX1_init_131 (by decide) ?_
  refine a_newaI (j := 20) Z hS B q134 (by decide) (by decide) (by decide) dX1_init_133 h (fun ad64 σ64 τ64 H g64 hn65 hS B h => ?_)
  have G := G.trans g64
  generalize cl + 1 = cl at B ⊢
  generalize sl + 8 = sl at B ⊢
  have ea66 := g64.ad hi0
  obtain ⟨hi0, h⟩ := gd_el h
  replace hi0 := isSh_1 hi0
  replace hl : lv_has ls 2 [(0, .ref (ad64 0))] := by rw [ea66]; exact hl
  refine W_stk (st' := [.ref (ad64 20), .ref (ad64 0)]) (by first | (rw [ea66]; done) | (rw [ea66]; rfl)) ?_
  refine h_rputFR (k := 19) Z hnm hS cls_0 hi0 (by decide) rfl rfl rfl (by first | exact Or.inl ⟨_, rfl⟩ | exact Or.inr ⟨_, rfl⟩) (by rw [hn65]; decide) q247 dX1_init_135 h (fun σ67 H locs hS h => ?_)
  refine lv_aload_n hx hb dX1_init_138 rfl (lv_at hl 0 rfl) ?_
  refine lv_ldc (v := (48024 : Int32)) hx hb hown (hts _ q139) dX1_init_139 ?_
  refine a_newaI (j := 21) Z hS B q134 (by decide) (by decide) (by decide) dX1_init_141 h (fun ad68 σ68 τ68 H g68 hn69 hS B h => ?_)
  have G := G.trans g68
  generalize cl + 1 = cl at B ⊢
  generalize sl + 48024 = sl at B ⊢
  have ea70 := g68.ad hi0
  obtain ⟨hi0, h⟩ := gd_el h
  replace hi0 := isSh_1 hi0
  replace hl : lv_has ls 2 [(0, .ref (ad68 0))] := by rw [ea70]; exact hl
  refine W_stk (st' := [.ref (ad68 21), .ref (ad68 0)]) (by first | (rw [ea70]; done) | (rw [ea70]; rfl)) ?_
  refine h_rputFR (k := 20) Z hnm hS cls_0 hi0 (by decide) rfl rfl rfl (by first | exact Or.inl ⟨_, rfl⟩ | exact Or.inr ⟨_, rfl⟩) (by rw [hn69]; decide) q248 dX1_init_143 h (fun σ71 H locs hS h => ?_)
  refine lv_aload_n hx hb dX1_init_146 rfl (lv_at hl 0 rfl) ?_
  refine lv_bipush (v := (6 : Int32)) hx hb dX1_init_147 (by decide) ?_
  refine a_newaI (j := 23) Z hS B q134 (by decide) (by decide) (by decide) dX1_init_149 h (fun ad72 σ72 τ72 H g72 hn73 hS B h => ?_)
  have G := G.trans g72
  generalize cl + 1 = cl at B ⊢
  generalize sl + 6 = sl at B ⊢
  have ea74 := g72.ad hi0
  obtain ⟨hi0, h⟩ := gd_el h
  replace hi0 := isSh_1 hi0
  replace hl : lv_has ls 2 [(0, .ref (ad72 0))] := by rw [ea74]; exact hl
  refine W_stk (st' := [.ref (ad72 23), .ref (ad72 0)]) (by first | (rw [ea74]; done) | (rw [ea74]; rfl)) ?_
  refine h_rputFR (k := 22) Z hnm hS cls_0 hi0 (by decide) rfl rfl rfl (by first | exact Or.inl ⟨_, rfl⟩ | exact Or.inr ⟨_, rfl⟩) (by rw [hn73]; decide) q250 dX1_init_151 h (fun σ75 H locs hS h => ?_)
  refine lv_aload_n hx hb dX1_init_154 rfl (lv_at hl 0 rfl) ?_
  refine lv_bipush (v := (6 : Int32)) hx hb dX1_init_155 (by decide) ?_
  refine a_newaI (j := 24) Z hS B q134 (by decide) (by decide) (by decide) dX1_init_157 h (fun ad76 σ76 τ76 H g76 hn77 hS B h => ?_)
  have G := G.trans g76
  generalize cl + 1 = cl at B ⊢
  generalize sl + 6 = sl at B ⊢
  have ea78 := g76.ad hi0
  obtain ⟨hi0, h⟩ := gd_el h
  replace hi0 := isSh_1 hi0
  replace hl : lv_has ls 2 [(0, .ref (ad76 0))] := by rw [ea78]; exact hl
  refine W_stk (st' := [.ref (ad76 24), .ref (ad76 0)]) (by first | (rw [ea78]; done) | (rw [ea78]; rfl)) ?_
  refine h_rputFR (k := 23) Z hnm hS cls_0 hi0 (by decide) rfl rfl rfl (by first | exact Or.inl ⟨_, rfl⟩ | exact Or.inr ⟨_, rfl⟩) (by rw [hn77]; decide) q251 dX1_init_159 h (fun σ79 H locs hS h => ?_)
  refine lv_aload_n hx hb dX1_init_162 rfl (lv_at hl 0 rfl) ?_
  refine lv_bipush (v := (6 : Int32)) hx hb dX1_init_163 (by decide) ?_
  refine a_newaI (j := 25) Z hS B q134 (by decide) (by decide) (by decide) dX1_init_165 h (fun ad80 σ80 τ80 H g80 hn81 hS B h => ?_)
  have G := G.trans g80
  generalize cl + 1 = cl at B ⊢
  generalize sl + 6 = sl at B ⊢
  have ea82 := g80.ad hi0
  obtain ⟨hi0, h⟩ := gd_el h
  replace hi0 := isSh_1 hi0
  replace hl : lv_has ls 2 [(0, .ref (ad80 0))] := by rw [ea82]; exact hl
  refine W_stk (st' := [.ref (ad80 25), .ref (ad80 0)]) (by first | (rw [ea82]; done) | (rw [ea82]; rfl)) ?_
  refine h_rputFR (k := 24) Z hnm hS cls_0 hi0 (by decide) rfl rfl rfl (by first | exact Or.inl ⟨_, rfl⟩ | exact Or.inr ⟨_, rfl⟩) (by rw [hn81]; decide) q252 dX1_init_167 h (fun σ83 H locs hS h => ?_)
  refine lv_aload_n hx hb dX1_init_170 rfl (lv_at hl 0 rfl) ?_
  refine lv_bipush (v := (6 : Int32)) hx hb dX1_init_171 (by decide) ?_
  refine a_newaI (j := 26) Z hS B q134 (by decide) (by decide) (by decide) dX1_init_173 h (fun ad84 σ84 τ84 H g84 hn85 hS B h => ?_)
  have G := G.trans g84
  generalize cl + 1 = cl at B ⊢
  generalize sl + 6 = sl at B ⊢
  have ea86 := g84.ad hi0
  obtain ⟨hi0, h⟩ := gd_el h
  replace hi0 := isSh_1 hi0
  replace hl : lv_has ls 2 [(0, .ref (ad84 0))] := by rw [ea86]; exact hl
  refine W_stk (st' := [.ref (ad84 26), .ref (ad84 0)]) (by first | (rw [ea86]; done) | (rw [ea86]; rfl)) ?_
  refine h_rputFR (k := 25) Z hnm hS cls_0 hi0 (by decide) rfl rfl rfl (by first | exact Or.inl ⟨_, rfl⟩ | exact Or.inr ⟨_, rfl⟩) (by rw [hn85]; decide) q253 dX1_init_175 h (fun σ87 H locs hS h => ?_)
  refine lv_aload_n hx hb dX1_init_178 rfl (lv_at hl 0 rfl) ?_
  refine lv_bipush (v := (6 : Int32)) hx hb dX1_init_179 (by decide) ?_
  refine a_newq (a := 6) (j := 29) Z hS B (by decide) (by decide) q140 (List.mem_of_getElem? (i := 74) rfl) (by decide) (by decide) (by decide) dX1_init_181 h (fun ad88 σ88 τ88 H g88 hn89 hS B h => ?_)
  have G := G.trans g88
  generalize cl + 1 = cl at B ⊢
  generalize sl + 6 = sl at B ⊢
  have ea90 := g88.ad hi0
  obtain ⟨hi0, h⟩ := gd_el h
  replace hi0 := isSh_1 hi0
  replace hl : lv_has ls 2 [(0, .ref (ad88 0))] := by rw [ea90]; exact hl
  refine W_stk (st' := [.ref (ad88 29), .ref (ad88 0)]) (by first | (rw [ea90]; done) | (rw [ea90]; rfl)) ?_
  refine h_rputFR (k := 28) Z hnm hS cls_0 hi0 (by decide) rfl rfl rfl (by first | exact Or.inl ⟨_, rfl⟩ | exact Or.inr ⟨_, rfl⟩) (by rw [hn89]; decide) q256 dX1_init_184 h (fun σ91 H locs hS h => ?_)
  refine lv_aload_n hx hb dX1_init_187 rfl (lv_at hl 0 rfl) ?_
  refine a_newO (z := 1) (j := 110) Z hS B cls_2 dv_2 (fun z => by cases z) q135 q142 q78 dX1_init_188 h (fun ad92 σ92 τ92 H ga gb gc hn93 _ hS B h => ?_)
  have g92 : Gx τ88 ad88 τ92 ad92 := ⟨ga, gb, gc⟩
  have G := G.trans g92
  generalize cl + 1 = cl at B ⊢
  generalize sl + 17 = sl at B ⊢
  have ea94 := g92.ad hi0
  obtain ⟨hi0, h⟩ := gd_el h
  replace hi0 := isSh_1 hi0
  replace hl : lv_has ls 2 [(0, .ref (ad92 0))] := by rw [ea94]; exact hl
  refine W_stk (st' := [.ref (ad92 110), .ref (ad92 0)]) (by first | (rw [ea94]; done) | (rw [ea94]; rfl)) ?_
  refine lv_dup hx hb dX1_init_191 rfl ?_
  refine a_call (av := [.ref (ad92 110)]) (rest := [.ref (ad92 110), .ref (ad92 0)]) Z hex hS B G (en_I (rest := [.ref (ad92 110), .ref (ad92 0)]) Z vc_X1_97 rfl rfl dX1_init_192) q145 ⟨Nat.le_of_ble_eq_true rfl, Nat.le_of_ble_eq_true rfl⟩ hl.1 (Nat.le_of_ble_eq_true rfl) dX1_init_192 h (fun z hz => w_X3_init B.2.2.2.2.1 B.2.2.2.2.2 hn93 hz) (fun σ95 τ95 _ ad95 H locs cl sl g95 hS B h => ?_)
  have G := G.trans g95
  have eb96 := g95.ad hn93
  obtain ⟨hk96, h⟩ := gd_el h
  replace hk96 := isSh_1 hk96
  have ea97 := g95.ad hi0
  obtain ⟨hi0, h⟩ := gd_el h
  replace hi0 := isSh_1 hi0
  replace hl : lv_has ls 2 [(0, .ref (ad95 0))] := by rw [ea97]; exact hl
  refine W_stk (st' := [.ref (ad95 110), .ref (ad95 0)]) (by first | (rw [eb96, ea97]; done) | (rw [eb96, ea97]; rfl)) ?_
  refine h_rputFR (k := 29) Z hnm hS cls_0 hi0 (by decide) rfl rfl rfl (by first | exact Or.inl ⟨_, rfl⟩ | exact Or.inr ⟨_, rfl⟩) (by rw [hk96]; decide) q257 dX1_init_195 h (fun σ98 H locs hS h => ?_)
  refine lv_aload_n hx hb dX1_init_198 rfl (lv_at hl 0 rfl) ?_
  refine lv_bipush (v := (20 : Int32)) hx hb dX1_init_199 (by decide) ?_
  refine a_newaI (j := 31) Z hS B q134 (by decide) (by decide) (by decide) dX1_init_201 h (fun ad99 σ99 τ99 H g99 hn100 hS B h => ?_)
  have G := G.trans g99
  generalize cl + 1 = cl at B ⊢
  generalize sl + 20 = sl at B ⊢
  have ea101 := g99.ad hi0
  obtain ⟨hi0, h⟩ := gd_el h
  replace hi0 := isSh_1 hi0
  replace hl : lv_has ls 2 [(0, .ref (ad99 0))] := by rw [ea101]; exact hl
  refine W_stk (st' := [.ref (ad99 31), .ref (ad99 0)]) (by first | (rw [ea101]; done) | (rw [ea101]; rfl)) ?_
  refine h_rputFR (k := 30) Z hnm hS cls_0 hi0 (by decide) rfl rfl rfl (by first | exact Or.inl ⟨_, rfl⟩ | exact Or.inr ⟨_, rfl⟩) (by rw [hn100]; decide) q258 dX1_init_203 h (fun σ102 H locs hS h => ?_)
  refine lv_aload_n hx hb dX1_init_206 rfl (lv_at hl 0 rfl) ?_
  refine lv_sipush (v := (4941 : Int32)) hx hb dX1_init_207 (by decide) ?_
  refine a_newaI (j := 32) Z hS B q134 (by decide) (by decide) (by decide) dX1_init_210 h (fun ad103 σ103 τ103 H g103 hn104 hS B h => ?_)
  have G := G.trans g103
  generalize cl + 1 = cl at B ⊢
  generalize sl + 4941 = sl at B ⊢
  have ea105 := g103.ad hi0
  obtain ⟨hi0, h⟩ := gd_el h
  replace hi0 := isSh_1 hi0
  replace hl : lv_has ls 2 [(0, .ref (ad103 0))] := by rw [ea105]; exact hl
  refine W_stk (st' := [.ref (ad103 32), .ref (ad103 0)]) (by first | (rw [ea105]; done) | (rw [ea105]; rfl)) ?_
  refine h_rputFR (k := 31) Z hnm hS cls_0 hi0 (by decide) rfl rfl rfl (by first | exact Or.inl ⟨_, rfl⟩ | exact Or.inr ⟨_, rfl⟩) (by rw [hn104]; decide) q259 dX1_init_212 h (fun σ106 H locs hS h => ?_)
  refine lv_aload_n hx hb dX1_init_215 rfl (lv_at hl 0 rfl) ?_
  refine lv_bipush (v := (100 : Int32)) hx hb dX1_init_216 (by decide) ?_
  refine a_newaI (j := 34) Z hS B q134 (by decide) (by decide) (by decide) dX1_init_218 h (fun ad107 σ107 τ107 H g107 hn108 hS B h => ?_)
  have G := G.trans g107
  generalize cl + 1 = cl at B ⊢
  generalize sl + 100 = sl at B ⊢
  have ea109 := g107.ad hi0
  obtain ⟨hi0, h⟩ := gd_el h
  replace hi0 := isSh_1 hi0
  replace hl : lv_has ls 2 [(0, .ref (ad107 0))] := by rw [ea109]; exact hl
  refine W_stk (st' := [.ref (ad107 34), .ref (ad107 0)]) (by first | (rw [ea109]; done) | (rw [ea109]; rfl)) ?_
  refine h_rputFR (k := 33) Z hnm hS cls_0 hi0 (by decide) rfl rfl rfl (by first | exact Or.inl ⟨_, rfl⟩ | exact Or.inr ⟨_, rfl⟩) (by rw [hn108]; decide) q261 dX1_init_220 h (fun σ110 H locs hS h => ?_)
  refine lv_aload_n hx hb dX1_init_223 rfl (lv_at hl 0 rfl) ?_
  refine lv_bipush (v := (100 : Int32)) hx hb dX1_init_224 (by decide) ?_
  refine a_newaI (j := 35) Z hS B q134 (by decide) (by decide) (by decide) dX1_init_226 h (fun ad111 σ111 τ111 H g111 hn112 hS B h => ?_)
  have G := G.trans g111
  generalize cl + 1 = cl at B ⊢
  generalize sl + 100 = sl at B ⊢
  have ea113 := g111.ad hi0
  obtain ⟨hi0, h⟩ := gd_el h
  replace hi0 := isSh_1 hi0
  replace hl : lv_has ls 2 [(0, .ref (ad111 0))] := by rw [ea113]; exact hl
  refine W_stk (st' := [.ref (ad111 35), .ref (ad111 0)]) (by first | (rw [ea113]; done) | (rw [ea113]; rfl)) ?_
  refine h_rputFR (k := 34) Z hnm hS cls_0 hi0 (by decide) rfl rfl rfl (by first | exact Or.inl ⟨_, rfl⟩ | exact Or.inr ⟨_, rfl⟩) (by rw [hn112]; decide) q262 dX1_init_228 h (fun σ114 H locs hS h => ?_)
  refine lv_aload_n hx hb dX1_init_231 rfl (lv_at hl 0 rfl) ?_
  refine lv_bipush (v := (100 : Int32)) hx hb dX1_init_232 (by decide) ?_
  refine a_newaI (j := 36) Z hS B q134 (by decide) (by decide) (by decide) dX1_init_234 h (fun ad115 σ115 τ115 H g115 hn116 hS B h => ?_)
  have G := G.trans g115
  generalize cl + 1 = cl at B ⊢
  generalize sl + 100 = sl at B ⊢
  have ea117 := g115.ad hi0
  obtain ⟨hi0, h⟩ := gd_el h
  replace hi0 := isSh_1 hi0
  replace hl : lv_has ls 2 [(0, .ref (ad115 0))] := by rw [ea117]; exact hl
  refine W_stk (st' := [.ref (ad115 36), .ref (ad115 0)]) (by first | (rw [ea117]; done) | (rw [ea117]; rfl)) ?_
  refine h_rputFR (k := 35) Z hnm hS cls_0 hi0 (by decide) rfl rfl rfl (by first | exact Or.inl ⟨_, rfl⟩ | exact Or.inr ⟨_, rfl⟩) (by rw [hn116]; decide) q263 dX1_init_236 h (fun σ118 H locs hS h => ?_)
  refine lv_aload_n hx hb dX1_init_239 rfl (lv_at hl 0 rfl) ?_
  refine lv_bipush (v := (100 : Int32)) hx hb dX1_init_240 (by decide) ?_
  refine a_newaI (j := 37) Z hS B q134 (by decide) (by decide) (by decide) dX1_init_242 h (fun ad119 σ119 τ119 H g119 hn120 hS B h => ?_)
  have G := G.trans g119
  generalize cl + 1 = cl at B ⊢
  generalize sl + 100 = sl at B ⊢
  have ea121 := g119.ad hi0
  obtain ⟨hi0, h⟩ := gd_el h
  replace hi0 := isSh_1 hi0
  replace hl : lv_has ls 2 [(0, .ref (ad119 0))] := by rw [ea121]; exact hl
  refine W_stk (st' := [.ref (ad119 37), .ref (ad119 0)]) (by first | (rw [ea121]; done) | (rw [ea121]; rfl)) ?_
  refine h_rputFR (k := 36) Z hnm hS cls_0 hi0 (by decide) rfl rfl rfl (by first | exact Or.inl ⟨_, rfl⟩ | exact Or.inr ⟨_, rfl⟩) (by rw [hn120]; decide) q264 dX1_init_244 h (fun σ122 H locs hS h => ?_)
  refine lv_aload_n hx hb dX1_init_247 rfl (lv_at hl 0 rfl) ?_
  refine lv_bipush (v := (100 : Int32)) hx hb dX1_init_248 (by decide) ?_
  refine a_newaI (j := 38) Z hS B q134 (by decide) (by decide) (by decide) dX1_init_250 h (fun ad123 σ123 τ123 H g123 hn124 hS B h => ?_)
  have G := G.trans g123
  generalize cl + 1 = cl at B ⊢
  generalize sl + 100 = sl at B ⊢
  have ea125 := g123.ad hi0
  obtain ⟨hi0, h⟩ := gd_el h
  replace hi0 := isSh_1 hi0
  replace hl : lv_has ls 2 [(0, .ref (ad123 0))] := by rw [ea125]; exact hl
  refine W_stk (st' := [.ref (ad123 38), .ref (ad123 0)]) (by first | (rw [ea125]; done) | (rw [ea125]; rfl)) ?_
  refine h_rputFR (k := 37) Z hnm hS cls_0 hi0 (by decide) rfl rfl rfl (by first | exact Or.inl ⟨_, rfl⟩ | exact Or.inr ⟨_, rfl⟩) (by rw [hn124]; decide) q265 dX1_init_252 h (fun σ126 H locs hS h => ?_)
  refine lv_iconst (v := (0 : Int32)) hx hb dX1_init_255 (by decide) ?_
  refine lv_istore_n (lv' := [(1, .int (0 : Int32)), (0, .ref (ad123 0))]) hx hb dX1_init_256 rfl hl (by decide) rfl (fun ls hl => ?_)
  refine w_X1_init_L257 Z hex (fun σ137 τ137 ad137 cl sl H locs ls G hi0 hS B hl h => ?_) FU _ _ _ _ _ _ _ _ _ G hi0 hS B (lv_sub hl [1, 0] rfl) h
  refine a_cook hS B cls_0 nk_0 hi0 h (fun τ138 g138 _ hS B h => ?_)
  exact a_vret Z hS B (G.trans g138) dX1_init_304 h
end
theorem dX6_init_0 : decode cX6_init 0 = .ok (.aload_n 0, 1) := by decide +kernel
theorem dX6_init_1 : decode cX6_init 1 = .ok (.invokespecial 1, 3) := by decide +kernel
theorem dX6_init_4 : decode cX6_init 4 = .ok (.aload_n 0, 1) := by decide +kernel
theorem dX6_init_5 : decode cX6_init 5 = .ok (.bipush 8, 2) := by decide +kernel
theorem dX6_init_7 : decode cX6_init 7 = .ok (.newarray .int, 2) := by decide +kernel
theorem dX6_init_9 : decode cX6_init 9 = .ok (.putfield 9, 3) := by decide +kernel
theorem dX6_init_12 : decode cX6_init 12 = .ok (.aload_n 0, 1) := by decide +kernel
theorem dX6_init_13 : decode cX6_init 13 = .ok (.bipush 8, 2) := by decide +kernel
theorem dX6_init_15 : decode cX6_init 15 = .ok (.newarray .int, 2) := by decide +kernel
theorem dX6_init_17 : decode cX6_init 17 = .ok (.putfield 13, 3) := by decide +kernel
theorem dX6_init_20 : decode cX6_init 20 = .ok (.aload_n 0, 1) := by decide +kernel
theorem dX6_init_21 : decode cX6_init 21 = .ok (.bipush 8, 2) := by decide +kernel
theorem dX6_init_23 : decode cX6_init 23 = .ok (.newarray .int, 2) := by decide +kernel
theorem dX6_init_25 : decode cX6_init 25 = .ok (.putfield 16, 3) := by decide +kernel
theorem dX6_init_28 : decode cX6_init 28 = .ok (.aload_n 0, 1) := by decide +kernel
theorem dX6_init_29 : decode cX6_init 29 = .ok (.bipush 9, 2) := by decide +kernel
theorem dX6_init_31 : decode cX6_init 31 = .ok (.newarray .int, 2) := by decide +kernel
theorem dX6_init_33 : decode cX6_init 33 = .ok (.putfield 19, 3) := by decide +kernel
theorem dX6_init_36 : decode cX6_init 36 = .ok (.aload_n 0, 1) := by decide +kernel
theorem dX6_init_37 : decode cX6_init 37 = .ok (.bipush 90, 2) := by decide +kernel
theorem dX6_init_39 : decode cX6_init 39 = .ok (.newarray .int, 2) := by decide +kernel
theorem dX6_init_41 : decode cX6_init 41 = .ok (.putfield 22, 3) := by decide +kernel
theorem dX6_init_44 : decode cX6_init 44 = .ok (.aload_n 0, 1) := by decide +kernel
theorem dX6_init_45 : decode cX6_init 45 = .ok (.bipush 90, 2) := by decide +kernel
theorem dX6_init_47 : decode cX6_init 47 = .ok (.newarray .int, 2) := by decide +kernel
theorem dX6_init_49 : decode cX6_init 49 = .ok (.putfield 25, 3) := by decide +kernel
theorem dX6_init_52 : decode cX6_init 52 = .ok (.aload_n 0, 1) := by decide +kernel
theorem dX6_init_53 : decode cX6_init 53 = .ok (.bipush 90, 2) := by decide +kernel
theorem dX6_init_55 : decode cX6_init 55 = .ok (.newarray .int, 2) := by decide +kernel
theorem dX6_init_57 : decode cX6_init 57 = .ok (.putfield 28, 3) := by decide +kernel
theorem dX6_init_60 : decode cX6_init 60 = .ok (.aload_n 0, 1) := by decide +kernel
theorem dX6_init_61 : decode cX6_init 61 = .ok (.sipush 720, 3) := by decide +kernel
theorem dX6_init_64 : decode cX6_init 64 = .ok (.newarray .int, 2) := by decide +kernel
theorem dX6_init_66 : decode cX6_init 66 = .ok (.putfield 31, 3) := by decide +kernel
theorem dX6_init_69 : decode cX6_init 69 = .ok (.aload_n 0, 1) := by decide +kernel
theorem dX6_init_70 : decode cX6_init 70 = .ok (.sipush 720, 3) := by decide +kernel
theorem dX6_init_73 : decode cX6_init 73 = .ok (.newarray .int, 2) := by decide +kernel
theorem dX6_init_75 : decode cX6_init 75 = .ok (.putfield 34, 3) := by decide +kernel
theorem dX6_init_78 : decode cX6_init 78 = .ok (.aload_n 0, 1) := by decide +kernel
theorem dX6_init_79 : decode cX6_init 79 = .ok (.bipush 72, 2) := by decide +kernel
theorem dX6_init_81 : decode cX6_init 81 = .ok (.newarray .int, 2) := by decide +kernel
theorem dX6_init_83 : decode cX6_init 83 = .ok (.putfield 37, 3) := by decide +kernel
theorem dX6_init_86 : decode cX6_init 86 = .ok (.aload_n 0, 1) := by decide +kernel
theorem dX6_init_87 : decode cX6_init 87 = .ok (.bipush 9, 2) := by decide +kernel
theorem dX6_init_89 : decode cX6_init 89 = .ok (.newarray .int, 2) := by decide +kernel
theorem dX6_init_91 : decode cX6_init 91 = .ok (.putfield 40, 3) := by decide +kernel
theorem dX6_init_94 : decode cX6_init 94 = .ok (.aload_n 0, 1) := by decide +kernel
theorem dX6_init_95 : decode cX6_init 95 = .ok (.bipush 9, 2) := by decide +kernel
theorem dX6_init_97 : decode cX6_init 97 = .ok (.newarray .int, 2) := by decide +kernel
theorem dX6_init_99 : decode cX6_init 99 = .ok (.putfield 43, 3) := by decide +kernel
theorem dX6_init_102 : decode cX6_init 102 = .ok (.aload_n 0, 1) := by decide +kernel
theorem dX6_init_103 : decode cX6_init 103 = .ok (.bipush 9, 2) := by decide +kernel
theorem dX6_init_105 : decode cX6_init 105 = .ok (.newarray .int, 2) := by decide +kernel
theorem dX6_init_107 : decode cX6_init 107 = .ok (.putfield 46, 3) := by decide +kernel
theorem dX6_init_110 : decode cX6_init 110 = .ok (.aload_n 0, 1) := by decide +kernel
theorem dX6_init_111 : decode cX6_init 111 = .ok (.bipush 9, 2) := by decide +kernel
theorem dX6_init_113 : decode cX6_init 113 = .ok (.newarray .int, 2) := by decide +kernel
theorem dX6_init_115 : decode cX6_init 115 = .ok (.putfield 49, 3) := by decide +kernel
theorem dX6_init_118 : decode cX6_init 118 = .ok (.aload_n 0, 1) := by decide +kernel
theorem dX6_init_119 : decode cX6_init 119 = .ok (.bipush 9, 2) := by decide +kernel
theorem dX6_init_121 : decode cX6_init 121 = .ok (.newarray .int, 2) := by decide +kernel
theorem dX6_init_123 : decode cX6_init 123 = .ok (.putfield 52, 3) := by decide +kernel
theorem dX6_init_126 : decode cX6_init 126 = .ok (.aload_n 0, 1) := by decide +kernel
theorem dX6_init_127 : decode cX6_init 127 = .ok (.bipush 9, 2) := by decide +kernel
theorem dX6_init_129 : decode cX6_init 129 = .ok (.newarray .int, 2) := by decide +kernel
theorem dX6_init_131 : decode cX6_init 131 = .ok (.putfield 55, 3) := by decide +kernel
theorem dX6_init_134 : decode cX6_init 134 = .ok (.aload_n 0, 1) := by decide +kernel
theorem dX6_init_135 : decode cX6_init 135 = .ok (.bipush 9, 2) := by decide +kernel
theorem dX6_init_137 : decode cX6_init 137 = .ok (.newarray .int, 2) := by decide +kernel
theorem dX6_init_139 : decode cX6_init 139 = .ok (.putfield 58, 3) := by decide +kernel
theorem dX6_init_142 : decode cX6_init 142 = .ok (.aload_n 0, 1) := by decide +kernel
theorem dX6_init_143 : decode cX6_init 143 = .ok (.bipush 9, 2) := by decide +kernel
theorem dX6_init_145 : decode cX6_init 145 = .ok (.newarray .int, 2) := by decide +kernel
theorem dX6_init_147 : decode cX6_init 147 = .ok (.putfield 61, 3) := by decide +kernel
theorem dX6_init_150 : decode cX6_init 150 = .ok (.aload_n 0, 1) := by decide +kernel
theorem dX6_init_151 : decode cX6_init 151 = .ok (.bipush 9, 2) := by decide +kernel
theorem dX6_init_153 : decode cX6_init 153 = .ok (.newarray .int, 2) := by decide +kernel
theorem dX6_init_155 : decode cX6_init 155 = .ok (.putfield 64, 3) := by decide +kernel
theorem dX6_init_158 : decode cX6_init 158 = .ok (.aload_n 0, 1) := by decide +kernel
theorem dX6_init_159 : decode cX6_init 159 = .ok (.bipush 9, 2) := by decide +kernel
theorem dX6_init_161 : decode cX6_init 161 = .ok (.newarray .int, 2) := by decide +kernel
theorem dX6_init_163 : decode cX6_init 163 = .ok (.putfield 67, 3) := by decide +kernel
theorem dX6_init_166 : decode cX6_init 166 = .ok (.aload_n 0, 1) := by decide +kernel
theorem dX6_init_167 : decode cX6_init 167 = .ok (.bipush 9, 2) := by decide +kernel
theorem dX6_init_169 : decode cX6_init 169 = .ok (.newarray .boolean, 2) := by decide +kernel
theorem dX6_init_171 : decode cX6_init 171 = .ok (.putfield 70, 3) := by decide +kernel
theorem dX6_init_174 : decode cX6_init 174 = .ok (.aload_n 0, 1) := by decide +kernel
theorem dX6_init_175 : decode cX6_init 175 = .ok (.bipush 9, 2) := by decide +kernel
theorem dX6_init_177 : decode cX6_init 177 = .ok (.newarray .boolean, 2) := by decide +kernel
theorem dX6_init_179 : decode cX6_init 179 = .ok (.putfield 74, 3) := by decide +kernel
theorem dX6_init_182 : decode cX6_init 182 = .ok (.aload_n 0, 1) := by decide +kernel
theorem dX6_init_183 : decode cX6_init 183 = .ok (.sipush 160, 3) := by decide +kernel
theorem dX6_init_186 : decode cX6_init 186 = .ok (.newarray .int, 2) := by decide +kernel
theorem dX6_init_188 : decode cX6_init 188 = .ok (.putfield 77, 3) := by decide +kernel
theorem dX6_init_191 : decode cX6_init 191 = .ok (.aload_n 0, 1) := by decide +kernel
theorem dX6_init_192 : decode cX6_init 192 = .ok (.sipush 420, 3) := by decide +kernel
theorem dX6_init_195 : decode cX6_init 195 = .ok (.newarray .int, 2) := by decide +kernel
theorem dX6_init_197 : decode cX6_init 197 = .ok (.putfield 80, 3) := by decide +kernel
theorem dX6_init_200 : decode cX6_init 200 = .ok (.aload_n 0, 1) := by decide +kernel
theorem dX6_init_201 : decode cX6_init 201 = .ok (.sipush 5040, 3) := by decide +kernel
theorem dX6_init_204 : decode cX6_init 204 = .ok (.newarray .int, 2) := by decide +kernel
theorem dX6_init_206 : decode cX6_init 206 = .ok (.putfield 83, 3) := by decide +kernel
theorem dX6_init_209 : decode cX6_init 209 = .ok (.aload_n 0, 1) := by decide +kernel
theorem dX6_init_210 : decode cX6_init 210 = .ok (.bipush 12, 2) := by decide +kernel
theorem dX6_init_212 : decode cX6_init 212 = .ok (.newarray .int, 2) := by decide +kernel
theorem dX6_init_214 : decode cX6_init 214 = .ok (.putfield 86, 3) := by decide +kernel
theorem dX6_init_217 : decode cX6_init 217 = .ok (.aload_n 0, 1) := by decide +kernel
theorem dX6_init_218 : decode cX6_init 218 = .ok (.sipush 128, 3) := by decide +kernel
theorem dX6_init_221 : decode cX6_init 221 = .ok (.newarray .int, 2) := by decide +kernel
theorem dX6_init_223 : decode cX6_init 223 = .ok (.putfield 89, 3) := by decide +kernel
theorem dX6_init_226 : decode cX6_init 226 = .ok (.aload_n 0, 1) := by decide +kernel
theorem dX6_init_227 : decode cX6_init 227 = .ok (.sipush 200, 3) := by decide +kernel
theorem dX6_init_230 : decode cX6_init 230 = .ok (.newarray .int, 2) := by decide +kernel
theorem dX6_init_232 : decode cX6_init 232 = .ok (.putfield 92, 3) := by decide +kernel
theorem dX6_init_235 : decode cX6_init 235 = .ok (.aload_n 0, 1) := by decide +kernel
theorem dX6_init_236 : decode cX6_init 236 = .ok (.bipush 8, 2) := by decide +kernel
theorem dX6_init_238 : decode cX6_init 238 = .ok (.newarray .int, 2) := by decide +kernel
theorem dX6_init_240 : decode cX6_init 240 = .ok (.putfield 95, 3) := by decide +kernel
theorem dX6_init_243 : decode cX6_init 243 = .ok (.aload_n 0, 1) := by decide +kernel
theorem dX6_init_244 : decode cX6_init 244 = .ok (.ldc 98, 2) := by decide +kernel
theorem dX6_init_246 : decode cX6_init 246 = .ok (.newarray .int, 2) := by decide +kernel
theorem dX6_init_248 : decode cX6_init 248 = .ok (.putfield 99, 3) := by decide +kernel
theorem dX6_init_251 : decode cX6_init 251 = .ok (.aload_n 0, 1) := by decide +kernel
theorem dX6_init_252 : decode cX6_init 252 = .ok (.bipush 8, 2) := by decide +kernel
theorem dX6_init_254 : decode cX6_init 254 = .ok (.newarray .int, 2) := by decide +kernel
theorem dX6_init_256 : decode cX6_init 256 = .ok (.putfield 102, 3) := by decide +kernel
theorem dX6_init_259 : decode cX6_init 259 = .ok (.aload_n 0, 1) := by decide +kernel
theorem dX6_init_260 : decode cX6_init 260 = .ok (.bipush 8, 2) := by decide +kernel
theorem dX6_init_262 : decode cX6_init 262 = .ok (.newarray .int, 2) := by decide +kernel
theorem dX6_init_264 : decode cX6_init 264 = .ok (.putfield 105, 3) := by decide +kernel
theorem dX6_init_267 : decode cX6_init 267 = .ok (.aload_n 0, 1) := by decide +kernel
theorem dX6_init_268 : decode cX6_init 268 = .ok (.bipush 48, 2) := by decide +kernel
theorem dX6_init_270 : decode cX6_init 270 = .ok (.newarray .int, 2) := by decide +kernel
theorem dX6_init_272 : decode cX6_init 272 = .ok (.putfield 108, 3) := by decide +kernel
theorem dX6_init_275 : decode cX6_init 275 = .ok (.aload_n 0, 1) := by decide +kernel
theorem dX6_init_276 : decode cX6_init 276 = .ok (.bipush 8, 2) := by decide +kernel
theorem dX6_init_278 : decode cX6_init 278 = .ok (.newarray .int, 2) := by decide +kernel
theorem dX6_init_280 : decode cX6_init 280 = .ok (.putfield 111, 3) := by decide +kernel
theorem dX6_init_283 : decode cX6_init 283 = .ok (.aload_n 0, 1) := by decide +kernel
theorem dX6_init_284 : decode cX6_init 284 = .ok (.bipush 8, 2) := by decide +kernel
theorem dX6_init_286 : decode cX6_init 286 = .ok (.newarray .int, 2) := by decide +kernel
theorem dX6_init_288 : decode cX6_init 288 = .ok (.putfield 114, 3) := by decide +kernel
theorem dX6_init_291 : decode cX6_init 291 = .ok (.aload_n 0, 1) := by decide +kernel
theorem dX6_init_292 : decode cX6_init 292 = .ok (.bipush 8, 2) := by decide +kernel
theorem dX6_init_294 : decode cX6_init 294 = .ok (.newarray .int, 2) := by decide +kernel
theorem dX6_init_296 : decode cX6_init 296 = .ok (.putfield 117, 3) := by decide +kernel
theorem dX6_init_299 : decode cX6_init 299 = .ok (.aload_n 0, 1) := by decide +kernel
theorem dX6_init_300 : decode cX6_init 300 = .ok (.bipush 10, 2) := by decide +kernel
theorem dX6_init_302 : decode cX6_init 302 = .ok (.newarray .int, 2) := by decide +kernel
theorem dX6_init_304 : decode cX6_init 304 = .ok (.putfield 120, 3) := by decide +kernel
theorem dX6_init_307 : decode cX6_init 307 = .ok (.aload_n 0, 1) := by decide +kernel
theorem dX6_init_308 : decode cX6_init 308 = .ok (.bipush 8, 2) := by decide +kernel
theorem dX6_init_310 : decode cX6_init 310 = .ok (.newarray .boolean, 2) := by decide +kernel
theorem dX6_init_312 : decode cX6_init 312 = .ok (.putfield 123, 3) := by decide +kernel
theorem dX6_init_315 : decode cX6_init 315 = .ok (.aload_n 0, 1) := by decide +kernel
theorem dX6_init_316 : decode cX6_init 316 = .ok (.bipush 6, 2) := by decide +kernel
theorem dX6_init_318 : decode cX6_init 318 = .ok (.newarray .int, 2) := by decide +kernel
theorem dX6_init_320 : decode cX6_init 320 = .ok (.putfield 126, 3) := by decide +kernel
theorem dX6_init_323 : decode cX6_init 323 = .ok (.aload_n 0, 1) := by decide +kernel
theorem dX6_init_324 : decode cX6_init 324 = .ok (.bipush 6, 2) := by decide +kernel
theorem dX6_init_326 : decode cX6_init 326 = .ok (.newarray .int, 2) := by decide +kernel
theorem dX6_init_328 : decode cX6_init 328 = .ok (.putfield 129, 3) := by decide +kernel
theorem dX6_init_331 : decode cX6_init 331 = .ok (.aload_n 0, 1) := by decide +kernel
theorem dX6_init_332 : decode cX6_init 332 = .ok (.bipush 6, 2) := by decide +kernel
theorem dX6_init_334 : decode cX6_init 334 = .ok (.newarray .int, 2) := by decide +kernel
theorem dX6_init_336 : decode cX6_init 336 = .ok (.putfield 132, 3) := by decide +kernel
theorem dX6_init_339 : decode cX6_init 339 = .ok (.aload_n 0, 1) := by decide +kernel
theorem dX6_init_340 : decode cX6_init 340 = .ok (.bipush 6, 2) := by decide +kernel
theorem dX6_init_342 : decode cX6_init 342 = .ok (.newarray .int, 2) := by decide +kernel
theorem dX6_init_344 : decode cX6_init 344 = .ok (.putfield 135, 3) := by decide +kernel
theorem dX6_init_347 : decode cX6_init 347 = .ok (.aload_n 0, 1) := by decide +kernel
theorem dX6_init_348 : decode cX6_init 348 = .ok (.bipush 20, 2) := by decide +kernel
theorem dX6_init_350 : decode cX6_init 350 = .ok (.newarray .int, 2) := by decide +kernel
theorem dX6_init_352 : decode cX6_init 352 = .ok (.putfield 138, 3) := by decide +kernel
theorem dX6_init_355 : decode cX6_init 355 = .ok (.aload_n 0, 1) := by decide +kernel
theorem dX6_init_356 : decode cX6_init 356 = .ok (.sipush 4941, 3) := by decide +kernel
theorem dX6_init_359 : decode cX6_init 359 = .ok (.newarray .long, 2) := by decide +kernel
theorem dX6_init_361 : decode cX6_init 361 = .ok (.putfield 141, 3) := by decide +kernel
theorem dX6_init_364 : decode cX6_init 364 = .ok (.aload_n 0, 1) := by decide +kernel
theorem dX6_init_365 : decode cX6_init 365 = .ok (.bipush 100, 2) := by decide +kernel
theorem dX6_init_367 : decode cX6_init 367 = .ok (.newarray .int, 2) := by decide +kernel
theorem dX6_init_369 : decode cX6_init 369 = .ok (.putfield 145, 3) := by decide +kernel
theorem dX6_init_372 : decode cX6_init 372 = .ok (.aload_n 0, 1) := by decide +kernel
theorem dX6_init_373 : decode cX6_init 373 = .ok (.bipush 100, 2) := by decide +kernel
theorem dX6_init_375 : decode cX6_init 375 = .ok (.newarray .int, 2) := by decide +kernel
theorem dX6_init_377 : decode cX6_init 377 = .ok (.putfield 148, 3) := by decide +kernel
theorem dX6_init_380 : decode cX6_init 380 = .ok (.aload_n 0, 1) := by decide +kernel
theorem dX6_init_381 : decode cX6_init 381 = .ok (.bipush 100, 2) := by decide +kernel
theorem dX6_init_383 : decode cX6_init 383 = .ok (.newarray .int, 2) := by decide +kernel
theorem dX6_init_385 : decode cX6_init 385 = .ok (.putfield 151, 3) := by decide +kernel
theorem dX6_init_388 : decode cX6_init 388 = .ok (.aload_n 0, 1) := by decide +kernel
theorem dX6_init_389 : decode cX6_init 389 = .ok (.bipush 100, 2) := by decide +kernel
theorem dX6_init_391 : decode cX6_init 391 = .ok (.newarray .int, 2) := by decide +kernel
theorem dX6_init_393 : decode cX6_init 393 = .ok (.putfield 154, 3) := by decide +kernel
theorem dX6_init_396 : decode cX6_init 396 = .ok (.iconst 0, 1) := by decide +kernel
theorem dX6_init_397 : decode cX6_init 397 = .ok (.istore_n 1, 1) := by decide +kernel
theorem dX6_init_398 : decode cX6_init 398 = .ok (.iload_n 1, 1) := by decide +kernel
theorem dX6_init_399 : decode cX6_init 399 = .ok (.bipush 8, 2) := by decide +kernel
theorem dX6_init_401 : decode cX6_init 401 = .ok (.if_icmp .ge 35, 3) := by decide +kernel
theorem dX6_init_404 : decode cX6_init 404 = .ok (.aload_n 0, 1) := by decide +kernel
theorem dX6_init_405 : decode cX6_init 405 = .ok (.getfield 9, 3) := by decide +kernel
theorem dX6_init_408 : decode cX6_init 408 = .ok (.iload_n 1, 1) := by decide +kernel
theorem dX6_init_409 : decode cX6_init 409 = .ok (.sipush 200, 3) := by decide +kernel
theorem dX6_init_412 : decode cX6_init 412 = .ok (.iastore, 1) := by decide +kernel
theorem dX6_init_413 : decode cX6_init 413 = .ok (.aload_n 0, 1) := by decide +kernel
theorem dX6_init_414 : decode cX6_init 414 = .ok (.getfield 13, 3) := by decide +kernel
theorem dX6_init_417 : decode cX6_init 417 = .ok (.iload_n 1, 1) := by decide +kernel
theorem dX6_init_418 : decode cX6_init 418 = .ok (.sipush 600, 3) := by decide +kernel
theorem dX6_init_421 : decode cX6_init 421 = .ok (.iastore, 1) := by decide +kernel
theorem dX6_init_422 : decode cX6_init 422 = .ok (.aload_n 0, 1) := by decide +kernel
theorem dX6_init_423 : decode cX6_init 423 = .ok (.getfield 16, 3) := by decide +kernel
theorem dX6_init_426 : decode cX6_init 426 = .ok (.iload_n 1, 1) := by decide +kernel
theorem dX6_init_427 : decode cX6_init 427 = .ok (.bipush 50, 2) := by decide +kernel
theorem dX6_init_429 : decode cX6_init 429 = .ok (.iastore, 1) := by decide +kernel
theorem dX6_init_430 : decode cX6_init 430 = .ok (.iinc 1 1, 3) := by decide +kernel
theorem dX6_init_433 : decode cX6_init 433 = .ok (.goto (-35), 3) := by decide +kernel
theorem dX6_init_436 : decode cX6_init 436 = .ok (.aload_n 0, 1) := by decide +kernel
theorem dX6_init_437 : decode cX6_init 437 = .ok (.getfield 40, 3) := by decide +kernel
theorem dX6_init_440 : decode cX6_init 440 = .ok (.bipush 8, 2) := by decide +kernel
theorem dX6_init_442 : decode cX6_init 442 = .ok (.bipush 100, 2) := by decide +kernel
theorem dX6_init_444 : decode cX6_init 444 = .ok (.iastore, 1) := by decide +kernel
theorem dX6_init_445 : decode cX6_init 445 = .ok (.return_, 1) := by decide +kernel
section
variable {p : Program} {l : Launch} {e : Env} {s : State} {m : MethodId} {args : Array Value} {below : List Frame} {meth : Method} {c : Code} {D : gD} {A : Nat → Prop} {ad : Nat → Nat} {τ : Shp} {σ : Mem}
set_option maxRecDepth 100000 in
set_option maxHeartbeats 4000000 in
theorem w_X6_init_L398 (Z : Cz D (Ew D A) A cX6_init 2 none RX6 p s m args meth c) (hex : c.exceptionTable.toList.map (fun h => (h.startPc, h.endPc, h.handlerPc, h.catchType)) = []) {r : (Rs Unit)} {k436 : Mem → Shp → Option (Rs Unit)}
    (hk436 : ∀ (σ : Mem) (τ1 : Shp)  (ad1 : Nat → Nat) (cl sl : Nat) (H : Heap) (locs : List Loc) (ls : Array Slot), Gx τ ad τ1 ad1 → ∀ (_ : sS τ1 200 = (24, 1)), St D A ad1 (sS τ1) σ s.heap H locs → Bd (sC τ) (sL τ) (rmA 1 12 τ) τ1 cl sl → lv_has ls 2 [(0, .ref (ad1 200))] → k436 σ τ1 = some r → W p l e (rmA 1 12 τ) s m args below meth c H locs cl sl (GQ below (QR D A ad τ vU r) args s A) (F0 m 436 ls [])) :
    ∀ (n : Nat) (σ : Mem) (τ1 : Shp) (v1 : Int32) (ad1 : Nat → Nat) (cl sl : Nat) (H : Heap) (locs : List Loc) (ls : Array Slot), Gx τ ad τ1 ad1 → ∀ (hu0 : sS τ1 200 = (24, 1)), St D A ad1 (sS τ1) σ s.heap H locs → Bd (sC τ) (sL τ) (rmA 1 12 τ) τ1 cl sl → lv_has ls 2 [(0, .ref (ad1 200)), (1, .int v1)] → f_X6_init_L398 k436 n σ τ1 v1 = some r → W p l e (rmA 1 12 τ) s m args below meth c H locs cl sl (GQ below (QR D A ad τ vU r) args s A) (F0 m 398 ls []) := by
  have hx := Z.1
  have hb := Z.2.1
  have hown := Z.2.2.2.2.2.1
  have hts := Z.2.2.2.2.2.2.1
  intro n
  induction n with
  | zero => intro σ τ1 v1 ad1 cl sl H locs ls G hu0 hS B hl h; cases h
  | succ n ih =>
    intro σ τ1 v1 ad1 cl sl H locs ls G hu0 hS B hl h
    unfold f_X6_init_L398 at h
    refine lv_iload_n hx hb dX6_init_398 rfl (lv_at hl 1 rfl) ?_
    refine lv_bipush (v := (8 : Int32)) hx hb dX6_init_399 (by decide) ?_
    refine lv_icmp_ge (tgt := 436) hx hb dX6_init_401 (by decide) (fun c193 => ?_) (fun c193 => ?_)
    · have h := if_t h c193
      exact hk436 _ _ _ _ _ _ _ _ G hu0 hS B (lv_sub hl [0] rfl) h
    · have h := if_f h c193
      refine lv_aload_n hx hb dX6_init_404 rfl (lv_at hl 0 rfl) ?_
      refine h_rgetN Z hS cls_14 hu0 (by decide) rfl fl_X6_9_14 dX6_init_405 h (fun j194 h => ?_)
      obtain ⟨hj194, h⟩ := gd_el h
      replace hj194 := isSh_1 hj194
      refine lv_iload_n hx hb dX6_init_408 rfl (lv_at hl 1 rfl) ?_
      refine lv_sipush (v := (200 : Int32)) hx hb dX6_init_409 (by decide) ?_
      refine h_iast Z hS hj194 dX6_init_412 h (fun σ195 H locs hS h => ?_)
      refine lv_aload_n hx hb dX6_init_413 rfl (lv_at hl 0 rfl) ?_
      refine h_rgetN Z hS cls_14 hu0 (by decide) rfl fl_X6_13_14 dX6_init_414 h (fun j196 h => ?_)
      obtain ⟨hj196, h⟩ := gd_el h
      replace hj196 := isSh_1 hj196
      refine lv_iload_n hx hb dX6_init_417 rfl (lv_at hl 1 rfl) ?_
      refine lv_sipush (v := (600 : Int32)) hx hb dX6_init_418 (by decide) ?_
      refine h_iast Z hS hj196 dX6_init_421 h (fun σ197 H locs hS h => ?_)
      refine lv_aload_n hx hb dX6_init_422 rfl (lv_at hl 0 rfl) ?_
      refine h_rgetN Z hS cls_14 hu0 (by decide) rfl fl_X6_16_14 dX6_init_423 h (fun j198 h => ?_)
      obtain ⟨hj198, h⟩ := gd_el h
      replace hj198 := isSh_1 hj198
      refine lv_iload_n hx hb dX6_init_426 rfl (lv_at hl 1 rfl) ?_
      refine lv_bipush (v := (50 : Int32)) hx hb dX6_init_427 (by decide) ?_
      refine h_iast Z hS hj198 dX6_init_429 h (fun σ199 H locs hS h => ?_)
      refine lv_iinc (v := (v1 + (1 : Int32))) (lv' := [(1, .int (v1 + (1 : Int32))), (0, .ref (ad1 200))]) hx hb dX6_init_430 hl (k := 1) rfl rfl (by decide) rfl (fun ls hl => ?_)
      refine lv_goto (tgt := 398) hx hb dX6_init_433 (by decide) ?_
      exact ih _ _ _ _ _ _ _ _ _ G hu0 hS B (lv_sub hl [1, 0] rfl) h
set_option maxRecDepth 100000 in
set_option maxHeartbeats 4000000 in
theorem w_X6_init (hc0 : sC τ ≤ LCl) (hs0 : sL τ ≤ LSl) (hi0 : sS τ 200 = (24, 1)) {r : (Rs Unit)} (h : f_X6_init σ τ = some r) : Mg l yX6_init (ws_ yX6_init cX6_init 2 none) (rmA 1 12 τ) (va_Pc [.ref (ad 200)] (PreG D (Ew D A) A ad (sS τ) σ)) (QR D A ad τ vU r) A := by
  refine a_met hc0 hs0 (by decide) (Nat.le_of_ble_eq_true rfl) (fun p e s m args below meth c ls Z hnm hex hS B G hl => ?_)
  have hx := Z.1
  have hb := Z.2.1
  have hown := Z.2.2.2.2.2.1
  have hts := Z.2.2.2.2.2.2.1
  refine (?_ : ∀ cl sl, Bd (sC τ) (sL τ) (rmA 1 12 τ) τ cl sl → W p l e (rmA 1 12 τ) s m args below meth c s.heap [] cl sl (GQ below (QR D A ad τ vU r) args s A) (F0 m 0 ls [])) 0 0 B
  clear B
  intro cl sl B
  unfold f_X6_init at h
  refine lv_aload_n hx hb dX6_init_0 rfl (lv_at hl 0 rfl) ?_
  refine h_oinit Z q1184 q111 q112 hl.1 (Nat.le_of_ble_eq_true rfl) (Nat.le_of_ble_eq_true rfl) dX6_init_1 ?_
  refine lv_aload_n hx hb dX6_init_4 rfl (lv_at hl 0 rfl) ?_
  refine lv_bipush (v := (8 : Int32)) hx hb dX6_init_5 (by decide) ?_
  refine a_newaI (j := 203) Z hS B q134 (by decide) (by decide) (by decide) dX6_init_7 h (fun ad1 σ1 τ1 H g1 hn2 hS B h => ?_)
  have G := G.trans g1
  generalize cl + 1 = cl at B ⊢
  generalize sl + 8 = sl at B ⊢
  have ea3 := g1.ad hi0
  obtain ⟨hi0, h⟩ := gd_el h
  replace hi0 := isSh_1 hi0
  replace hl : lv_has ls 2 [(0, .ref (ad1 200))] := by rw [ea3]; exact hl
  refine W_stk (st' := [.ref (ad1 203), .ref (ad1 200)]) (by first | (rw [ea3]; done) | (rw [ea3]; rfl)) ?_
  refine h_rputFR (k := 2) Z hnm hS cls_14 hi0 (by decide) rfl rfl rfl (by first | exact Or.inl ⟨_, rfl⟩ | exact Or.inr ⟨_, rfl⟩) (by rw [hn2]; decide) q1188 dX6_init_9 h (fun σ4 H locs hS h => ?_)
  refine lv_aload_n hx hb dX6_init_12 rfl (lv_at hl 0 rfl) ?_
  refine lv_bipush (v := (8 : Int32)) hx hb dX6_init_13 (by decide) ?_
  refine a_newaI (j := 204) Z hS B q134 (by decide) (by decide) (by decide) dX6_init_15 h (fun ad5 σ5 τ5 H g5 hn6 hS B h => ?_)
  have G := G.trans g5
  generalize cl + 1 = cl at B ⊢
  generalize sl + 8 = sl at B ⊢
  have ea7 := g5.ad hi0
  obtain ⟨hi0, h⟩ := gd_el h
  replace hi0 := isSh_1 hi0
  replace hl : lv_has ls 2 [(0, .ref (ad5 200))] := by rw [ea7]; exact hl
  refine W_stk (st' := [.ref (ad5 204), .ref (ad5 200)]) (by first | (rw [ea7]; done) | (rw [ea7]; rfl)) ?_
  refine h_rputFR (k := 3) Z hnm hS cls_14 hi0 (by decide) rfl rfl rfl (by first | exact Or.inl ⟨_, rfl⟩ | exact Or.inr ⟨_, rfl⟩) (by rw [hn6]; decide) q1189 dX6_init_17 h (fun σ8 H locs hS h => ?_)
  refine lv_aload_n hx hb dX6_init_20 rfl (lv_at hl 0 rfl) ?_
  refine lv_bipush (v := (8 : Int32)) hx hb dX6_init_21 (by decide) ?_
  refine a_newaI (j := 205) Z hS B q134 (by decide) (by decide) (by decide) dX6_init_23 h (fun ad9 σ9 τ9 H g9 hn10 hS B h => ?_)
  have G := G.trans g9
  generalize cl + 1 = cl at B ⊢
  generalize sl + 8 = sl at B ⊢
  have ea11 := g9.ad hi0
  obtain ⟨hi0, h⟩ := gd_el h
  replace hi0 := isSh_1 hi0
  replace hl : lv_has ls 2 [(0, .ref (ad9 200))] := by rw [ea11]; exact hl
  refine W_stk (st' := [.ref (ad9 205), .ref (ad9 200)]) (by first | (rw [ea11]; done) | (rw [ea11]; rfl)) ?_
  refine h_rputFR (k := 4) Z hnm hS cls_14 hi0 (by decide) rfl rfl rfl (by first | exact Or.inl ⟨_, rfl⟩ | exact Or.inr ⟨_, rfl⟩) (by rw [hn10]; decide) q1190 dX6_init_25 h (fun σ12 H locs hS h => ?_)
  refine lv_aload_n hx hb dX6_init_28 rfl (lv_at hl 0 rfl) ?_
  refine lv_bipush (v := (9 : Int32)) hx hb dX6_init_29 (by decide) ?_
  refine a_newaI (j := 206) Z hS B q134 (by decide) (by decide) (by decide) dX6_init_31 h (fun ad13 σ13 τ13 H g13 hn14 hS B h => ?_)
  have G := G.trans g13
  generalize cl + 1 = cl at B ⊢
  generalize sl + 9 = sl at B ⊢
  have ea15 := g13.ad hi0
  obtain ⟨hi0, h⟩ := gd_el h
  replace hi0 := isSh_1 hi0
  replace hl : lv_has ls 2 [(0, .ref (ad13 200))] := by rw [ea15]; exact hl
  refine W_stk (st' := [.ref (ad13 206), .ref (ad13 200)]) (by first | (rw [ea15]; done) | (rw [ea15]; rfl)) ?_
  refine h_rputFR (k := 5) Z hnm hS cls_14 hi0 (by decide) rfl rfl rfl (by first | exact Or.inl ⟨_, rfl⟩ | exact Or.inr ⟨_, rfl⟩) (by rw [hn14]; decide) q1191 dX6_init_33 h (fun σ16 H locs hS h => ?_)
  refine lv_aload_n hx hb dX6_init_36 rfl (lv_at hl 0 rfl) ?_
  refine lv_bipush (v := (90 : Int32)) hx hb dX6_init_37 (by decide) ?_
  refine a_newaI (j := 207) Z hS B q134 (by decide) (by decide) (by decide) dX6_init_39 h (fun ad17 σ17 τ17 H g17 hn18 hS B h => ?_)
  have G := G.trans g17
  generalize cl + 1 = cl at B ⊢
  generalize sl + 90 = sl at B ⊢
  have ea19 := g17.ad hi0
  obtain ⟨hi0, h⟩ := gd_el h
  replace hi0 := isSh_1 hi0
  replace hl : lv_has ls 2 [(0, .ref (ad17 200))] := by rw [ea19]; exact hl
  refine W_stk (st' := [.ref (ad17 207), .ref (ad17 200)]) (by first | (rw [ea19]; done) | (rw [ea19]; rfl)) ?_
  refine h_rputFR (k := 6) Z hnm hS cls_14 hi0 (by decide) rfl rfl rfl (by first | exact Or.inl ⟨_, rfl⟩ | exact Or.inr ⟨_, rfl⟩) (by rw [hn18]; decide) q1192 dX6_init_41 h (fun σ20 H locs hS h => ?_)
  refine lv_aload_n hx hb dX6_init_44 rfl (lv_at hl 0 rfl) ?_
  refine lv_bipush (v := (90 : Int32)) hx hb dX6_init_45 (by decide) ?_
  refine a_newaI (j := 208) Z hS B q134 (by decide) (by decide) (by decide) dX6_init_47 h (fun ad21 σ21 τ21 H g21 hn22 hS B h => ?_)
  have G := G.trans g21
  generalize cl + 1 = cl at B ⊢
  generalize sl + 90 = sl at B ⊢
  have ea23 := g21.ad hi0
  obtain ⟨hi0, h⟩ := gd_el h
  replace hi0 := isSh_1 hi0
  replace hl : lv_has ls 2 [(0, .ref (ad21 200))] := by rw [ea23]; exact hl
  refine W_stk (st' := [.ref (ad21 208), .ref (ad21 200)]) (by first | (rw [ea23]; done) | (rw [ea23]; rfl)) ?_
  refine h_rputFR (k := 7) Z hnm hS cls_14 hi0 (by decide) rfl rfl rfl (by first | exact Or.inl ⟨_, rfl⟩ | exact Or.inr ⟨_, rfl⟩) (by rw [hn22]; decide) q1193 dX6_init_49 h (fun σ24 H locs hS h => ?_)
  refine lv_aload_n hx hb dX6_init_52 rfl (lv_at hl 0 rfl) ?_
  refine lv_bipush (v := (90 : Int32)) hx hb dX6_init_53 (by decide) ?_
  refine a_newaI (j := 209) Z hS B q134 (by decide) (by decide) (by decide) dX6_init_55 h (fun ad25 σ25 τ25 H g25 hn26 hS B h => ?_)
  have G := G.trans g25
  generalize cl + 1 = cl at B ⊢
  generalize sl + 90 = sl at B ⊢
  have ea27 := g25.ad hi0
  obtain ⟨hi0, h⟩ := gd_el h
  replace hi0 := isSh_1 hi0
  replace hl : lv_has ls 2 [(0, .ref (ad25 200))] := by rw [ea27]; exact hl
  refine W_stk (st' := [.ref (ad25 209), .ref (ad25 200)]) (by first | (rw [ea27]; done) | (rw [ea27]; rfl)) ?_
  refine h_rputFR (k := 8) Z hnm hS cls_14 hi0 (by decide) rfl rfl rfl (by first | exact Or.inl ⟨_, rfl⟩ | exact Or.inr ⟨_, rfl⟩) (by rw [hn26]; decide) q1194 dX6_init_57 h (fun σ28 H locs hS h => ?_)
  refine lv_aload_n hx hb dX6_init_60 rfl (lv_at hl 0 rfl) ?_
  refine lv_sipush (v := (720 : Int32)) hx hb dX6_init_61 (by decide) ?_
  refine a_newaI (j := 210) Z hS B q134 (by decide) (by decide) (by decide) dX6_init_64 h (fun ad29 σ29 τ29 H g29 hn30 hS B h => ?_)
  have G := G.trans g29
  generalize cl + 1 = cl at B ⊢
  generalize sl + 720 = sl at B ⊢
  have ea31 := g29.ad hi0
  obtain ⟨hi0, h⟩ := gd_el h
  replace hi0 := isSh_1 hi0
  replace hl : lv_has ls 2 [(0, .ref (ad29 200))] := by rw [ea31]; exact hl
  refine W_stk (st' := [.ref (ad29 210), .ref (ad29 200)]) (by first | (rw [ea31]; done) | (rw [ea31]; rfl)) ?_
  refine h_rputFR (k := 9) Z hnm hS cls_14 hi0 (by decide) rfl rfl rfl (by first | exact Or.inl ⟨_, rfl⟩ | exact Or.inr ⟨_, rfl⟩) (by rw [hn30]; decide) q1195 dX6_init_66 h (fun σ32 H locs hS h => ?_)
  refine lv_aload_n hx hb dX6_init_69 rfl (lv_at hl 0 rfl) ?_
  refine lv_sipush (v := (720 : Int32)) hx hb dX6_init_70 (by decide) ?_
  refine a_newaI (j := 211) Z hS B q134 (by decide) (by decide) (by decide) dX6_init_73 h (fun ad33 σ33 τ33 H g33 hn34 hS B h => ?_)
  have G := G.trans g33
  generalize cl + 1 = cl at B ⊢
  generalize sl + 720 = sl at B ⊢
  have ea35 := g33.ad hi0
  obtain ⟨hi0, h⟩ := gd_el h
  replace hi0 := isSh_1 hi0
  replace hl : lv_has ls 2 [(0, .ref (ad33 200))] := by rw [ea35]; exact hl
  refine W_stk (st' := [.ref (ad33 211), .ref (ad33 200)]) (by first | (rw [ea35]; done) | (rw [ea35]; rfl)) ?_
  refine h_rputFR (k := 10) Z hnm hS cls_14 hi0 (by decide) rfl rfl rfl (by first | exact Or.inl ⟨_, rfl⟩ | exact Or.inr ⟨_, rfl⟩) (by rw [hn34]; decide) q1196 dX6_init_75 h (fun σ36 H locs hS h => ?_)
  refine lv_aload_n hx hb dX6_init_78 rfl (lv_at hl 0 rfl) ?_
  refine lv_bipush (v := (72 : Int32)) hx hb dX6_init_79 (by decide) ?_
  refine a_newaI (j := 212) Z hS B q134 (by decide) (by decide) (by decide) dX6_init_81 h (fun ad37 σ37 τ37 H g37 hn38 hS B h => ?_)
  have G := G.trans g37
  generalize cl + 1 = cl at B ⊢
  generalize sl + 72 = sl at B ⊢
  have ea39 := g37.ad hi0
  obtain ⟨hi0, h⟩ := gd_el h
  replace hi0 := isSh_1 hi0
  replace hl : lv_has ls 2 [(0, .ref (ad37 200))] := by rw [ea39]; exact hl
  refine W_stk (st' := [.ref (ad37 212), .ref (ad37 200)]) (by first | (rw [ea39]; done) | (rw [ea39]; rfl)) ?_
  refine h_rputFR (k := 11) Z hnm hS cls_14 hi0 (by decide) rfl rfl rfl (by first | exact Or.inl ⟨_, rfl⟩ | exact Or.inr ⟨_, rfl⟩) (by rw [hn38]; decide) q1197 dX6_init_83 h (fun σ40 H locs hS h => ?_)
  refine lv_aload_n hx hb dX6_init_86 rfl (lv_at hl 0 rfl) ?_
  refine lv_bipush (v := (9 : Int32)) hx hb dX6_init_87 (by decide) ?_
  refine a_newaI (j := 213) Z hS B q134 (by decide) (by decide) (by decide) dX6_init_89 h (fun ad41 σ41 τ41 H g41 hn42 hS B h => ?_)
  have G := G.trans g41
  generalize cl + 1 = cl at B ⊢
  generalize sl + 9 = sl at B ⊢
  have ea43 := g41.ad hi0
  obtain ⟨hi0, h⟩ := gd_el h
  replace hi0 := isSh_1 hi0
  replace hl : lv_has ls 2 [(0, .ref (ad41 200))] := by rw [ea43]; exact hl
  refine W_stk (st' := [.ref (ad41 213), .ref (ad41 200)]) (by first | (rw [ea43]; done) | (rw [ea43]; rfl)) ?_
  refine h_rputFR (k := 12) Z hnm hS cls_14 hi0 (by decide) rfl rfl rfl (by first | exact Or.inl ⟨_, rfl⟩ | exact Or.inr ⟨_, rfl⟩) (by rw [hn42]; decide) q1198 dX6_init_91 h (fun σ44 H locs hS h => ?_)
  refine lv_aload_n hx hb dX6_init_94 rfl (lv_at hl 0 rfl) ?_
  refine lv_bipush (v := (9 : Int32)) hx hb dX6_init_95 (by decide) ?_
  refine a_newaI (j := 214) Z hS B q134 (by decide) (by decide) (by decide) dX6_init_97 h (fun ad45 σ45 τ45 H g45 hn46 hS B h => ?_)
  have G := G.trans g45
  generalize cl + 1 = cl at B ⊢
  generalize sl + 9 = sl at B ⊢
  have ea47 := g45.ad hi0
  obtain ⟨hi0, h⟩ := gd_el h
  replace hi0 := isSh_1 hi0
  replace hl : lv_has ls 2 [(0, .ref (ad45 200))] := by rw [ea47]; exact hl
  refine W_stk (st' := [.ref (ad45 214), .ref (ad45 200)]) (by first | (rw [ea47]; done) | (rw [ea47]; rfl)) ?_
  refine h_rputFR (k := 13) Z hnm hS cls_14 hi0 (by decide) rfl rfl rfl (by first | exact Or.inl ⟨_, rfl⟩ | exact Or.inr ⟨_, rfl⟩) (by rw [hn46]; decide) q1199 dX6_init_99 h (fun σ48 H locs hS h => ?_)
  refine lv_aload_n hx hb dX6_init_102 rfl (lv_at hl 0 rfl) ?_
  refine lv_bipush (v := (9 : Int32)) hx hb dX6_init_103 (by decide) ?_
  refine a_newaI (j := 215) Z hS B q134 (by decide) (by decide) (by decide) dX6_init_105 h (fun ad49 σ49 τ49 H g49 hn50 hS B h => ?_)
  have G := G.trans g49
  generalize cl + 1 = cl at B ⊢
  generalize sl + 9 = sl at B ⊢
  have ea51 := g49.ad hi0
  obtain ⟨hi0, h⟩ := gd_el h
  replace hi0 := isSh_1 hi0
  replace hl : lv_has ls 2 [(0, .ref (ad49 200))] := by rw [ea51]; exact hl
  refine W_stk (st' := [.ref (ad49 215), .ref (ad49 200)]) (by first | (rw [ea51]; done) | (rw [ea51]; rfl)) ?_
  refine h_rputFR (k := 14) Z hnm hS cls_14 hi0 (by decide) rfl rfl rfl (by first | exact Or.inl ⟨_, rfl⟩ | exact Or.inr ⟨_, rfl⟩) (by rw [hn50]; decide) q1200 dX6_init_107 h (fun σ52 H locs hS h => ?_)
  refine lv_aload_n hx hb dX6_init_110 rfl (lv_at hl 0 rfl) ?_
  refine lv_bipush (v := (9 : Int32)) hx hb dX6_init_111 (by decide) ?_
  refine a_newaI (j := 216) Z hS B q134 (by decide) (by decide) (by decide) dX6_init_113 h (fun ad53 σ53 τ53 H g53 hn54 hS B h => ?_)
  have G := G.trans g53
  generalize cl + 1 = cl at B ⊢
  generalize sl + 9 = sl at B ⊢
  have ea55 := g53.ad hi0
  obtain ⟨hi0, h⟩ := gd_el h
  replace hi0 := isSh_1 hi0
  replace hl : lv_has ls 2 [(0, .ref (ad53 200))] := by rw [ea55]; exact hl
  refine W_stk (st' := [.ref (ad53 216), .ref (ad53 200)]) (by first | (rw [ea55]; done) | (rw [ea55]; rfl)) ?_
  refine h_rputFR (k := 15) Z hnm hS cls_14 hi0 (by decide) rfl rfl rfl (by first | exact Or.inl ⟨_, rfl⟩ | exact Or.inr ⟨_, rfl⟩) (by rw [hn54]; decide) q1201 dX6_init_115 h (fun σ56 H locs hS h => ?_)
  refine lv_aload_n hx hb dX6_init_118 rfl (lv_at hl 0 rfl) ?_
  refine lv_bipush (v := (9 : Int32)) hx hb dX6_init_119 (by decide) ?_
  refine a_newaI (j := 217) Z hS B q134 (by decide) (by decide) (by decide) dX6_init_121 h (fun ad57 σ57 τ57 H g57 hn58 hS B h => ?_)
  have G := G.trans g57
  generalize cl + 1 = cl at B ⊢
  generalize sl + 9 = sl at B ⊢
  have ea59 := g57.ad hi0
  obtain ⟨hi0, h⟩ := gd_el h
  replace hi0 := isSh_1 hi0
  replace hl : lv_has ls 2 [(0, .ref (ad57 200))] := by rw [ea59]; exact hl
  refine W_stk (st' := [.ref (ad57 217), .ref (ad57 200)]) (by first | (rw [ea59]; done) | (rw [ea59]; rfl)) ?_
  refine h_rputFR (k := 16) Z hnm hS cls_14 hi0 (by decide) rfl rfl rfl (by first | exact Or.inl ⟨_, rfl⟩ | exact Or.inr ⟨_, rfl⟩) (by rw [hn58]; decide) q1202 dX6_init_123 h (fun σ60 H locs hS h => ?_)
  refine lv_aload_n hx hb dX6_init_126 rfl (lv_at hl 0 rfl) ?_
  refine lv_bipush (v := (9 : Int32)) hx hb dX6_init_127 (by decide) ?_
  refine a_newaI (j := 218) Z hS B q134 (by decide) (by decide) (by decide) dX6_init_129 h (fun ad61 σ61 τ61 H g61 hn62 hS B h => ?_)
  have G := G.trans g61
  generalize cl + 1 = cl at B ⊢
  generalize sl + 9 = sl at B ⊢
  have ea63 := g61.ad hi0
  obtain ⟨hi0, h⟩ := gd_el h
  replace hi0 := isSh_1 hi0
  replace hl : lv_has ls 2 [(0, .ref (ad61 200))] := by rw [ea63]; exact hl
  refine W_stk (st' := [.ref (ad61 218), .ref (ad61 200)]) (by first | (rw [ea63]; done) | (rw [ea63]; rfl)) ?_
  refine h_rputFR (k := 17) Z hnm hS cls_14 hi0 (by decide) rfl rfl rfl (by first | exact Or.inl ⟨_, rfl⟩ | exact Or.inr ⟨_, rfl⟩) (by rw [hn62]; decide) q1203 dX6_init_131 h (fun σ64 H locs hS h => ?_)
  refine lv_aload_n hx hb dX6_init_134 rfl (lv_at hl 0 rfl) ?_
  refine lv_bipush (v := (9 : Int32)) hx hb dX6_init_135 (by decide) ?_
  refine a_newaI (j := 219) Z hS B q134 (by decide) (by decide) (by decide) dX6_init_137 h (fun ad65 σ65 τ65 H g65 hn66 hS B h => ?_)
  have G := G.trans g65
  generalize cl + 1 = cl at B ⊢
  generalize sl + 9 = sl at B ⊢
  have ea67 := g65.ad hi0
  obtain ⟨hi0, h⟩ := gd_el h
  replace hi0 := isSh_1 hi0
  replace hl : lv_has ls 2 [(0, .ref (ad65 200))] := by rw [ea67]; exact hl
  refine W_stk (st' := [.ref (ad65 219), .ref (ad65 200)]) (by first | (rw [ea67]; done) | (rw [ea67]; rfl)) ?_
  refine h_rputFR (k := 18) Z hnm hS cls_14 hi0 (by decide) rfl rfl rfl (by first | exact Or.inl ⟨_, rfl⟩ | exact Or.inr ⟨_, rfl⟩) (by rw [hn66]; decide) q1204 dX6_init_139 h (fun σ68 H locs hS h => ?_)
  refine lv_aload_n hx hb dX6_init_142 rfl (lv_at hl 0 rfl) ?_
  refine lv_bipush (v := (9 : Int32)) hx hb dX6_init_143 (by decide) ?_
  refine a_newaI (j := 220) Z hS B q134 (by decide) (by decide) (by decide) dX6_init_145 h (fun ad69 σ69 τ69 H g69 hn70 hS B h => ?_)
  have G := G.trans g69
  generalize cl + 1 = cl at B ⊢
  generalize sl + 9 = sl at B ⊢
  have ea71 := g69.ad hi0
  obtain ⟨hi0, h⟩ := gd_el h
  replace hi0 := isSh_1 hi0
  replace hl : lv_has ls 2 [(0, .ref (ad69 200))] := by rw [ea71]; exact hl
  refine W_stk (st' := [.ref (ad69 220), .ref (ad69 200)]) (by first | (rw [ea71]; done) | (rw [ea71]; rfl)) ?_
  refine h_rputFR (k := 19) Z hnm hS cls_14 hi0 (by decide) rfl rfl rfl (by first | exact Or.inl ⟨_, rfl⟩ | exact Or.inr ⟨_, rfl⟩) (by rw [hn70]; decide) q1205 dX6_init_147 h (fun σ72 H locs hS h => ?_)
  refine lv_aload_n hx hb dX6_init_150 rfl (lv_at hl 0 rfl) ?_
  refine lv_bipush (v := (9 : Int32)) hx hb dX6_init_151 (by decide) ?_
  refine a_newaI (j := 221) Z hS B q134 (by decide) (by decide) (by decide) dX6_init_153 h (fun ad73 σ73 τ73 H g73 hn74 hS B h => ?_)
  have G := G.trans g73
  generalize cl + 1 = cl at B ⊢
  generalize sl + 9 = sl at B ⊢
  have ea75 := g73.ad hi0
  obtain ⟨hi0, h⟩ := gd_el h
  replace hi0 := isSh_1 hi0
  replace hl : lv_has ls 2 [(0, .ref (ad73 200))] := by rw [ea75]; exact hl
  refine W_stk (st' := [.ref (ad73 221), .ref (ad73 200)]) (by first | (rw [ea75]; done) | (rw [ea75]; rfl)) ?_
  refine h_rputFR (k := 20) Z hnm hS cls_14 hi0 (by decide) rfl rfl rfl (by first | exact Or.inl ⟨_, rfl⟩ | exact Or.inr ⟨_, rfl⟩) (by rw [hn74]; decide) q1206 dX6_init_155 h (fun σ76 H locs hS h => ?_)
  refine lv_aload_n hx hb dX6_init_158 rfl (lv_at hl 0 rfl) ?_
  refine lv_bipush (v := (9 : Int32)) hx hb dX6_init_159 (by decide) ?_
  refine a_newaI (j := 222) Z hS B q134 (by decide) (by decide) (by decide) dX6_init_161 h (fun ad77 σ77 τ77 H g77 hn78 hS B h => ?_)
  have G := G.trans g77
  generalize cl + 1 = cl at B ⊢
  generalize sl + 9 = sl at B ⊢
  have ea79 := g77.ad hi0
  obtain ⟨hi0, h⟩ := gd_el h
  replace hi0 := isSh_1 hi0
  replace hl : lv_has ls 2 [(0, .ref (ad77 200))] := by rw [ea79]; exact hl
  refine W_stk (st' := [.ref (ad77 222), .ref (ad77 200)]) (by first | (rw [ea79]; done) | (rw [ea79]; rfl)) ?_
  refine h_rputFR (k := 21) Z hnm hS cls_14 hi0 (by decide) rfl rfl rfl (by first | exact Or.inl ⟨_, rfl⟩ | exact Or.inr ⟨_, rfl⟩) (by rw [hn78]; decide) q1207 dX6_init_163 h (fun σ80 H locs hS h => ?_)
  refine lv_aload_n hx hb dX6_init_166 rfl (lv_at hl 0 rfl) ?_
  refine lv_bipush (v := (9 : Int32)) hx hb dX6_init_167 (by decide) ?_
  refine a_newaZ (j := 223) Z hS B q1376 (by decide) (by decide) (by decide) dX6_init_169 h (fun ad81 σ81 τ81 H g81 hn82 hS B h => ?_)
  have G := G.trans g81
  generalize cl + 1 = cl at B ⊢
  generalize sl + 9 = sl at B ⊢
  have ea83 := g81.ad hi0
  obtain ⟨hi0, h⟩ := gd_el h
  replace hi0 := isSh_1 hi0
  replace hl : lv_has ls 2 [(0, .ref (ad81 200))] := by rw [ea83]; exact hl
  refine W_stk (st' := [.ref (ad81 223), .ref (ad81 200)]) (by first | (rw [ea83]; done) | (rw [ea83]; rfl)) ?_
  refine h_rputFR (k := 22) Z hnm hS cls_14 hi0 (by decide) rfl rfl rfl (by first | exact Or.inl ⟨_, rfl⟩ | exact Or.inr ⟨_, rfl⟩) (by rw [hn82]; decide) q1208 dX6_init_171 h (fun σ84 H locs hS h => ?_)
  refine lv_aload_n hx hb dX6_init_174 rfl (lv_at hl 0 rfl) ?_
  refine lv_bipush (v := (9 : Int32)) hx hb dX6_init_175 (by decide) ?_
  refine a_newaZ (j := 224) Z hS B q1376 (by decide) (by decide) (by decide) dX6_init_177 h (fun ad85 σ85 τ85 H g85 hn86 hS B h => ?_)
  have G := G.trans g85
  generalize cl + 1 = cl at B ⊢
  generalize sl + 9 = sl at B ⊢
  have ea87 := g85.ad hi0
  obtain ⟨hi0, h⟩ := gd_el h
  replace hi0 := isSh_1 hi0
  replace hl : lv_has ls 2 [(0, .ref (ad85 200))] := by rw [ea87]; exact hl
  refine W_stk (st' := [.ref (ad85 224), .ref (ad85 200)]) (by first | (rw [ea87]; done) | (rw [ea87]; rfl)) ?_
  refine h_rputFR (k := 23) Z hnm hS cls_14 hi0 (by decide) rfl rfl rfl (by first | exact Or.inl ⟨_, rfl⟩ | exact Or.inr ⟨_, rfl⟩) (by rw [hn86]; decide) q1209 dX6_init_179 h (fun σ88 H locs hS h => ?_)
  refine lv_aload_n hx hb dX6_init_182 rfl (lv_at hl 0 rfl) ?_
  refine lv_sipush (v := (160 : Int32)) hx hb dX6_init_183 (by decide) ?_
  refine a_newaI (j := 226) Z hS B q134 (by decide) (by decide) (by decide) dX6_init_186 h (fun ad89 σ89 τ89 H g89 hn90 hS B h => ?_)
  have G := G.trans g89
  generalize cl + 1 = cl at B ⊢
  generalize sl + 160 = sl at B ⊢
  have ea91 := g89.ad hi0
  obtain ⟨hi0, h⟩ := gd_el h
  replace hi0 := isSh_1 hi0
  replace hl : lv_has ls 2 [(0, .ref (ad89 200))] := by rw [ea91]; exact hl
  refine W_stk (st' := [.ref (ad89 226), .ref (ad89 200)]) (by first | (rw [ea91]; done) | (rw [ea91]; rfl)) ?_
  refine h_rputFR (k := 25) Z hnm hS cls_14 hi0 (by decide) rfl rfl rfl (by first | exact Or.inl ⟨_, rfl⟩ | exact Or.inr ⟨_, rfl⟩) (by rw [hn90]; decide) q1211 dX6_init_188 h (fun σ92 H locs hS h => ?_)
  refine lv_aload_n hx hb dX6_init_191 rfl (lv_at hl 0 rfl) ?_
  refine lv_sipush (v := (420 : Int32)) hx hb dX6_init_192 (by decide) ?_
  refine a_newaI (j := 227) Z hS B q134 (by decide) (by decide) (by decide) dX6_init_195 h (fun ad93 σ93 τ93 H g93 hn94 hS B h => ?_)
  have G := G.trans g93
  generalize cl + 1 = cl at B ⊢
  generalize sl + 420 = sl at B ⊢
  have ea95 := g93.ad hi0
  obtain ⟨hi0, h⟩ := gd_el h
  replace hi0 := isSh_1 hi0
  replace hl : lv_has ls 2 [(0, .ref (ad93 200))] := by rw [ea95]; exact hl
  refine W_stk (st' := [.ref (ad93 227), .ref (ad93 200)]) (by first | (rw [ea95]; done) | (rw [ea95]; rfl)) ?_
  refine h_rputFR (k := 26) Z hnm hS cls_14 hi0 (by decide) rfl rfl rfl (by first | exact Or.inl ⟨_, rfl⟩ | exact Or.inr ⟨_, rfl⟩) (by rw [hn94]; decide) q1212 dX6_init_197 h (fun σ96 H locs hS h => ?_)
  refine lv_aload_n hx hb dX6_init_200 rfl (lv_at hl 0 rfl) ?_
  refine lv_sipush (v := (5040 : Int32)) hx hb dX6_init_201 (by decide) ?_
  refine a_newaI (j := 228) Z hS B q134 (by decide) (by decide) (by decide) dX6_init_204 h (fun ad97 σ97 τ97 H g97 hn98 hS B h => ?_)
  have G := G.trans g97
  generalize cl + 1 = cl at B ⊢
  generalize sl + 5040 = sl at B ⊢
  have ea99 := g97.ad hi0
  obtain ⟨hi0, h⟩ := gd_el h
  replace hi0 := isSh_1 hi0
  replace hl : lv_has ls 2 [(0, .ref (ad97 200))] := by rw [ea99]; exact hl
  refine W_stk (st' := [.ref (ad97 228), .ref (ad97 200)]) (by first | (rw [ea99]; done) | (rw [ea99]; rfl)) ?_
  refine h_rputFR (k := 27) Z hnm hS cls_14 hi0 (by decide) rfl rfl rfl (by first | exact Or.inl ⟨_, rfl⟩ | exact Or.inr ⟨_, rfl⟩) (by rw [hn98]; decide) q1213 dX6_init_206 h (fun σ100 H locs hS h => ?_)
  refine lv_aload_n hx hb dX6_init_209 rfl (lv_at hl 0 rfl) ?_
  refine lv_bipush (v := (12 : Int32)) hx hb dX6_init_210 (by decide) ?_
  refine a_newaI (j := 229) Z hS B q134 (by decide) (by decide) (by decide) dX6_init_212 h (fun ad101 σ101 τ101 H g101 hn102 hS B h => ?_)
  have G := G.trans g101
  generalize cl + 1 = cl at B ⊢
  generalize sl + 12 = sl at B ⊢
  have ea103 := g101.ad hi0
  obtain ⟨hi0, h⟩ := gd_el h
  replace hi0 := isSh_1 hi0
  replace hl : lv_has ls 2 [(0, .ref (ad101 200))] := by rw [ea103]; exact hl
  refine W_stk (st' := [.ref (ad101 229), .ref (ad101 200)]) (by first | (rw [ea103]; done) | (rw [ea103]; rfl)) ?_
  refine h_rputFR (k := 28) Z hnm hS cls_14 hi0 (by decide) rfl rfl rfl (by first | exact Or.inl ⟨_, rfl⟩ | exact Or.inr ⟨_, rfl⟩) (by rw [hn102]; decide) q1214 dX6_init_214 h (fun σ104 H locs hS h => ?_)
  refine lv_aload_n hx hb dX6_init_217 rfl (lv_at hl 0 rfl) ?_
  refine lv_sipush (v := (128 : Int32)) hx hb dX6_init_218 (by decide) ?_
  refine a_newaI (j := 236) Z hS B q134 (by decide) (by decide) (by decide) dX6_init_221 h (fun ad105 σ105 τ105 H g105 hn106 hS B h => ?_)
  have G := G.trans g105
  generalize cl + 1 = cl at B ⊢
  generalize sl + 128 = sl at B ⊢
  have ea107 := g105.ad hi0
  obtain ⟨hi0, h⟩ := gd_el h
  replace hi0 := isSh_1 hi0
  replace hl : lv_has ls 2 [(0, .ref (ad105 200))] := by rw [ea107]; exact hl
  refine W_stk (st' := [.ref (ad105 236), .ref (ad105 200)]) (by first | (rw [ea107]; done) | (rw [ea107]; rfl)) ?_
  refine h_rputFR (k := 35) Z hnm hS cls_14 hi0 (by decide) rfl rfl rfl (by first | exact Or.inl ⟨_, rfl⟩ | exact Or.inr ⟨_, rfl⟩) (by rw [hn106]; decide) q1221 dX6_init_223 h (fun σ108 H locs hS h => ?_)
  refine lv_aload_n hx hb dX6_init_226 rfl (lv_at hl 0 rfl) ?_
  refine lv_sipush (v := (200 : Int32)) hx hb dX6_init_227 (by decide) ?_
  refine a_newaI (j := 237) Z hS B q134 (by decide) (by decide) (by decide) dX6_init_230 h (fun ad109 σ109 τ109 H g109 hn110 hS B h => ?_)
  have G := G.trans g109
  generalize cl + 1 = cl at B ⊢
  generalize sl + 200 = sl at B ⊢
  have ea111 := g109.ad hi0
  obtain ⟨hi0, h⟩ := gd_el h
  replace hi0 := isSh_1 hi0
  replace hl : lv_has ls 2 [(0, .ref (ad109 200))] := by rw [ea111]; exact hl
  refine W_stk (st' := [.ref (ad109 237), .ref (ad109 200)]) (by first | (rw [ea111]; done) | (rw [ea111]; rfl)) ?_
  refine h_rputFR (k := 36) Z hnm hS cls_14 hi0 (by decide) rfl rfl rfl (by first | exact Or.inl ⟨_, rfl⟩ | exact Or.inr ⟨_, rfl⟩) (by rw [hn110]; decide) q1222 dX6_init_232 h (fun σ112 H locs hS h => ?_)
  refine lv_aload_n hx hb dX6_init_235 rfl (lv_at hl 0 rfl) ?_
  refine lv_bipush (v := (8 : Int32)) hx hb dX6_init_236 (by decide) ?_
  refine a_newaI (j := 239) Z hS B q134 (by decide) (by decide) (by decide) dX6_init_238 h (fun ad113 σ113 τ113 H g113 hn114 hS B h => ?_)
  have G := G.trans g113
  generalize cl + 1 = cl at B ⊢
  generalize sl + 8 = sl at B ⊢
  have ea115 := g113.ad hi0
  obtain ⟨hi0, h⟩ := gd_el h
  replace hi0 := isSh_1 hi0
  replace hl : lv_has ls 2 [(0, .ref (ad113 200))] := by rw [ea115]; exact hl
  refine W_stk (st' := [.ref (ad113 239), .ref (ad113 200)]) (by first | (rw [ea115]; done) | (rw [ea115]; rfl)) ?_
  refine h_rputFR (k := 38) Z hnm hS cls_14 hi0 (by decide) rfl rfl rfl (by first | exact Or.inl ⟨_, rfl⟩ | exact Or.inr ⟨_, rfl⟩) (by rw [hn114]; decide) q1224 dX6_init_240 h (fun σ116 H locs hS h => ?_)
  refine lv_aload_n hx hb dX6_init_243 rfl (lv_at hl 0 rfl) ?_
  refine lv_ldc (v := (48024 : Int32)) hx hb hown (hts _ q1185) dX6_init_244 ?_
  refine a_newaI (j := 240) Z hS B q134 (by decide) (by decide) (by decide) dX6_init_246 h (fun ad117 σ117 τ117 H g117 hn118 hS B h => ?_)
  have G := G.trans g117
  generalize cl + 1 = cl at B ⊢
  generalize sl + 48024 = sl at B ⊢
  have ea119 := g117.ad hi0
  obtain ⟨hi0, h⟩ := gd_el h
  replace hi0 := isSh_1 hi0
  replace hl : lv_has ls 2 [(0, .ref (ad117 200))] := by rw [ea119]; exact hl
  refine W_stk (st' := [.ref (ad117 240), .ref (ad117 200)]) (by first | (rw [ea119]; done) | (rw [ea119]; rfl)) ?_
  refine h_rputFR (k := 39) Z hnm hS cls_14 hi0 (by decide) rfl rfl rfl (by first | exact Or.inl ⟨_, rfl⟩ | exact Or.inr ⟨_, rfl⟩) (by rw [hn118]; decide) q1225 dX6_init_248 h (fun σ120 H locs hS h => ?_)
  refine lv_aload_n hx hb dX6_init_251 rfl (lv_at hl 0 rfl) ?_
  refine lv_bipush (v := (8 : Int32)) hx hb dX6_init_252 (by decide) ?_
  refine a_newaI (j := 241) Z hS B q134 (by decide) (by decide) (by decide) dX6_init_254 h (fun ad121 σ121 τ121 H g121 hn122 hS B h => ?_)
  have G := G.trans g121
  generalize cl + 1 = cl at B ⊢
  generalize sl + 8 = sl at B ⊢
  have ea123 := g121.ad hi0
  obtain ⟨hi0, h⟩ := gd_el h
  replace hi0 := isSh_1 hi0
  replace hl : lv_has ls 2 [(0, .ref (ad121 200))] := by rw [ea123]; exact hl
  refine W_stk (st' := [.ref (ad121 241), .ref (ad121 200)]) (by first | (rw [ea123]; done) | (rw [ea123]; rfl)) ?_
  refine h_rputFR (k := 40) Z hnm hS cls_14 hi0 (by decide) rfl rfl rfl (by first | exact Or.inl ⟨_, rfl⟩ | exact Or.inr ⟨_, rfl⟩) (by rw [hn122]; decide) q1226 dX6_init_256 h (fun σ124 H locs hS h => ?_)
  refine lv_aload_n hx hb dX6_init_259 rfl (lv_at hl 0 rfl) ?_
  refine lv_bipush (v := (8 : Int32)) hx hb dX6_init_260 (by decide) ?_
  refine a_newaI (j := 242) Z hS B q134 (by decide) (by decide) (by decide) dX6_init_262 h (fun ad125 σ125 τ125 H g125 hn126 hS B h => ?_)
  have G := G.trans g125
  generalize cl + 1 = cl at B ⊢
  generalize sl + 8 = sl at B ⊢
  have ea127 := g125.ad hi0
  obtain ⟨hi0, h⟩ := gd_el h
  replace hi0 := isSh_1 hi0
  replace hl : lv_has ls 2 [(0, .ref (ad125 200))] := by rw [ea127]; exact hl
  refine W_stk (st' := [.ref (ad125 242), .ref (ad125 200)]) (by first | (rw [ea127]; done) | (rw [ea127]; rfl)) ?_
  refine h_rputFR (k := 41) Z hnm hS cls_14 hi0 (by decide) rfl rfl rfl (by first | exact Or.inl ⟨_, rfl⟩ | exact Or.inr ⟨_, rfl⟩) (by rw [hn126]; decide) q1227 dX6_init_264 h (fun σ128 H locs hS h => ?_)
  refine lv_aload_n hx hb dX6_init_267 rfl (lv_at hl 0 rfl) ?_
  refine lv_bipush (v := (48 : Int32)) hx hb dX6_init_268 (by decide) ?_
  refine a_newaI (j := 243) Z hS B q134 (by decide) (by decide) (by decide) dX6_init_270 h (fun ad129 σ129 τ129 H g129 hn130 hS B h => ?_)
  have G := G.trans g129
  generalize cl + 1 = cl at B ⊢
  generalize sl + 48 = sl at B ⊢
  have ea131 := g129.ad hi0
  obtain ⟨hi0, h⟩ := gd_el h
  replace hi0 := isSh_1 hi0
  replace hl : lv_has ls 2 [(0, .ref (ad129 200))] := by rw [ea131]; exact hl
  refine W_stk (st' := [.ref (ad129 243), .ref (ad129 200)]) (by first | (rw [ea131]; done) | (rw [ea131]; rfl)) ?_
  refine h_rputFR (k := 42) Z hnm hS cls_14 hi0 (by decide) rfl rfl rfl (by first | exact Or.inl ⟨_, rfl⟩ | exact Or.inr ⟨_, rfl⟩) (by rw [hn130]; decide) q1228 dX6_init_272 h (fun σ132 H locs hS h => ?_)
  refine lv_aload_n hx hb dX6_init_275 rfl (lv_at hl 0 rfl) ?_
  refine lv_bipush (v := (8 : Int32)) hx hb dX6_init_276 (by decide) ?_
  refine a_newaI (j := 244) Z hS B q134 (by decide) (by decide) (by decide) dX6_init_278 h (fun ad133 σ133 τ133 H g133 hn134 hS B h => ?_)
  have G := G.trans g133
  generalize cl + 1 = cl at B ⊢
  generalize sl + 8 = sl at B ⊢
  have ea135 := g133.ad hi0
  obtain ⟨hi0, h⟩ := gd_el h
  replace hi0 := isSh_1 hi0
  replace hl : lv_has ls 2 [(0, .ref (ad133 200))] := by rw [ea135]; exact hl
  refine W_stk (st' := [.ref (ad133 244), .ref (ad133 200)]) (by first | (rw [ea135]; done) | (rw [ea135]; rfl)) ?_
  refine h_rputFR (k := 43) Z hnm hS cls_14 hi0 (by decide) rfl rfl rfl (by first | exact Or.inl ⟨_, rfl⟩ | exact Or.inr ⟨_, rfl⟩) (by rw [hn134]; decide) q1229 dX6_init_280 h (fun σ136 H locs hS h => ?_)
  refine lv_aload_n hx hb dX6_init_283 rfl (lv_at hl 0 rfl) ?_
  refine lv_bipush (v := (8 : Int32)) hx hb dX6_init_284 (by decide) ?_
  refine a_newaI (j := 245) Z hS B q134 (by decide) (by decide) (by decide) dX6_init_286 h (fun ad137 σ137 τ137 H g137 hn138 hS B h => ?_)
  have G := G.trans g137
  generalize cl + 1 = cl at B ⊢
  generalize sl + 8 = sl at B ⊢
  have ea139 := g137.ad hi0
  obtain ⟨hi0, h⟩ := gd_el h
  replace hi0 := isSh_1 hi0
  replace hl : lv_has ls 2 [(0, .ref (ad137 200))] := by rw [ea139]; exact hl
  refine W_stk (st' := [.ref (ad137 245), .ref (ad137 200)]) (by first | (rw [ea139]; done) | (rw [ea139]; rfl)) ?_
  refine h_rputFR (k := 44) Z hnm hS cls_14 hi0 (by decide) rfl rfl rfl (by first | exact Or.inl ⟨_, rfl⟩ | exact Or.inr ⟨_, rfl⟩) (by rw [hn138]; decide) q1230 dX6_init_288 h (fun σ140 H locs hS h => ?_)
  refine lv_aload_n hx hb dX6_init_291 rfl (lv_at hl 0 rfl) ?_
  refine lv_bipush (v := (8 : Int32)) hx hb dX6_init_292 (by decide) ?_
  refine a_newaI (j := 246) Z hS B q134 (by decide) (by decide) (by decide) dX6_init_294 h (fun ad141 σ141 τ141 H g141 hn142 hS B h => ?_)
  have G := G.trans g141
  generalize cl + 1 = cl at B ⊢
  generalize sl + 8 = sl at B ⊢
  have ea143 := g141.ad hi0
  obtain ⟨hi0, h⟩ := gd_el h
  replace hi0 := isSh_1 hi0
  replace hl : lv_has ls 2 [(0, .ref (ad141 200))] := by rw [ea143]; exact hl
  refine W_stk (st' := [.ref (ad141 246), .ref (ad141 200)]) (by first | (rw [ea143]; done) | (rw [ea143]; rfl)) ?_
  refine h_rputFR (k := 45) Z hnm hS cls_14 hi0 (by decide) rfl rfl rfl (by first | exact Or.inl ⟨_, rfl⟩ | exact Or.inr ⟨_, rfl⟩) (by rw [hn142]; decide) q1231 dX6_init_296 h (fun σ144 H locs hS h => ?_)
  refine lv_aload_n hx hb dX6_init_299 rfl (lv_at hl 0 rfl) ?_
  refine lv_bipush (v := (10 : Int32)) hx hb dX6_init_300 (by decide) ?_
  refine a_newaI (j := 247) Z hS B q134 (by decide) (by decide) (by decide) dX6_init_302 h (fun ad145 σ145 τ145 H g145 hn146 hS B h => ?_)
  have G := G.trans g145
  generalize cl + 1 = cl at B ⊢
  generalize sl + 10 = sl at B ⊢
  have ea147 := g145.ad hi0
  obtain ⟨hi0, h⟩ := gd_el h
  replace hi0 := isSh_1 hi0
  replace hl : lv_has ls 2 [(0, .ref (ad145 200))] := by rw [ea147]; exact hl
  refine W_stk (st' := [.ref (ad145 247), .ref (ad145 200)]) (by first | (rw [ea147]; done) | (rw [ea147]; rfl)) ?_
  refine h_rputFR (k := 46) Z hnm hS cls_14 hi0 (by decide) rfl rfl rfl (by first | exact Or.inl ⟨_, rfl⟩ | exact Or.inr ⟨_, rfl⟩) (by rw [hn146]; decide) q1232 dX6_init_304 h (fun σ148 H locs hS h => ?_)
  refine lv_aload_n hx hb dX6_init_307 rfl (lv_at hl 0 rfl) ?_
  refine lv_bipush (v := (8 : Int32)) hx hb dX6_init_308 (by decide) ?_
  refine a_newaZ (j := 248) Z hS B q1376 (by decide) (by decide) (by decide) dX6_init_310 h (fun ad149 σ149 τ149 H g149 hn150 hS B h => ?_)
  have G := G.trans g149
  generalize cl + 1 = cl at B ⊢
  generalize sl + 8 = sl at B ⊢
  have ea151 := g149.ad hi0
  obtain ⟨hi0, h⟩ := gd_el h
  replace hi0 := isSh_1 hi0
  replace hl : lv_has ls 2 [(0, .ref (ad149 200))] := by rw [ea151]; exact hl
  refine W_stk (st' := [.ref (ad149 248), .ref (ad149 200)]) (by first | (rw [ea151]; done) | (rw [ea151]; rfl)) ?_
  refine h_rputFR (k := 47) Z hnm hS cls_14 hi0 (by decide) rfl rfl rfl (by first | exact Or.inl ⟨_, rfl⟩ | exact Or.inr ⟨_, rfl⟩) (by rw [hn150]; decide) q1233 dX6_init_312 h (fun σ152 H locs hS h => ?_)
  refine lv_aload_n hx hb dX6_init_315 rfl (lv_at hl 0 rfl) ?_
  refine lv_bipush (v := (6 : Int32)) hx hb dX6_init_316 (by decide) ?_
  refine a_newaI (j := 250) Z hS B q134 (by decide) (by decide) (by decide) dX6_init_318 h (fun ad153 σ153 τ153 H g153 hn154 hS B h => ?_)
  have G := G.trans g153
  generalize cl + 1 = cl at B ⊢
  generalize sl + 6 = sl at B ⊢
  have ea155 := g153.ad hi0
  obtain ⟨hi0, h⟩ := gd_el h
  replace hi0 := isSh_1 hi0
  replace hl : lv_has ls 2 [(0, .ref (ad153 200))] := by rw [ea155]; exact hl
  refine W_stk (st' := [.ref (ad153 250), .ref (ad153 200)]) (by first | (rw [ea155]; done) | (rw [ea155]; rfl)) ?_
  refine h_rputFR (k := 49) Z hnm hS cls_14 hi0 (by decide) rfl rfl rfl (by first | exact Or.inl ⟨_, rfl⟩ | exact Or.inr ⟨_, rfl⟩) (by rw [hn154]; decide) q1235 dX6_init_320 h (fun σ156 H locs hS h => ?_)
  refine lv_aload_n hx hb dX6_init_323 rfl (lv_at hl 0 rfl) ?_
  refine lv_bipush (v := (6 : Int32)) hx hb dX6_init_324 (by decide) ?_
  refine a_newaI (j := 251) Z hS B q134 (by decide) (by decide) (by decide) dX6_init_326 h (fun ad157 σ157 τ157 H g157 hn158 hS B h => ?_)
  have G := G.trans g157
  generalize cl + 1 = cl at B ⊢
  generalize sl + 6 = sl at B ⊢
  have ea159 := g157.ad hi0
  obtain ⟨hi0, h⟩ := gd_el h
  replace hi0 := isSh_1 hi0
  replace hl : lv_has ls 2 [(0, .ref (ad157 200))] := by rw [ea159]; exact hl
  refine W_stk (st' := [.ref (ad157 251), .ref (ad157 200)]) (by first | (rw [ea159]; done) | (rw [ea159]; rfl)) ?_
  refine h_rputFR (k := 50) Z hnm hS cls_14 hi0 (by decide) rfl rfl rfl (by first | exact Or.inl ⟨_, rfl⟩ | exact Or.inr ⟨_, rfl⟩) (by rw [hn158]; decide) q1236 dX6_init_328 h (fun σ160 H locs hS h => ?_)
  refine lv_aload_n hx hb dX6_init_331 rfl (lv_at hl 0 rfl) ?_
  refine lv_bipush (v := (6 : Int32)) hx hb dX6_init_332 (by decide) ?_
  refine a_newaI (j := 252) Z hS B q134 (by decide) (by decide) (by decide) dX6_init_334 h (fun ad161 σ161 τ161 H g161 hn162 hS B h => ?_)
  have G := G.trans g161
  generalize cl + 1 = cl at B ⊢
  generalize sl + 6 = sl at B ⊢
  have ea163 := g161.ad hi0
  obtain ⟨hi0, h⟩ := gd_el h
  replace hi0 := isSh_1 hi0
  replace hl : lv_has ls 2 [(0, .ref (ad161 200))] := by rw [ea163]; exact hl
  refine W_stk (st' := [.ref (ad161 252), .ref (ad161 200)]) (by first | (rw [ea163]; done) | (rw [ea163]; rfl)) ?_
  refine h_rputFR (k := 51) Z hnm hS cls_14 hi0 (by decide) rfl rfl rfl (by first | exact Or.inl ⟨_, rfl⟩ | exact Or.inr ⟨_, rfl⟩) (by rw [hn162]; decide) q1237 dX6_init_336 h (fun σ164 H locs hS h => ?_)
  refine lv_aload_n hx hb dX6_init_339 rfl (lv_at hl 0 rfl) ?_
  refine lv_bipush (v := (6 : Int32)) hx hb dX6_init_340 (by decide) ?_
  refine a_newaI (j := 253) Z hS B q134 (by decide) (by decide) (by decide) dX6_init_342 h (fun ad165 σ165 τ165 H g165 hn166 hS B h => ?_)
  have G := G.trans g165
  generalize cl + 1 = cl at B ⊢
  generalize sl + 6 = sl at B ⊢
  have ea167 := g165.ad hi0
  obtain ⟨hi0, h⟩ := gd_el h
  replace hi0 := isSh_1 hi0
  replace hl : lv_has ls 2 [(0, .ref (ad165 200))] := by rw [ea167]; exact hl
  refine W_stk (st' := [.ref (ad165 253), .ref (ad165 200)]) (by first | (rw [ea167]; done) | (rw [ea167]; rfl)) ?_
  refine h_rputFR (k := 52) Z hnm hS cls_14 hi0 (by decide) rfl rfl rfl (by first | exact Or.inl ⟨_, rfl⟩ | exact Or.inr ⟨_, rfl⟩) (by rw [hn166]; decide) q1238 dX6_init_344 h (fun σ168 H locs hS h => ?_)
  refine lv_aload_n hx hb dX6_init_347 rfl (lv_at hl 0 rfl) ?_
  refine lv_bipush (v := (20 : Int32)) hx hb dX6_init_348 (by decide) ?_
  refine a_newaI (j := 256) Z hS B q134 (by decide) (by decide) (by decide) dX6_init_350 h (fun ad169 σ169 τ169 H g169 hn170 hS B h => ?_)
  have G := G.trans g169
  generalize cl + 1 = cl at B ⊢
  generalize sl + 20 = sl at B ⊢
  have ea171 := g169.ad hi0
  obtain ⟨hi0, h⟩ := gd_el h
  replace hi0 := isSh_1 hi0
  replace hl : lv_has ls 2 [(0, .ref (ad169 200))] := by rw [ea171]; exact hl
  refine W_stk (st' := [.ref (ad169 256), .ref (ad169 200)]) (by first | (rw [ea171]; done) | (rw [ea171]; rfl)) ?_
  refine h_rputFR (k := 55) Z hnm hS cls_14 hi0 (by decide) rfl rfl rfl (by first | exact Or.inl ⟨_, rfl⟩ | exact Or.inr ⟨_, rfl⟩) (by rw [hn170]; decide) q1241 dX6_init_352 h (fun σ172 H locs hS h => ?_)
  refine lv_aload_n hx hb dX6_init_355 rfl (lv_at hl 0 rfl) ?_
  refine lv_sipush (v := (4941 : Int32)) hx hb dX6_init_356 (by decide) ?_
  refine a_newaL (j := 257) Z hS B q1377 (by decide) (by decide) (by decide) dX6_init_359 h (fun ad173 σ173 τ173 H g173 hn174 hS B h => ?_)
  have G := G.trans g173
  generalize cl + 1 = cl at B ⊢
  generalize sl + 4941 = sl at B ⊢
  have ea175 := g173.ad hi0
  obtain ⟨hi0, h⟩ := gd_el h
  replace hi0 := isSh_1 hi0
  replace hl : lv_has ls 2 [(0, .ref (ad173 200))] := by rw [ea175]; exact hl
  refine W_stk (st' := [.ref (ad173 257), .ref (ad173 200)]) (by first | (rw [ea175]; done) | (rw [ea175]; rfl)) ?_
  refine h_rputFR (k := 56) Z hnm hS cls_14 hi0 (by decide) rfl rfl rfl (by first | exact Or.inl ⟨_, rfl⟩ | exact Or.inr ⟨_, rfl⟩) (by rw [hn174]; decide) q1242 dX6_init_361 h (fun σ176 H locs hS h => ?_)
  refine lv_aload_n hx hb dX6_init_364 rfl (lv_at hl 0 rfl) ?_
  refine lv_bipush (v := (100 : Int32)) hx hb dX6_init_365 (by decide) ?_
  refine a_newaI (j := 259) Z hS B q134 (by decide) (by decide) (by decide) dX6_init_367 h (fun ad177 σ177 τ177 H g177 hn178 hS B h => ?_)
  have G := G.trans g177
  generalize cl + 1 = cl at B ⊢
  generalize sl + 100 = sl at B ⊢
  have ea179 := g177.ad hi0
  obtain ⟨hi0, h⟩ := gd_el h
  replace hi0 := isSh_1 hi0
  replace hl : lv_has ls 2 [(0, .ref (ad177 200))] := by rw [ea179]; exact hl
  refine W_stk (st' := [.ref (ad177 259), .ref (ad177 200)]) (by first | (rw [ea179]; done) | (rw [ea179]; rfl)) ?_
  refine h_rputFR (k := 58) Z hnm hS cls_14 hi0 (by decide) rfl rfl rfl (by first | exact Or.inl ⟨_, rfl⟩ | exact Or.inr ⟨_, rfl⟩) (by rw [hn178]; decide) q1244 dX6_init_369 h (fun σ180 H locs hS h => ?_)
  refine lv_aload_n hx hb dX6_init_372 rfl (lv_at hl 0 rfl) ?_
  refine lv_bipush (v := (100 : Int32)) hx hb dX6_init_373 (by decide) ?_
  refine a_newaI (j := 260) Z hS B q134 (by decide) (by decide) (by decide) dX6_init_375 h (fun ad181 σ181 τ181 H g181 hn182 hS B h => ?_)
  have G := G.trans g181
  generalize cl + 1 = cl at B ⊢
  generalize sl + 100 = sl at B ⊢
  have ea183 := g181.ad hi0
  obtain ⟨hi0, h⟩ := gd_el h
  replace hi0 := isSh_1 hi0
  replace hl : lv_has ls 2 [(0, .ref (ad181 200))] := by rw [ea183]; exact hl
  refine W_stk (st' := [.ref (ad181 260), .ref (ad181 200)]) (by first | (rw [ea183]; done) | (rw [ea183]; rfl)) ?_
  refine h_rputFR (k := 59) Z hnm hS cls_14 hi0 (by decide) rfl rfl rfl (by first | exact Or.inl ⟨_, rfl⟩ | exact Or.inr ⟨_, rfl⟩) (by rw [hn182]; decide) q1245 dX6_init_377 h (fun σ184 H locs hS h => ?_)
  refine lv_aload_n hx hb dX6_init_380 rfl (lv_at hl 0 rfl) ?_
  refine lv_bipush (v := (100 : Int32)) hx hb dX6_init_381 (by decide) ?_
  refine a_newaI (j := 261) Z hS B q134 (by decide) (by decide) (by decide) dX6_init_383 h (fun ad185 σ185 τ185 H g185 hn186 hS B h => ?_)
  have G := G.trans g185
  generalize cl + 1 = cl at B ⊢
  generalize sl + 100 = sl at B ⊢
  have ea187 := g185.ad hi0
  obtain ⟨hi0, h⟩ := gd_el h
  replace hi0 := isSh_1 hi0
  replace hl : lv_has ls 2 [(0, .ref (ad185 200))] := by rw [ea187]; exact hl
  refine W_stk (st' := [.ref (ad185 261), .ref (ad185 200)]) (by first | (rw [ea187]; done) | (rw [ea187]; rfl)) ?_
  refine h_rputFR (k := 60) Z hnm hS cls_14 hi0 (by decide) rfl rfl rfl (by first | exact Or.inl ⟨_, rfl⟩ | exact Or.inr ⟨_, rfl⟩) (by rw [hn186]; decide) q1246 dX6_init_385 h (fun σ188 H locs hS h => ?_)
  refine lv_aload_n hx hb dX6_init_388 rfl (lv_at hl 0 rfl) ?_
  refine lv_bipush (v := (100 : Int32)) hx hb dX6_init_389 (by decide) ?_
  refine a_newaI (j := 262) Z hS B q134 (by decide) (by decide) (by decide) dX6_init_391 h (fun ad189 σ189 τ189 H g189 hn190 hS B h => ?_)
  have G := G.trans g189
  generalize cl + 1 = cl at B ⊢
  generalize sl + 100 = sl at B ⊢
  have ea191 := g189.ad hi0
  obtain ⟨hi0, h⟩ := gd_el h
  replace hi0 := isSh_1 hi0
  replace hl : lv_has ls 2 [(0, .ref (ad189 200))] := by rw [ea191]; exact hl
  refine W_stk (st' := [.ref (ad189 262), .ref (ad189 200)]) (by first | (rw [ea191]; done) | (rw [ea191]; rfl)) ?_
  refine h_rputFR (k := 61) Z hnm hS cls_14 hi0 (by decide) rfl rfl rfl (by first | exact Or.inl ⟨_, rfl⟩ | exact Or.inr ⟨_, rfl⟩) (by rw [hn190]; decide) q1247 dX6_init_393 h (fun σ192 H locs hS h => ?_)
  refine lv_iconst (v := (0 : Int32)) hx hb dX6_init_396 (by decide) ?_
  refine lv_istore_n (lv' := [(1, .int (0 : Int32)), (0, .ref (ad189 200))]) hx hb dX6_init_397 rfl hl (by decide) rfl (fun ls hl => ?_)
  refine w_X6_init_L398 Z hex (fun σ200 τ200 ad200 cl sl H locs ls G hi0 hS B hl h => ?_) FU _ _ _ _ _ _ _ _ _ G hi0 hS B (lv_sub hl [1, 0] rfl) h
  refine lv_aload_n hx hb dX6_init_436 rfl (lv_at hl 0 rfl) ?_
  refine h_rgetN Z hS cls_14 hi0 (by decide) rfl fl_X6_40_14 dX6_init_437 h (fun j201 h => ?_)
  obtain ⟨hj201, h⟩ := gd_el h
  replace hj201 := isSh_1 hj201
  refine lv_bipush (v := (8 : Int32)) hx hb dX6_init_440 (by decide) ?_
  refine lv_bipush (v := (100 : Int32)) hx hb dX6_init_442 (by decide) ?_
  refine h_iast Z hS hj201 dX6_init_444 h (fun σ202 H locs hS h => ?_)
  refine a_cook hS B cls_14 nk_14 hi0 h (fun τ203 g203 _ hS B h => ?_)
  exact a_vret Z hS B (G.trans g203) dX6_init_445 h
end
theorem dX1_worth_0 : decode cX1_worth 0 = .ok (.aload_n 0, 1) := by decide +kernel
theorem dX1_worth_1 : decode cX1_worth 1 = .ok (.iload_n 1, 1) := by decide +kernel
theorem dX1_worth_2 : decode cX1_worth 2 = .ok (.invokevirtual 269, 3) := by decide +kernel
theorem dX1_worth_5 : decode cX1_worth 5 = .ok (.ifCond .eq 17, 3) := by decide +kernel
theorem dX1_worth_8 : decode cX1_worth 8 = .ok (.iload_n 2, 1) := by decide +kernel
theorem dX1_worth_9 : decode cX1_worth 9 = .ok (.ifCond .lt 13, 3) := by decide +kernel
theorem dX1_worth_12 : decode cX1_worth 12 = .ok (.ldc_w 276, 3) := by decide +kernel
theorem dX1_worth_15 : decode cX1_worth 15 = .ok (.iload_n 2, 1) := by decide +kernel
theorem dX1_worth_16 : decode cX1_worth 16 = .ok (.invokevirtual 278, 3) := by decide +kernel
theorem dX1_worth_19 : decode cX1_worth 19 = .ok (.ifCond .ge 11, 3) := by decide +kernel
theorem dX1_worth_30 : decode cX1_worth 30 = .ok (.aload_n 0, 1) := by decide +kernel
theorem dX1_worth_31 : decode cX1_worth 31 = .ok (.iload_n 3, 1) := by decide +kernel
theorem dX1_worth_32 : decode cX1_worth 32 = .ok (.iload 4, 2) := by decide +kernel
theorem dX1_worth_34 : decode cX1_worth 34 = .ok (.iload 5, 2) := by decide +kernel
theorem dX1_worth_36 : decode cX1_worth 36 = .ok (.iload 6, 2) := by decide +kernel
theorem dX1_worth_38 : decode cX1_worth 38 = .ok (.iload 7, 2) := by decide +kernel
theorem dX1_worth_40 : decode cX1_worth 40 = .ok (.iload 8, 2) := by decide +kernel
theorem dX1_worth_42 : decode cX1_worth 42 = .ok (.invokevirtual 286, 3) := by decide +kernel
theorem dX1_worth_45 : decode cX1_worth 45 = .ok (.aload_n 0, 1) := by decide +kernel
theorem dX1_worth_46 : decode cX1_worth 46 = .ok (.getfield 34, 3) := by decide +kernel
theorem dX1_worth_49 : decode cX1_worth 49 = .ok (.iload_n 1, 1) := by decide +kernel
theorem dX1_worth_50 : decode cX1_worth 50 = .ok (.aaload, 1) := by decide +kernel
theorem dX1_worth_51 : decode cX1_worth 51 = .ok (.iload_n 2, 1) := by decide +kernel
theorem dX1_worth_52 : decode cX1_worth 52 = .ok (.aload_n 0, 1) := by decide +kernel
theorem dX1_worth_53 : decode cX1_worth 53 = .ok (.getfield 38, 3) := by decide +kernel
theorem dX1_worth_56 : decode cX1_worth 56 = .ok (.invokevirtual 290, 3) := by decide +kernel
theorem dX1_worth_59 : decode cX1_worth 59 = .ok (.ireturn, 1) := by decide +kernel
section
variable {p : Program} {l : Launch} {e : Env} {s : State} {m : MethodId} {args : Array Value} {below : List Frame} {meth : Method} {c : Code} {D : gD} {A : Nat → Prop} {ad : Nat → Nat} {τ : Shp} {σ : Mem}
set_option maxRecDepth 100000 in
set_option maxHeartbeats 4000000 in
theorem w_X1_worth {a1 : Int32} {a2 : Int32} {a3 : Int32} {a4 : Int32} {a5 : Int32} {a6 : Int32} {a7 : Int32} {a8 : Int32} (htr : l.stackTraces = false) (hc0 : sC τ ≤ LCl) (hs0 : sL τ ≤ LSl) (hi0 : sS τ 0 = (10, 0)) {r : (Rs Int32)} (h : f_X1_worth σ τ a1 a2 a3 a4 a5 a6 a7 a8 = some r) : Mg l yX1_worth (ws_ yX1_worth cX1_worth 9 (some .int)) (rmA 99 2109 τ) (va_Pc [.ref (ad 0), .int a1, .int a2, .int a3, .int a4, .int a5, .int a6, .int a7, .int a8] (PreG D (Ew D A) A ad (sS τ) σ)) (QN D A ad τ vI r) A := by
  refine a_metN hc0 hs0 (by decide) (Nat.le_of_ble_eq_true rfl) (fun p e s m args below meth c ls Z hnm hex hS B G hl => ?_)
  have hx := Z.1
  have hb := Z.2.1
  have hown := Z.2.2.2.2.2.1
  have hts := Z.2.2.2.2.2.2.1
  refine (?_ : ∀ cl sl, Bd (sC τ) (sL τ) (rmA 99 2109 τ) τ cl sl → W p l e (rmA 99 2109 τ) s m args below meth c s.heap [] cl sl (GQ below (QN D A ad τ vI r) args s A) (F0 m 0 ls [])) 0 0 B
  clear B
  intro cl sl B
  unfold f_X1_worth at h
  refine lv_aload_n hx hb dX1_worth_0 rfl (lv_at hl 0 rfl) ?_
  refine lv_iload_n hx hb dX1_worth_1 rfl (lv_at hl 1 rfl) ?_
  refine h_ci hS h (fun z hz => h_rV (rest := []) Z hS hi0 rfl v_X1_269 (w_X1_isText hi0 hz) rfl rfl ⟨Nat.le_of_ble_eq_true rfl, Nat.le_of_ble_eq_true rfl⟩ rfl hl.1 rfl (Nat.le_of_ble_eq_true rfl) B.cl B.sl dX1_worth_2) (fun x1 H locs hS h => ?_)
  refine lv_if_eq (tgt := 22) hx hb dX1_worth_5 (by decide) (fun c2 => ?_) (fun c2 => ?_)
  · have h := if_t h c2
    exact a_throwN htr Z hex hS B G (Nat.le_of_ble_eq_true rfl) (Nat.le_of_ble_eq_true rfl) hl.1 h
  · have h := if_f h c2
    refine lv_iload_n hx hb dX1_worth_8 rfl (lv_at hl 2 rfl) ?_
    refine lv_if_lt (tgt := 22) hx hb dX1_worth_9 (by decide) (fun c3 => ?_) (fun c3 => ?_)
    · have h := if_t h c3
      exact a_throwN htr Z hex hS B G (Nat.le_of_ble_eq_true rfl) (Nat.le_of_ble_eq_true rfl) hl.1 h
    · have h := if_f h c3
      refine h_idxw (w := 0) (x := a2) Z hS idxAt_2 vx_X1_278 (Nat.le_of_ble_eq_true rfl) (Nat.le_of_ble_eq_true rfl) B.cl B.sl hl.1 (Nat.le_of_ble_eq_true rfl) (lv_at hl 2 rfl) dX1_worth_12 dX1_worth_15 dX1_worth_16 (fun H locs hS => ?_)
      refine lv_if_ge (tgt := 30) hx hb dX1_worth_19 (by decide) (fun c4 => ?_) (fun c4 => ?_)
      · have h := if_t h c4
        refine lv_aload_n hx hb dX1_worth_30 rfl (lv_at hl 0 rfl) ?_
        refine lv_iload_n hx hb dX1_worth_31 rfl (lv_at hl 3 rfl) ?_
        refine lv_iload hx hb dX1_worth_32 (lv_at hl 4 rfl) ?_
        refine lv_iload hx hb dX1_worth_34 (lv_at hl 5 rfl) ?_
        refine lv_iload hx hb dX1_worth_36 (lv_at hl 6 rfl) ?_
        refine lv_iload hx hb dX1_worth_38 (lv_at hl 7 rfl) ?_
        refine lv_iload hx hb dX1_worth_40 (lv_at hl 8 rfl) ?_
        refine h_cm hS h (fun z hz => h_rV (rest := []) Z hS hi0 rfl v_X1_286 (w_X1_let hi0 hz) rfl rfl ⟨Nat.le_of_ble_eq_true rfl, Nat.le_of_ble_eq_true rfl⟩ rfl hl.1 rfl (Nat.le_of_ble_eq_true rfl) B.cl B.sl dX1_worth_42) (fun σ5 H locs hS h => ?_)
        refine lv_aload_n hx hb dX1_worth_45 rfl (lv_at hl 0 rfl) ?_
        refine h_getC (n := 6) (j := 6) (sh := (7, 12)) Z hS cls_0 hi0 (by decide) rfl rfl rfl fl_X1_34_0 dX1_worth_46 (fun hc6 => ?_)
        refine lv_iload_n hx hb dX1_worth_49 rfl (lv_at hl 1 rfl) ?_
        refine h_aldN (sh := (23, 0)) Z hS hc6 (by decide) (by decide) rfl dX1_worth_50 h (fun j7 hj7 h => ?_)
        refine lv_iload_n hx hb dX1_worth_51 rfl (lv_at hl 2 rfl) ?_
        refine lv_aload_n hx hb dX1_worth_52 rfl (lv_at hl 0 rfl) ?_
        refine h_getC (n := 7) (j := 7) (sh := (1, 6)) Z hS cls_0 hi0 (by decide) rfl rfl rfl fl_X1_38_0 dX1_worth_53 (fun hc8 => ?_)
        refine h_ci hS h (fun z hz => h_rV (rest := []) Z hS hj7 rfl v_X1_290 (w_X18_worth hj7 hc8 hz) rfl rfl ⟨Nat.le_of_ble_eq_true rfl, Nat.le_of_ble_eq_true rfl⟩ rfl hl.1 rfl (Nat.le_of_ble_eq_true rfl) B.cl B.sl dX1_worth_56) (fun x9 H locs hS h => ?_)
        exact a_iretN Z hS B G dX1_worth_59 h
      · have h := if_f h c4
        exact a_throwN htr Z hex hS B G (Nat.le_of_ble_eq_true rfl) (Nat.le_of_ble_eq_true rfl) hl.1 h
end
theorem dX0_worth_0 : decode cX0_worth 0 = .ok (.aload 9, 2) := by decide +kernel
theorem dX0_worth_2 : decode cX0_worth 2 = .ok (.iconst 0, 1) := by decide +kernel
theorem dX0_worth_3 : decode cX0_worth 3 = .ok (.aload_n 0, 1) := by decide +kernel
theorem dX0_worth_4 : decode cX0_worth 4 = .ok (.iload_n 1, 1) := by decide +kernel
theorem dX0_worth_5 : decode cX0_worth 5 = .ok (.iload_n 2, 1) := by decide +kernel
theorem dX0_worth_6 : decode cX0_worth 6 = .ok (.iload_n 3, 1) := by decide +kernel
theorem dX0_worth_7 : decode cX0_worth 7 = .ok (.iload 4, 2) := by decide +kernel
theorem dX0_worth_9 : decode cX0_worth 9 = .ok (.iload 5, 2) := by decide +kernel
theorem dX0_worth_11 : decode cX0_worth 11 = .ok (.iload 6, 2) := by decide +kernel
theorem dX0_worth_13 : decode cX0_worth 13 = .ok (.iload 7, 2) := by decide +kernel
theorem dX0_worth_15 : decode cX0_worth 15 = .ok (.iload 8, 2) := by decide +kernel
theorem dX0_worth_17 : decode cX0_worth 17 = .ok (.invokevirtual 7, 3) := by decide +kernel
theorem dX0_worth_20 : decode cX0_worth 20 = .ok (.i2l, 1) := by decide +kernel
theorem dX0_worth_21 : decode cX0_worth 21 = .ok (.lastore, 1) := by decide +kernel
theorem dX0_worth_22 : decode cX0_worth 22 = .ok (.goto 7, 3) := by decide +kernel
theorem dX0_worth_25 : decode cX0_worth 25 = .ok (.astore 10, 2) := by decide +kernel
theorem dX0_worth_27 : decode cX0_worth 27 = .ok (.iconst 1, 1) := by decide +kernel
theorem dX0_worth_28 : decode cX0_worth 28 = .ok (.ireturn, 1) := by decide +kernel
theorem dX0_worth_29 : decode cX0_worth 29 = .ok (.iconst 0, 1) := by decide +kernel
theorem dX0_worth_30 : decode cX0_worth 30 = .ok (.ireturn, 1) := by decide +kernel
section
variable {p : Program} {l : Launch} {e : Env} {s : State} {m : MethodId} {args : Array Value} {below : List Frame} {meth : Method} {c : Code} {D : gD} {A : Nat → Prop} {ad : Nat → Nat} {τ : Shp} {σ : Mem}
set_option maxRecDepth 100000 in
set_option maxHeartbeats 4000000 in
theorem w_X0_worth {a2 : Int32} {a3 : Int32} {a4 : Int32} {a5 : Int32} {a6 : Int32} {a7 : Int32} {a8 : Int32} {a9 : Int32} (htr : l.stackTraces = false) (hc0 : sC τ ≤ LCl) (hs0 : sL τ ≤ LSl) (hi0 : sS τ 0 = (10, 0)) (ho : sS τ 300 = (4, 1)) {r : (Rs Int32)} (h : f_X0_worth σ τ a2 a3 a4 a5 a6 a7 a8 a9 = some r) : Mg l yX0_worth (wsW_ yX0_worth cX0_worth 11 (some .int) [(0, 22, 25, 13)]) (rmA 100 2137 τ) (va_Pc [.ref (ad 0), .int a2, .int a3, .int a4, .int a5, .int a6, .int a7, .int a8, .int a9, .ref (ad 300)] (PreG D (Ew D A) A ad (sS τ) σ)) (QR D A ad τ vI r) A := by
  refine a_metW hc0 hs0 (by decide) (Nat.le_of_ble_eq_true rfl) (fun p e s m args below meth c ls Z hnm hex hS B G hl => ?_)
  have hx := Z.1
  have hb := Z.2.1
  have hown := Z.2.2.2.2.2.1
  have hts := Z.2.2.2.2.2.2.1
  refine (?_ : ∀ cl sl, Bd (sC τ) (sL τ) (rmA 100 2137 τ) τ cl sl → W p l e (rmA 100 2137 τ) s m args below meth c s.heap [] cl sl (GQ below (QR D A ad τ vI r) args s A) (F0 m 0 ls [])) 0 0 B
  clear B
  intro cl sl B
  unfold f_X0_worth at h
  refine lv_aload hx hb dX0_worth_0 (lv_at hl 9 rfl) ?_
  refine lv_iconst (v := (0 : Int32)) hx hb dX0_worth_2 (by decide) ?_
  refine lv_aload_n hx hb dX0_worth_3 rfl (lv_at hl 0 rfl) ?_
  refine lv_iload_n hx hb dX0_worth_4 rfl (lv_at hl 1 rfl) ?_
  refine lv_iload_n hx hb dX0_worth_5 rfl (lv_at hl 2 rfl) ?_
  refine lv_iload_n hx hb dX0_worth_6 rfl (lv_at hl 3 rfl) ?_
  refine lv_iload hx hb dX0_worth_7 (lv_at hl 4 rfl) ?_
  refine lv_iload hx hb dX0_worth_9 (lv_at hl 5 rfl) ?_
  refine lv_iload hx hb dX0_worth_11 (lv_at hl 6 rfl) ?_
  refine lv_iload hx hb dX0_worth_13 (lv_at hl 7 rfl) ?_
  refine lv_iload hx hb dX0_worth_15 (lv_at hl 8 rfl) ?_
  refine a_callN (av := [.ref (ad 0), .int a2, .int a3, .int a4, .int a5, .int a6, .int a7, .int a8, .int a9]) (rest := [.int (0 : Int32), .ref (ad 300)]) Z hex ⟨by decide, by decide⟩ (by decide) q1151 hS B G (en_V (rest := [.int (0 : Int32), .ref (ad 300)]) Z hS hi0 rfl v_X0_7 rfl rfl dX0_worth_17) q1155 ⟨Nat.le_of_ble_eq_true rfl, Nat.le_of_ble_eq_true rfl⟩ hl.1 (Nat.le_of_ble_eq_true rfl) dX0_worth_17 h (fun z hz => w_X1_worth htr B.2.2.2.2.1 B.2.2.2.2.2 hi0 hz) (fun σ1 τ1 x2 ad1 H locs cl sl g1 hS B h => ?_) (fun σh τh wh ah adh H locs cl sl gh hS B h => ?_)
  · have G := G.trans g1
    have ea3 := g1.ad hi0
    replace hi0 := g1.sh hi0
    have ea4 := g1.ad ho
    replace ho := g1.sha ho (by decide)
    replace hl : lv_has ls 11 [(0, .ref (ad1 0)), (1, .int a2), (2, .int a3), (3, .int a4), (4, .int a5), (5, .int a6), (6, .int a7), (7, .int a8), (8, .int a9), (9, .ref (ad1 300))] := by rw [ea3, ea4]; exact hl
    refine W_stk (st' := [.int x2, .int (0 : Int32), .ref (ad1 300)]) (by first | (rw [ea4]; done) | (rw [ea4]; rfl)) ?_
    refine lv_i2l hx hb dX0_worth_20 rfl ?_
    refine h_last Z hS ho dX0_worth_21 h (fun σ5 H locs hS h => ?_)
    refine lv_goto (tgt := 29) hx hb dX0_worth_22 (by decide) ?_
    refine lv_iconst (v := (0 : Int32)) hx hb dX0_worth_29 (by decide) ?_
    exact a_iret Z hS B G dX0_worth_30 h
  · have G := G.trans gh
    have ea0 := gh.ad hi0
    replace hl : lv_has ls 11 [(0, .ref (adh 0))] := by rw [ea0] ; exact lv_sub hl [0] rfl
    refine lv_astore (lv' := [(10, .ref ah), (0, .ref (adh 0))]) hx hb dX0_worth_25 hl (by decide) rfl (fun ls hl => ?_)
    refine lv_iconst (v := (1 : Int32)) hx hb dX0_worth_27 (by decide) ?_
    exact a_iret Z hS B G dX0_worth_28 h
end
