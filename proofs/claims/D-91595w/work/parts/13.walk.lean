set_option maxRecDepth 100000
theorem dX6_hour_0 : decode cX6_hour 0 = .ok (.aload_n 0, 1) := by decide +kernel
theorem dX6_hour_1 : decode cX6_hour 1 = .ok (.dup, 1) := by decide +kernel
theorem dX6_hour_2 : decode cX6_hour 2 = .ok (.getfield 330, 3) := by decide +kernel
theorem dX6_hour_5 : decode cX6_hour 5 = .ok (.iconst 1, 1) := by decide +kernel
theorem dX6_hour_6 : decode cX6_hour 6 = .ok (.iadd, 1) := by decide +kernel
theorem dX6_hour_7 : decode cX6_hour 7 = .ok (.putfield 330, 3) := by decide +kernel
theorem dX6_hour_10 : decode cX6_hour 10 = .ok (.iconst 0, 1) := by decide +kernel
theorem dX6_hour_11 : decode cX6_hour 11 = .ok (.istore_n 1, 1) := by decide +kernel
theorem dX6_hour_12 : decode cX6_hour 12 = .ok (.iload_n 1, 1) := by decide +kernel
theorem dX6_hour_13 : decode cX6_hour 13 = .ok (.aload_n 0, 1) := by decide +kernel
theorem dX6_hour_14 : decode cX6_hour 14 = .ok (.getfield 165, 3) := by decide +kernel
theorem dX6_hour_17 : decode cX6_hour 17 = .ok (.if_icmp .ge 43, 3) := by decide +kernel
theorem dX6_hour_20 : decode cX6_hour 20 = .ok (.aload_n 0, 1) := by decide +kernel
theorem dX6_hour_21 : decode cX6_hour 21 = .ok (.getfield 19, 3) := by decide +kernel
theorem dX6_hour_24 : decode cX6_hour 24 = .ok (.iload_n 1, 1) := by decide +kernel
theorem dX6_hour_25 : decode cX6_hour 25 = .ok (.iaload, 1) := by decide +kernel
theorem dX6_hour_26 : decode cX6_hour 26 = .ok (.ifCond .le 28, 3) := by decide +kernel
theorem dX6_hour_29 : decode cX6_hour 29 = .ok (.aload_n 0, 1) := by decide +kernel
theorem dX6_hour_30 : decode cX6_hour 30 = .ok (.getfield 49, 3) := by decide +kernel
theorem dX6_hour_33 : decode cX6_hour 33 = .ok (.iload_n 1, 1) := by decide +kernel
theorem dX6_hour_34 : decode cX6_hour 34 = .ok (.iaload, 1) := by decide +kernel
theorem dX6_hour_35 : decode cX6_hour 35 = .ok (.iconst 4, 1) := by decide +kernel
theorem dX6_hour_36 : decode cX6_hour 36 = .ok (.if_icmp .eq 18, 3) := by decide +kernel
theorem dX6_hour_39 : decode cX6_hour 39 = .ok (.aload_n 0, 1) := by decide +kernel
theorem dX6_hour_40 : decode cX6_hour 40 = .ok (.getfield 49, 3) := by decide +kernel
theorem dX6_hour_43 : decode cX6_hour 43 = .ok (.iload_n 1, 1) := by decide +kernel
theorem dX6_hour_44 : decode cX6_hour 44 = .ok (.iaload, 1) := by decide +kernel
theorem dX6_hour_45 : decode cX6_hour 45 = .ok (.iconst 5, 1) := by decide +kernel
theorem dX6_hour_46 : decode cX6_hour 46 = .ok (.if_icmp .eq 8, 3) := by decide +kernel
theorem dX6_hour_49 : decode cX6_hour 49 = .ok (.aload_n 0, 1) := by decide +kernel
theorem dX6_hour_50 : decode cX6_hour 50 = .ok (.iload_n 1, 1) := by decide +kernel
theorem dX6_hour_51 : decode cX6_hour 51 = .ok (.invokevirtual 351, 3) := by decide +kernel
theorem dX6_hour_54 : decode cX6_hour 54 = .ok (.iinc 1 1, 3) := by decide +kernel
theorem dX6_hour_57 : decode cX6_hour 57 = .ok (.goto (-45), 3) := by decide +kernel
theorem dX6_hour_60 : decode cX6_hour 60 = .ok (.iconst 0, 1) := by decide +kernel
theorem dX6_hour_61 : decode cX6_hour 61 = .ok (.istore_n 1, 1) := by decide +kernel
theorem dX6_hour_62 : decode cX6_hour 62 = .ok (.iload_n 1, 1) := by decide +kernel
theorem dX6_hour_63 : decode cX6_hour 63 = .ok (.aload_n 0, 1) := by decide +kernel
theorem dX6_hour_64 : decode cX6_hour 64 = .ok (.getfield 165, 3) := by decide +kernel
theorem dX6_hour_67 : decode cX6_hour 67 = .ok (.if_icmp .ge 75, 3) := by decide +kernel
theorem dX6_hour_70 : decode cX6_hour 70 = .ok (.aload_n 0, 1) := by decide +kernel
theorem dX6_hour_71 : decode cX6_hour 71 = .ok (.getfield 70, 3) := by decide +kernel
theorem dX6_hour_74 : decode cX6_hour 74 = .ok (.iload_n 1, 1) := by decide +kernel
theorem dX6_hour_75 : decode cX6_hour 75 = .ok (.aload_n 0, 1) := by decide +kernel
theorem dX6_hour_76 : decode cX6_hour 76 = .ok (.getfield 49, 3) := by decide +kernel
theorem dX6_hour_79 : decode cX6_hour 79 = .ok (.iload_n 1, 1) := by decide +kernel
theorem dX6_hour_80 : decode cX6_hour 80 = .ok (.iaload, 1) := by decide +kernel
theorem dX6_hour_81 : decode cX6_hour 81 = .ok (.iconst 1, 1) := by decide +kernel
theorem dX6_hour_82 : decode cX6_hour 82 = .ok (.if_icmp .ne 16, 3) := by decide +kernel
theorem dX6_hour_85 : decode cX6_hour 85 = .ok (.aload_n 0, 1) := by decide +kernel
theorem dX6_hour_86 : decode cX6_hour 86 = .ok (.getfield 19, 3) := by decide +kernel
theorem dX6_hour_89 : decode cX6_hour 89 = .ok (.iload_n 1, 1) := by decide +kernel
theorem dX6_hour_90 : decode cX6_hour 90 = .ok (.iaload, 1) := by decide +kernel
theorem dX6_hour_91 : decode cX6_hour 91 = .ok (.ifCond .le 7, 3) := by decide +kernel
theorem dX6_hour_94 : decode cX6_hour 94 = .ok (.iconst 1, 1) := by decide +kernel
theorem dX6_hour_95 : decode cX6_hour 95 = .ok (.goto 4, 3) := by decide +kernel
theorem dX6_hour_98 : decode cX6_hour 98 = .ok (.iconst 0, 1) := by decide +kernel
theorem dX6_hour_99 : decode cX6_hour 99 = .ok (.bastore, 1) := by decide +kernel
theorem dX6_hour_100 : decode cX6_hour 100 = .ok (.aload_n 0, 1) := by decide +kernel
theorem dX6_hour_101 : decode cX6_hour 101 = .ok (.getfield 61, 3) := by decide +kernel
theorem dX6_hour_104 : decode cX6_hour 104 = .ok (.iload_n 1, 1) := by decide +kernel
theorem dX6_hour_105 : decode cX6_hour 105 = .ok (.iconst 0, 1) := by decide +kernel
theorem dX6_hour_106 : decode cX6_hour 106 = .ok (.iastore, 1) := by decide +kernel
theorem dX6_hour_107 : decode cX6_hour 107 = .ok (.aload_n 0, 1) := by decide +kernel
theorem dX6_hour_108 : decode cX6_hour 108 = .ok (.getfield 64, 3) := by decide +kernel
theorem dX6_hour_111 : decode cX6_hour 111 = .ok (.iload_n 1, 1) := by decide +kernel
theorem dX6_hour_112 : decode cX6_hour 112 = .ok (.iconst 0, 1) := by decide +kernel
theorem dX6_hour_113 : decode cX6_hour 113 = .ok (.iastore, 1) := by decide +kernel
theorem dX6_hour_114 : decode cX6_hour 114 = .ok (.aload_n 0, 1) := by decide +kernel
theorem dX6_hour_115 : decode cX6_hour 115 = .ok (.getfield 67, 3) := by decide +kernel
theorem dX6_hour_118 : decode cX6_hour 118 = .ok (.iload_n 1, 1) := by decide +kernel
theorem dX6_hour_119 : decode cX6_hour 119 = .ok (.iconst 0, 1) := by decide +kernel
theorem dX6_hour_120 : decode cX6_hour 120 = .ok (.iastore, 1) := by decide +kernel
theorem dX6_hour_121 : decode cX6_hour 121 = .ok (.aload_n 0, 1) := by decide +kernel
theorem dX6_hour_122 : decode cX6_hour 122 = .ok (.getfield 49, 3) := by decide +kernel
theorem dX6_hour_125 : decode cX6_hour 125 = .ok (.iload_n 1, 1) := by decide +kernel
theorem dX6_hour_126 : decode cX6_hour 126 = .ok (.iaload, 1) := by decide +kernel
theorem dX6_hour_127 : decode cX6_hour 127 = .ok (.iconst 2, 1) := by decide +kernel
theorem dX6_hour_128 : decode cX6_hour 128 = .ok (.if_icmp .ne 8, 3) := by decide +kernel
theorem dX6_hour_131 : decode cX6_hour 131 = .ok (.aload_n 0, 1) := by decide +kernel
theorem dX6_hour_132 : decode cX6_hour 132 = .ok (.iload_n 1, 1) := by decide +kernel
theorem dX6_hour_133 : decode cX6_hour 133 = .ok (.invokevirtual 354, 3) := by decide +kernel
theorem dX6_hour_136 : decode cX6_hour 136 = .ok (.iinc 1 1, 3) := by decide +kernel
theorem dX6_hour_139 : decode cX6_hour 139 = .ok (.goto (-77), 3) := by decide +kernel
theorem dX6_hour_142 : decode cX6_hour 142 = .ok (.aload_n 0, 1) := by decide +kernel
theorem dX6_hour_143 : decode cX6_hour 143 = .ok (.getfield 319, 3) := by decide +kernel
theorem dX6_hour_146 : decode cX6_hour 146 = .ok (.ifCond .le 7, 3) := by decide +kernel
theorem dX6_hour_149 : decode cX6_hour 149 = .ok (.aload_n 0, 1) := by decide +kernel
theorem dX6_hour_150 : decode cX6_hour 150 = .ok (.invokevirtual 357, 3) := by decide +kernel
theorem dX6_hour_153 : decode cX6_hour 153 = .ok (.iconst 0, 1) := by decide +kernel
theorem dX6_hour_154 : decode cX6_hour 154 = .ok (.istore_n 1, 1) := by decide +kernel
theorem dX6_hour_155 : decode cX6_hour 155 = .ok (.iload_n 1, 1) := by decide +kernel
theorem dX6_hour_156 : decode cX6_hour 156 = .ok (.aload_n 0, 1) := by decide +kernel
theorem dX6_hour_157 : decode cX6_hour 157 = .ok (.getfield 165, 3) := by decide +kernel
theorem dX6_hour_160 : decode cX6_hour 160 = .ok (.if_icmp .ge 42, 3) := by decide +kernel
theorem dX6_hour_163 : decode cX6_hour 163 = .ok (.aload_n 0, 1) := by decide +kernel
theorem dX6_hour_164 : decode cX6_hour 164 = .ok (.getfield 52, 3) := by decide +kernel
theorem dX6_hour_167 : decode cX6_hour 167 = .ok (.iload_n 1, 1) := by decide +kernel
theorem dX6_hour_168 : decode cX6_hour 168 = .ok (.dup2, 1) := by decide +kernel
theorem dX6_hour_169 : decode cX6_hour 169 = .ok (.iaload, 1) := by decide +kernel
theorem dX6_hour_170 : decode cX6_hour 170 = .ok (.aload_n 0, 1) := by decide +kernel
theorem dX6_hour_171 : decode cX6_hour 171 = .ok (.getfield 70, 3) := by decide +kernel
theorem dX6_hour_174 : decode cX6_hour 174 = .ok (.iload_n 1, 1) := by decide +kernel
theorem dX6_hour_175 : decode cX6_hour 175 = .ok (.baload, 1) := by decide +kernel
theorem dX6_hour_176 : decode cX6_hour 176 = .ok (.ifCond .ne 13, 3) := by decide +kernel
theorem dX6_hour_179 : decode cX6_hour 179 = .ok (.aload_n 0, 1) := by decide +kernel
theorem dX6_hour_180 : decode cX6_hour 180 = .ok (.getfield 49, 3) := by decide +kernel
theorem dX6_hour_183 : decode cX6_hour 183 = .ok (.iload_n 1, 1) := by decide +kernel
theorem dX6_hour_184 : decode cX6_hour 184 = .ok (.iaload, 1) := by decide +kernel
theorem dX6_hour_185 : decode cX6_hour 185 = .ok (.iconst 3, 1) := by decide +kernel
theorem dX6_hour_186 : decode cX6_hour 186 = .ok (.if_icmp .ne 7, 3) := by decide +kernel
theorem dX6_hour_189 : decode cX6_hour 189 = .ok (.iconst 1, 1) := by decide +kernel
theorem dX6_hour_190 : decode cX6_hour 190 = .ok (.goto 4, 3) := by decide +kernel
theorem dX6_hour_193 : decode cX6_hour 193 = .ok (.iconst 0, 1) := by decide +kernel
theorem dX6_hour_194 : decode cX6_hour 194 = .ok (.iadd, 1) := by decide +kernel
theorem dX6_hour_195 : decode cX6_hour 195 = .ok (.iastore, 1) := by decide +kernel
theorem dX6_hour_196 : decode cX6_hour 196 = .ok (.iinc 1 1, 3) := by decide +kernel
theorem dX6_hour_199 : decode cX6_hour 199 = .ok (.goto (-44), 3) := by decide +kernel
theorem dX6_hour_202 : decode cX6_hour 202 = .ok (.return_, 1) := by decide +kernel
abbrev rm_X6_hour : Room := k2_rm 6 136
section
variable {p : Program} {l : Launch} {e : Env} {s : State} {m : MethodId} {args : Array Value} {below : List Frame} {meth : Method} {c : Code} {D : gD} {A : Nat → Prop} {ad : Nat → Nat} {S : Nat → Nat × Nat} {σ : Mem}
set_option maxRecDepth 100000 in
set_option maxHeartbeats 4000000 in
theorem w_X6_hour_L12 (Z : Cz D (Ew D A) A cX6_hour 2 none RX6 p s m args meth c) (hu0 : S 200 = (24, 0)) {r : Mem} {k60 : Mem → Option Mem}
    (hk60 : ∀ (σ : Mem)  (H : Heap) (locs : List Loc) (ls : Array Slot), St D A ad S σ s.heap H locs → lv_has ls 2 [(0, .ref (ad 200))] → k60 σ = some r → W p l e rm_X6_hour s m args below meth c H locs 0 0 (MQ below (QG D A ad S none r) args s 0 0 A) (F0 m 60 ls [])) :
    ∀ (n : Nat) (σ : Mem) (v1 : Int32) (H : Heap) (locs : List Loc) (ls : Array Slot), St D A ad S σ s.heap H locs → lv_has ls 2 [(0, .ref (ad 200)), (1, .int v1)] → f_X6_hour_L12 k60 n σ v1 = some r → W p l e rm_X6_hour s m args below meth c H locs 0 0 (MQ below (QG D A ad S none r) args s 0 0 A) (F0 m 12 ls []) := by
  have hx := Z.1
  have hb := Z.2.1
  have hown := Z.2.2.2.2.2.1
  have hts := Z.2.2.2.2.2.2.1
  intro n
  induction n with
  | zero => intro σ v1 H locs ls hS hl h; cases h
  | succ n ih =>
    intro σ v1 H locs ls hS hl h
    unfold f_X6_hour_L12 at h
    refine lv_iload_n hx hb dX6_hour_12 rfl (lv_at hl 1 rfl) ?_
    refine lv_aload_n hx hb dX6_hour_13 rfl (lv_at hl 0 rfl) ?_
    refine h_getI Z hS cls_14 hu0 (by decide) rfl fl_X6_165_14 dX6_hour_14 h (fun x3 h => ?_)
    refine lv_icmp_ge (tgt := 60) hx hb dX6_hour_17 (by decide) (fun c4 => ?_) (fun c4 => ?_)
    · have h := if_t h c4
      exact hk60 _ _ _ _ hS (lv_sub hl [0] rfl) h
    · have h := if_f h c4
      refine lv_aload_n hx hb dX6_hour_20 rfl (lv_at hl 0 rfl) ?_
      refine h_getC (n := 6) (j := 206) (sh := (1, 9)) Z hS cls_14 hu0 (by decide) rfl rfl rfl fl_X6_19_14 dX6_hour_21 (fun hc5 => ?_)
      refine lv_iload_n hx hb dX6_hour_24 rfl (lv_at hl 1 rfl) ?_
      refine h_iald Z hS hc5 dX6_hour_25 h (fun x6 h => ?_)
      refine lv_if_le (tgt := 54) hx hb dX6_hour_26 (by decide) (fun c7 => ?_) (fun c7 => ?_)
      · have h := if_t h c7
        refine lv_iinc (v := (v1 + (1 : Int32))) (lv' := [(1, .int (v1 + (1 : Int32))), (0, .ref (ad 200))]) hx hb dX6_hour_54 hl (k := 1) rfl rfl (by decide) rfl (fun ls hl => ?_)
        refine lv_goto (tgt := 12) hx hb dX6_hour_57 (by decide) ?_
        exact ih _ _ _ _ _ hS (lv_sub hl [1, 0] rfl) h
      · have h := if_f h c7
        refine lv_aload_n hx hb dX6_hour_29 rfl (lv_at hl 0 rfl) ?_
        refine h_getC (n := 16) (j := 216) (sh := (1, 9)) Z hS cls_14 hu0 (by decide) rfl rfl rfl fl_X6_49_14 dX6_hour_30 (fun hc8 => ?_)
        refine lv_iload_n hx hb dX6_hour_33 rfl (lv_at hl 1 rfl) ?_
        refine h_iald Z hS hc8 dX6_hour_34 h (fun x9 h => ?_)
        refine lv_iconst (v := (4 : Int32)) hx hb dX6_hour_35 (by decide) ?_
        refine lv_icmp_eq (tgt := 54) hx hb dX6_hour_36 (by decide) (fun c10 => ?_) (fun c10 => ?_)
        · have h := if_t h c10
          refine lv_iinc (v := (v1 + (1 : Int32))) (lv' := [(1, .int (v1 + (1 : Int32))), (0, .ref (ad 200))]) hx hb dX6_hour_54 hl (k := 1) rfl rfl (by decide) rfl (fun ls hl => ?_)
          refine lv_goto (tgt := 12) hx hb dX6_hour_57 (by decide) ?_
          exact ih _ _ _ _ _ hS (lv_sub hl [1, 0] rfl) h
        · have h := if_f h c10
          refine lv_aload_n hx hb dX6_hour_39 rfl (lv_at hl 0 rfl) ?_
          refine h_getC (n := 16) (j := 216) (sh := (1, 9)) Z hS cls_14 hu0 (by decide) rfl rfl rfl fl_X6_49_14 dX6_hour_40 (fun hc11 => ?_)
          refine lv_iload_n hx hb dX6_hour_43 rfl (lv_at hl 1 rfl) ?_
          refine h_iald Z hS hc11 dX6_hour_44 h (fun x12 h => ?_)
          refine lv_iconst (v := (5 : Int32)) hx hb dX6_hour_45 (by decide) ?_
          refine lv_icmp_eq (tgt := 54) hx hb dX6_hour_46 (by decide) (fun c13 => ?_) (fun c13 => ?_)
          · have h := if_t h c13
            refine lv_iinc (v := (v1 + (1 : Int32))) (lv' := [(1, .int (v1 + (1 : Int32))), (0, .ref (ad 200))]) hx hb dX6_hour_54 hl (k := 1) rfl rfl (by decide) rfl (fun ls hl => ?_)
            refine lv_goto (tgt := 12) hx hb dX6_hour_57 (by decide) ?_
            exact ih _ _ _ _ _ hS (lv_sub hl [1, 0] rfl) h
          · have h := if_f h c13
            refine lv_aload_n hx hb dX6_hour_49 rfl (lv_at hl 0 rfl) ?_
            refine lv_iload_n hx hb dX6_hour_50 rfl (lv_at hl 1 rfl) ?_
            refine h_cm hS h (fun z hz => h_rV (rest := []) Z hS hu0 rfl v_X6_351 (w_X6_decide hu0 hz) rfl rfl ⟨by decide, by decide⟩ rfl hl.1 rfl (Nat.le_of_ble_eq_true rfl) (Nat.zero_le _) (Nat.zero_le _) dX6_hour_51) (fun σ14 H locs hS h => ?_)
            refine lv_iinc (v := (v1 + (1 : Int32))) (lv' := [(1, .int (v1 + (1 : Int32))), (0, .ref (ad 200))]) hx hb dX6_hour_54 hl (k := 1) rfl rfl (by decide) rfl (fun ls hl => ?_)
            refine lv_goto (tgt := 12) hx hb dX6_hour_57 (by decide) ?_
            exact ih _ _ _ _ _ hS (lv_sub hl [1, 0] rfl) h
set_option maxRecDepth 100000 in
set_option maxHeartbeats 4000000 in
theorem w_X6_hour_L62 (Z : Cz D (Ew D A) A cX6_hour 2 none RX6 p s m args meth c) (hu0 : S 200 = (24, 0)) {r : Mem} {k142 : Mem → Option Mem}
    (hk142 : ∀ (σ : Mem)  (H : Heap) (locs : List Loc) (ls : Array Slot), St D A ad S σ s.heap H locs → lv_has ls 2 [(0, .ref (ad 200))] → k142 σ = some r → W p l e rm_X6_hour s m args below meth c H locs 0 0 (MQ below (QG D A ad S none r) args s 0 0 A) (F0 m 142 ls [])) :
    ∀ (n : Nat) (σ : Mem) (v1 : Int32) (H : Heap) (locs : List Loc) (ls : Array Slot), St D A ad S σ s.heap H locs → lv_has ls 2 [(0, .ref (ad 200)), (1, .int v1)] → f_X6_hour_L62 k142 n σ v1 = some r → W p l e rm_X6_hour s m args below meth c H locs 0 0 (MQ below (QG D A ad S none r) args s 0 0 A) (F0 m 62 ls []) := by
  have hx := Z.1
  have hb := Z.2.1
  have hown := Z.2.2.2.2.2.1
  have hts := Z.2.2.2.2.2.2.1
  intro n
  induction n with
  | zero => intro σ v1 H locs ls hS hl h; cases h
  | succ n ih =>
    intro σ v1 H locs ls hS hl h
    unfold f_X6_hour_L62 at h
    refine lv_iload_n hx hb dX6_hour_62 rfl (lv_at hl 1 rfl) ?_
    refine lv_aload_n hx hb dX6_hour_63 rfl (lv_at hl 0 rfl) ?_
    refine h_getI Z hS cls_14 hu0 (by decide) rfl fl_X6_165_14 dX6_hour_64 h (fun x16 h => ?_)
    refine lv_icmp_ge (tgt := 142) hx hb dX6_hour_67 (by decide) (fun c17 => ?_) (fun c17 => ?_)
    · have h := if_t h c17
      exact hk142 _ _ _ _ hS (lv_sub hl [0] rfl) h
    · have h := if_f h c17
      refine lv_aload_n hx hb dX6_hour_70 rfl (lv_at hl 0 rfl) ?_
      refine h_getC (n := 23) (j := 223) (sh := (3, 9)) Z hS cls_14 hu0 (by decide) rfl rfl rfl fl_X6_70_14 dX6_hour_71 (fun hc18 => ?_)
      refine lv_iload_n hx hb dX6_hour_74 rfl (lv_at hl 1 rfl) ?_
      refine lv_aload_n hx hb dX6_hour_75 rfl (lv_at hl 0 rfl) ?_
      refine h_getC (n := 16) (j := 216) (sh := (1, 9)) Z hS cls_14 hu0 (by decide) rfl rfl rfl fl_X6_49_14 dX6_hour_76 (fun hc19 => ?_)
      refine lv_iload_n hx hb dX6_hour_79 rfl (lv_at hl 1 rfl) ?_
      refine h_iald Z hS hc19 dX6_hour_80 h (fun x20 h => ?_)
      refine lv_iconst (v := (1 : Int32)) hx hb dX6_hour_81 (by decide) ?_
      obtain ⟨x22, hp23, h⟩ := bnd_el h
      have K23 : ∀ (H : Heap) (locs : List Loc) (ls : Array Slot), St D A ad S σ s.heap H locs → lv_has ls 2 [(0, .ref (ad 200)), (1, .int v1)] → W p l e rm_X6_hour s m args below meth c H locs 0 0 (MQ below (QG D A ad S none r) args s 0 0 A) (F0 m 99 ls [.int x22, .int v1, .ref (ad 223)]) := by
        intro H locs ls hS hl
        refine h_zast Z hS hc18 dX6_hour_99 h (fun σ24 H locs hS h => ?_)
        refine lv_aload_n hx hb dX6_hour_100 rfl (lv_at hl 0 rfl) ?_
        refine h_getC (n := 20) (j := 220) (sh := (1, 9)) Z hS cls_14 hu0 (by decide) rfl rfl rfl fl_X6_61_14 dX6_hour_101 (fun hc25 => ?_)
        refine lv_iload_n hx hb dX6_hour_104 rfl (lv_at hl 1 rfl) ?_
        refine lv_iconst (v := (0 : Int32)) hx hb dX6_hour_105 (by decide) ?_
        refine h_iast Z hS hc25 dX6_hour_106 h (fun σ26 H locs hS h => ?_)
        refine lv_aload_n hx hb dX6_hour_107 rfl (lv_at hl 0 rfl) ?_
        refine h_getC (n := 21) (j := 221) (sh := (1, 9)) Z hS cls_14 hu0 (by decide) rfl rfl rfl fl_X6_64_14 dX6_hour_108 (fun hc27 => ?_)
        refine lv_iload_n hx hb dX6_hour_111 rfl (lv_at hl 1 rfl) ?_
        refine lv_iconst (v := (0 : Int32)) hx hb dX6_hour_112 (by decide) ?_
        refine h_iast Z hS hc27 dX6_hour_113 h (fun σ28 H locs hS h => ?_)
        refine lv_aload_n hx hb dX6_hour_114 rfl (lv_at hl 0 rfl) ?_
        refine h_getC (n := 22) (j := 222) (sh := (1, 9)) Z hS cls_14 hu0 (by decide) rfl rfl rfl fl_X6_67_14 dX6_hour_115 (fun hc29 => ?_)
        refine lv_iload_n hx hb dX6_hour_118 rfl (lv_at hl 1 rfl) ?_
        refine lv_iconst (v := (0 : Int32)) hx hb dX6_hour_119 (by decide) ?_
        refine h_iast Z hS hc29 dX6_hour_120 h (fun σ30 H locs hS h => ?_)
        refine lv_aload_n hx hb dX6_hour_121 rfl (lv_at hl 0 rfl) ?_
        refine h_getC (n := 16) (j := 216) (sh := (1, 9)) Z hS cls_14 hu0 (by decide) rfl rfl rfl fl_X6_49_14 dX6_hour_122 (fun hc31 => ?_)
        refine lv_iload_n hx hb dX6_hour_125 rfl (lv_at hl 1 rfl) ?_
        refine h_iald Z hS hc31 dX6_hour_126 h (fun x32 h => ?_)
        refine lv_iconst (v := (2 : Int32)) hx hb dX6_hour_127 (by decide) ?_
        refine lv_icmp_ne (tgt := 136) hx hb dX6_hour_128 (by decide) (fun c33 => ?_) (fun c33 => ?_)
        · have h := if_f h c33
          refine lv_iinc (v := (v1 + (1 : Int32))) (lv' := [(1, .int (v1 + (1 : Int32))), (0, .ref (ad 200))]) hx hb dX6_hour_136 hl (k := 1) rfl rfl (by decide) rfl (fun ls hl => ?_)
          refine lv_goto (tgt := 62) hx hb dX6_hour_139 (by decide) ?_
          exact ih _ _ _ _ _ hS (lv_sub hl [1, 0] rfl) h
        · have h := if_t h c33
          refine lv_aload_n hx hb dX6_hour_131 rfl (lv_at hl 0 rfl) ?_
          refine lv_iload_n hx hb dX6_hour_132 rfl (lv_at hl 1 rfl) ?_
          refine h_cm hS h (fun z hz => h_rV (rest := []) Z hS hu0 rfl v_X6_354 (w_X6_washOne hu0 hz) rfl rfl ⟨by decide, by decide⟩ rfl hl.1 rfl (Nat.le_of_ble_eq_true rfl) (Nat.zero_le _) (Nat.zero_le _) dX6_hour_133) (fun σ34 H locs hS h => ?_)
          refine lv_iinc (v := (v1 + (1 : Int32))) (lv' := [(1, .int (v1 + (1 : Int32))), (0, .ref (ad 200))]) hx hb dX6_hour_136 hl (k := 1) rfl rfl (by decide) rfl (fun ls hl => ?_)
          refine lv_goto (tgt := 62) hx hb dX6_hour_139 (by decide) ?_
          exact ih _ _ _ _ _ hS (lv_sub hl [1, 0] rfl) h
      clear h
      have h := hp23
      clear hp23
      refine lv_icmp_ne (tgt := 98) hx hb dX6_hour_82 (by decide) (fun c21 => ?_) (fun c21 => ?_)
      · have h := if_f h c21
        refine lv_iconst (v := (0 : Int32)) hx hb dX6_hour_98 (by decide) ?_
        cases h
        exact K23 _ _ _ hS (lv_sub hl [0, 1] rfl)
      · have h := if_t h c21
        refine lv_aload_n hx hb dX6_hour_85 rfl (lv_at hl 0 rfl) ?_
        refine h_getC (n := 6) (j := 206) (sh := (1, 9)) Z hS cls_14 hu0 (by decide) rfl rfl rfl fl_X6_19_14 dX6_hour_86 (fun hc35 => ?_)
        refine lv_iload_n hx hb dX6_hour_89 rfl (lv_at hl 1 rfl) ?_
        refine h_iald Z hS hc35 dX6_hour_90 h (fun x36 h => ?_)
        refine lv_if_le (tgt := 98) hx hb dX6_hour_91 (by decide) (fun c37 => ?_) (fun c37 => ?_)
        · have h := if_t h c37
          refine lv_iconst (v := (0 : Int32)) hx hb dX6_hour_98 (by decide) ?_
          cases h
          exact K23 _ _ _ hS (lv_sub hl [0, 1] rfl)
        · have h := if_f h c37
          refine lv_iconst (v := (1 : Int32)) hx hb dX6_hour_94 (by decide) ?_
          refine lv_goto (tgt := 99) hx hb dX6_hour_95 (by decide) ?_
          cases h
          exact K23 _ _ _ hS (lv_sub hl [0, 1] rfl)
set_option maxRecDepth 100000 in
set_option maxHeartbeats 4000000 in
theorem w_X6_hour_L155 (Z : Cz D (Ew D A) A cX6_hour 2 none RX6 p s m args meth c) (hu0 : S 200 = (24, 0)) {r : Mem} {k202 : Mem → Option Mem}
    (hk202 : ∀ (σ : Mem)  (H : Heap) (locs : List Loc) (ls : Array Slot), St D A ad S σ s.heap H locs → lv_has ls 2 [] → k202 σ = some r → W p l e rm_X6_hour s m args below meth c H locs 0 0 (MQ below (QG D A ad S none r) args s 0 0 A) (F0 m 202 ls [])) :
    ∀ (n : Nat) (σ : Mem) (v1 : Int32) (H : Heap) (locs : List Loc) (ls : Array Slot), St D A ad S σ s.heap H locs → lv_has ls 2 [(0, .ref (ad 200)), (1, .int v1)] → f_X6_hour_L155 k202 n σ v1 = some r → W p l e rm_X6_hour s m args below meth c H locs 0 0 (MQ below (QG D A ad S none r) args s 0 0 A) (F0 m 155 ls []) := by
  have hx := Z.1
  have hb := Z.2.1
  have hown := Z.2.2.2.2.2.1
  have hts := Z.2.2.2.2.2.2.1
  intro n
  induction n with
  | zero => intro σ v1 H locs ls hS hl h; cases h
  | succ n ih =>
    intro σ v1 H locs ls hS hl h
    unfold f_X6_hour_L155 at h
    refine lv_iload_n hx hb dX6_hour_155 rfl (lv_at hl 1 rfl) ?_
    refine lv_aload_n hx hb dX6_hour_156 rfl (lv_at hl 0 rfl) ?_
    refine h_getI Z hS cls_14 hu0 (by decide) rfl fl_X6_165_14 dX6_hour_157 h (fun x43 h => ?_)
    refine lv_icmp_ge (tgt := 202) hx hb dX6_hour_160 (by decide) (fun c44 => ?_) (fun c44 => ?_)
    · have h := if_t h c44
      exact hk202 _ _ _ _ hS (lv_sub hl [] rfl) h
    · have h := if_f h c44
      refine lv_aload_n hx hb dX6_hour_163 rfl (lv_at hl 0 rfl) ?_
      refine h_getC (n := 17) (j := 217) (sh := (1, 9)) Z hS cls_14 hu0 (by decide) rfl rfl rfl fl_X6_52_14 dX6_hour_164 (fun hc45 => ?_)
      refine lv_iload_n hx hb dX6_hour_167 rfl (lv_at hl 1 rfl) ?_
      refine lv_dup2_11 hx hb dX6_hour_168 rfl rfl ?_
      refine h_iald Z hS hc45 dX6_hour_169 h (fun x46 h => ?_)
      refine lv_aload_n hx hb dX6_hour_170 rfl (lv_at hl 0 rfl) ?_
      refine h_getC (n := 23) (j := 223) (sh := (3, 9)) Z hS cls_14 hu0 (by decide) rfl rfl rfl fl_X6_70_14 dX6_hour_171 (fun hc47 => ?_)
      refine lv_iload_n hx hb dX6_hour_174 rfl (lv_at hl 1 rfl) ?_
      refine h_zald Z hS hc47 dX6_hour_175 h (fun x48 h => ?_)
      obtain ⟨x50, hp51, h⟩ := bnd_el h
      have K51 : ∀ (H : Heap) (locs : List Loc) (ls : Array Slot), St D A ad S σ s.heap H locs → lv_has ls 2 [(0, .ref (ad 200)), (1, .int v1)] → W p l e rm_X6_hour s m args below meth c H locs 0 0 (MQ below (QG D A ad S none r) args s 0 0 A) (F0 m 194 ls [.int x50, .int x46, .int v1, .ref (ad 217)]) := by
        intro H locs ls hS hl
        refine lv_iadd hx hb dX6_hour_194 ?_
        refine h_iast Z hS hc45 dX6_hour_195 h (fun σ52 H locs hS h => ?_)
        refine lv_iinc (v := (v1 + (1 : Int32))) (lv' := [(1, .int (v1 + (1 : Int32))), (0, .ref (ad 200))]) hx hb dX6_hour_196 hl (k := 1) rfl rfl (by decide) rfl (fun ls hl => ?_)
        refine lv_goto (tgt := 155) hx hb dX6_hour_199 (by decide) ?_
        exact ih _ _ _ _ _ hS (lv_sub hl [1, 0] rfl) h
      clear h
      have h := hp51
      clear hp51
      refine lv_if_ne (tgt := 189) hx hb dX6_hour_176 (by decide) (fun c49 => ?_) (fun c49 => ?_)
      · have h := if_f h c49
        refine lv_iconst (v := (1 : Int32)) hx hb dX6_hour_189 (by decide) ?_
        refine lv_goto (tgt := 194) hx hb dX6_hour_190 (by decide) ?_
        cases h
        exact K51 _ _ _ hS (lv_sub hl [0, 1] rfl)
      · have h := if_t h c49
        refine lv_aload_n hx hb dX6_hour_179 rfl (lv_at hl 0 rfl) ?_
        refine h_getC (n := 16) (j := 216) (sh := (1, 9)) Z hS cls_14 hu0 (by decide) rfl rfl rfl fl_X6_49_14 dX6_hour_180 (fun hc53 => ?_)
        refine lv_iload_n hx hb dX6_hour_183 rfl (lv_at hl 1 rfl) ?_
        refine h_iald Z hS hc53 dX6_hour_184 h (fun x54 h => ?_)
        refine lv_iconst (v := (3 : Int32)) hx hb dX6_hour_185 (by decide) ?_
        refine lv_icmp_ne (tgt := 193) hx hb dX6_hour_186 (by decide) (fun c55 => ?_) (fun c55 => ?_)
        · have h := if_f h c55
          refine lv_iconst (v := (0 : Int32)) hx hb dX6_hour_193 (by decide) ?_
          cases h
          exact K51 _ _ _ hS (lv_sub hl [0, 1] rfl)
        · have h := if_t h c55
          refine lv_iconst (v := (1 : Int32)) hx hb dX6_hour_189 (by decide) ?_
          refine lv_goto (tgt := 194) hx hb dX6_hour_190 (by decide) ?_
          cases h
          exact K51 _ _ _ hS (lv_sub hl [0, 1] rfl)
set_option maxRecDepth 100000 in
set_option maxHeartbeats 4000000 in
theorem w_X6_hour (hi0 : S 200 = (24, 0)) {r : Mem} (h : f_X6_hour σ = some r) : Met l yX6_hour (ws_ yX6_hour cX6_hour 2 none) rm_X6_hour (va_Pc [.ref (ad 200)] (PreG D (Ew D A) A ad S σ)) (QG D A ad S none r) 0 0 A := by
  refine y_met (by decide) (Nat.le_of_ble_eq_true rfl) (fun p e s m below meth c ls Z hS hl => ?_)
  have hx := Z.1
  have hb := Z.2.1
  have hown := Z.2.2.2.2.2.1
  have hts := Z.2.2.2.2.2.2.1
  unfold f_X6_hour at h
  refine lv_aload_n hx hb dX6_hour_0 rfl (lv_at hl 0 rfl) ?_
  refine lv_dup hx hb dX6_hour_1 rfl ?_
  refine h_getI Z hS cls_14 hi0 (by decide) rfl fl_X6_330_14 dX6_hour_2 h (fun x1 h => ?_)
  refine lv_iconst (v := (1 : Int32)) hx hb dX6_hour_5 (by decide) ?_
  refine lv_iadd hx hb dX6_hour_6 ?_
  refine h_putI Z hS cls_14 hi0 (by decide) rfl rfl rfl fl_X6_330_14 dX6_hour_7 h (fun σ2 H locs hS h => ?_)
  refine lv_iconst (v := (0 : Int32)) hx hb dX6_hour_10 (by decide) ?_
  refine lv_istore_n (lv' := [(1, .int (0 : Int32)), (0, .ref (ad 200))]) hx hb dX6_hour_11 rfl hl (by decide) rfl (fun ls hl => ?_)
  refine w_X6_hour_L12 Z hi0 (fun σ15 H locs ls hS hl h => ?_) FU _ _ _ _ _ hS (lv_sub hl [1, 0] rfl) h
  refine lv_iconst (v := (0 : Int32)) hx hb dX6_hour_60 (by decide) ?_
  refine lv_istore_n (lv' := [(1, .int (0 : Int32)), (0, .ref (ad 200))]) hx hb dX6_hour_61 rfl hl (by decide) rfl (fun ls hl => ?_)
  refine w_X6_hour_L62 Z hi0 (fun σ38 H locs ls hS hl h => ?_) FU _ _ _ _ _ hS (lv_sub hl [1, 0] rfl) h
  refine lv_aload_n hx hb dX6_hour_142 rfl (lv_at hl 0 rfl) ?_
  refine h_getI Z hS cls_14 hi0 (by decide) rfl fl_X6_319_14 dX6_hour_143 h (fun x39 h => ?_)
  obtain ⟨σ41, hp42, h⟩ := bnd_el h
  have K42 : ∀ (H : Heap) (locs : List Loc) (ls : Array Slot), St D A ad S σ41 s.heap H locs → lv_has ls 2 [(0, .ref (ad 200))] → W p l e rm_X6_hour s m ([.ref (ad 200)] : List Value).toArray below meth c H locs 0 0 (MQ below (QG D A ad S none r) ([.ref (ad 200)] : List Value).toArray s 0 0 A) (F0 m 153 ls []) := by
    intro H locs ls hS hl
    refine lv_iconst (v := (0 : Int32)) hx hb dX6_hour_153 (by decide) ?_
    refine lv_istore_n (lv' := [(1, .int (0 : Int32)), (0, .ref (ad 200))]) hx hb dX6_hour_154 rfl hl (by decide) rfl (fun ls hl => ?_)
    refine w_X6_hour_L155 Z hi0 (fun σ56 H locs ls hS hl h => ?_) FU _ _ _ _ _ hS (lv_sub hl [1, 0] rfl) h
    exact h_vret Z hS dX6_hour_202 h
  clear h
  have h := hp42
  clear hp42
  refine lv_if_le (tgt := 153) hx hb dX6_hour_146 (by decide) (fun c40 => ?_) (fun c40 => ?_)
  · have h := if_t h c40
    cases h
    exact K42 _ _ _ hS (lv_sub hl [0] rfl)
  · have h := if_f h c40
    refine lv_aload_n hx hb dX6_hour_149 rfl (lv_at hl 0 rfl) ?_
    refine h_cm hS h (fun z hz => h_rV (rest := []) Z hS hi0 rfl v_X6_357 (w_X6_flow hi0 hz) rfl rfl ⟨by decide, by decide⟩ rfl hl.1 rfl (Nat.le_of_ble_eq_true rfl) (Nat.zero_le _) (Nat.zero_le _) dX6_hour_150) (fun σ57 H locs hS h => ?_)
    cases h
    exact K42 _ _ _ hS (lv_sub hl [0] rfl)
end
theorem dX6_hours_0 : decode cX6_hours 0 = .ok (.iload_n 1, 1) := by decide +kernel
theorem dX6_hours_1 : decode cX6_hours 1 = .ok (.iconst 0, 1) := by decide +kernel
theorem dX6_hours_2 : decode cX6_hours 2 = .ok (.sipush 200, 3) := by decide +kernel
theorem dX6_hours_5 : decode cX6_hours 5 = .ok (.invokestatic 161, 3) := by decide +kernel
theorem dX6_hours_8 : decode cX6_hours 8 = .ok (.ifCond .eq 15, 3) := by decide +kernel
theorem dX6_hours_11 : decode cX6_hours 11 = .ok (.aload_n 0, 1) := by decide +kernel
theorem dX6_hours_12 : decode cX6_hours 12 = .ok (.getfield 330, 3) := by decide +kernel
theorem dX6_hours_15 : decode cX6_hours 15 = .ok (.iload_n 1, 1) := by decide +kernel
theorem dX6_hours_16 : decode cX6_hours 16 = .ok (.iadd, 1) := by decide +kernel
theorem dX6_hours_17 : decode cX6_hours 17 = .ok (.sipush 2000, 3) := by decide +kernel
theorem dX6_hours_20 : decode cX6_hours 20 = .ok (.if_icmp .le 5, 3) := by decide +kernel
theorem dX6_hours_23 : decode cX6_hours 23 = .ok (.iconst (-1), 1) := by decide +kernel
theorem dX6_hours_24 : decode cX6_hours 24 = .ok (.ireturn, 1) := by decide +kernel
theorem dX6_hours_25 : decode cX6_hours 25 = .ok (.iconst 0, 1) := by decide +kernel
theorem dX6_hours_26 : decode cX6_hours 26 = .ok (.istore_n 2, 1) := by decide +kernel
theorem dX6_hours_27 : decode cX6_hours 27 = .ok (.iload_n 2, 1) := by decide +kernel
theorem dX6_hours_28 : decode cX6_hours 28 = .ok (.iload_n 1, 1) := by decide +kernel
theorem dX6_hours_29 : decode cX6_hours 29 = .ok (.if_icmp .ge 13, 3) := by decide +kernel
theorem dX6_hours_32 : decode cX6_hours 32 = .ok (.aload_n 0, 1) := by decide +kernel
theorem dX6_hours_33 : decode cX6_hours 33 = .ok (.invokevirtual 360, 3) := by decide +kernel
theorem dX6_hours_36 : decode cX6_hours 36 = .ok (.iinc 2 1, 3) := by decide +kernel
theorem dX6_hours_39 : decode cX6_hours 39 = .ok (.goto (-12), 3) := by decide +kernel
theorem dX6_hours_42 : decode cX6_hours 42 = .ok (.aload_n 0, 1) := by decide +kernel
theorem dX6_hours_43 : decode cX6_hours 43 = .ok (.getfield 330, 3) := by decide +kernel
theorem dX6_hours_46 : decode cX6_hours 46 = .ok (.ireturn, 1) := by decide +kernel
abbrev rm_X6_hours : Room := k2_rm 7 157
section
variable {p : Program} {l : Launch} {e : Env} {s : State} {m : MethodId} {args : Array Value} {below : List Frame} {meth : Method} {c : Code} {D : gD} {A : Nat → Prop} {ad : Nat → Nat} {S : Nat → Nat × Nat} {σ : Mem}
set_option maxRecDepth 100000 in
set_option maxHeartbeats 4000000 in
theorem w_X6_hours_L27 (Z : Cz D (Ew D A) A cX6_hours 3 (some .int) RX6 p s m args meth c) {u1 : Int32} (hu0 : S 200 = (24, 0)) {r : (Mem × Int32)} {k42 : Mem → Option (Mem × Int32)}
    (hk42 : ∀ (σ : Mem)  (H : Heap) (locs : List Loc) (ls : Array Slot), St D A ad S σ s.heap H locs → lv_has ls 3 [(0, .ref (ad 200))] → k42 σ = some r → W p l e rm_X6_hours s m args below meth c H locs 0 0 (MQ below (QG D A ad S (some (.int r.2)) r.1) args s 0 0 A) (F0 m 42 ls [])) :
    ∀ (n : Nat) (σ : Mem) (v2 : Int32) (H : Heap) (locs : List Loc) (ls : Array Slot), St D A ad S σ s.heap H locs → lv_has ls 3 [(0, .ref (ad 200)), (1, .int u1), (2, .int v2)] → f_X6_hours_L27 k42 u1 n σ v2 = some r → W p l e rm_X6_hours s m args below meth c H locs 0 0 (MQ below (QG D A ad S (some (.int r.2)) r.1) args s 0 0 A) (F0 m 27 ls []) := by
  have hx := Z.1
  have hb := Z.2.1
  have hown := Z.2.2.2.2.2.1
  have hts := Z.2.2.2.2.2.2.1
  intro n
  induction n with
  | zero => intro σ v2 H locs ls hS hl h; cases h
  | succ n ih =>
    intro σ v2 H locs ls hS hl h
    unfold f_X6_hours_L27 at h
    refine lv_iload_n hx hb dX6_hours_27 rfl (lv_at hl 2 rfl) ?_
    refine lv_iload_n hx hb dX6_hours_28 rfl (lv_at hl 1 rfl) ?_
    refine lv_icmp_ge (tgt := 42) hx hb dX6_hours_29 (by decide) (fun c5 => ?_) (fun c5 => ?_)
    · have h := if_t h c5
      exact hk42 _ _ _ _ hS (lv_sub hl [0] rfl) h
    · have h := if_f h c5
      refine lv_aload_n hx hb dX6_hours_32 rfl (lv_at hl 0 rfl) ?_
      refine h_cm hS h (fun z hz => h_rV (rest := []) Z hS hu0 rfl v_X6_360 (w_X6_hour hu0 hz) rfl rfl ⟨by decide, by decide⟩ rfl hl.1 rfl (Nat.le_of_ble_eq_true rfl) (Nat.zero_le _) (Nat.zero_le _) dX6_hours_33) (fun σ6 H locs hS h => ?_)
      refine lv_iinc (v := (v2 + (1 : Int32))) (lv' := [(2, .int (v2 + (1 : Int32))), (0, .ref (ad 200)), (1, .int u1)]) hx hb dX6_hours_36 hl (k := 2) rfl rfl (by decide) rfl (fun ls hl => ?_)
      refine lv_goto (tgt := 27) hx hb dX6_hours_39 (by decide) ?_
      exact ih _ _ _ _ _ hS (lv_sub hl [1, 2, 0] rfl) h
set_option maxRecDepth 100000 in
set_option maxHeartbeats 4000000 in
theorem w_X6_hours {a1 : Int32} (hi0 : S 200 = (24, 0)) {r : (Mem × Int32)} (h : f_X6_hours σ a1 = some r) : Met l yX6_hours (ws_ yX6_hours cX6_hours 3 (some .int)) rm_X6_hours (va_Pc [.ref (ad 200), .int a1] (PreG D (Ew D A) A ad S σ)) (QG D A ad S (some (.int r.2)) r.1) 0 0 A := by
  refine y_met (by decide) (Nat.le_of_ble_eq_true rfl) (fun p e s m below meth c ls Z hS hl => ?_)
  have hx := Z.1
  have hb := Z.2.1
  have hown := Z.2.2.2.2.2.1
  have hts := Z.2.2.2.2.2.2.1
  unfold f_X6_hours at h
  refine lv_iload_n hx hb dX6_hours_0 rfl (lv_at hl 1 rfl) ?_
  refine lv_iconst (v := (0 : Int32)) hx hb dX6_hours_1 (by decide) ?_
  refine lv_sipush (v := (200 : Int32)) hx hb dX6_hours_2 (by decide) ?_
  refine h_ci hS h (fun z hz => h_rS (rest := []) Z hS v_X6_161 (w_X6_in hz) rfl rfl ⟨by decide, by decide⟩ rfl hl.1 rfl (Nat.le_of_ble_eq_true rfl) (Nat.zero_le _) (Nat.zero_le _) dX6_hours_5) (fun x1 H locs hS h => ?_)
  refine lv_if_eq (tgt := 23) hx hb dX6_hours_8 (by decide) (fun c2 => ?_) (fun c2 => ?_)
  · have h := if_t h c2
    refine lv_iconst (v := (-1 : Int32)) hx hb dX6_hours_23 (by decide) ?_
    exact h_iretm Z hS dX6_hours_24 h
  · have h := if_f h c2
    refine lv_aload_n hx hb dX6_hours_11 rfl (lv_at hl 0 rfl) ?_
    refine h_getI Z hS cls_14 hi0 (by decide) rfl fl_X6_330_14 dX6_hours_12 h (fun x3 h => ?_)
    refine lv_iload_n hx hb dX6_hours_15 rfl (lv_at hl 1 rfl) ?_
    refine lv_iadd hx hb dX6_hours_16 ?_
    refine lv_sipush (v := (2000 : Int32)) hx hb dX6_hours_17 (by decide) ?_
    refine lv_icmp_le (tgt := 25) hx hb dX6_hours_20 (by decide) (fun c4 => ?_) (fun c4 => ?_)
    · have h := if_t h c4
      refine lv_iconst (v := (0 : Int32)) hx hb dX6_hours_25 (by decide) ?_
      refine lv_istore_n (lv' := [(2, .int (0 : Int32)), (0, .ref (ad 200)), (1, .int a1)]) hx hb dX6_hours_26 rfl hl (by decide) rfl (fun ls hl => ?_)
      refine w_X6_hours_L27 Z hi0 (fun σ7 H locs ls hS hl h => ?_) FU _ _ _ _ _ hS (lv_sub hl [1, 2, 0] rfl) h
      refine lv_aload_n hx hb dX6_hours_42 rfl (lv_at hl 0 rfl) ?_
      refine h_getI Z hS cls_14 hi0 (by decide) rfl fl_X6_330_14 dX6_hours_43 h (fun x8 h => ?_)
      exact h_iretm Z hS dX6_hours_46 h
    · have h := if_f h c4
      refine lv_iconst (v := (-1 : Int32)) hx hb dX6_hours_23 (by decide) ?_
      exact h_iretm Z hS dX6_hours_24 h
end
theorem dX6_hand_0 : decode cX6_hand 0 = .ok (.aload_n 0, 1) := by decide +kernel
theorem dX6_hand_1 : decode cX6_hand 1 = .ok (.iload_n 1, 1) := by decide +kernel
theorem dX6_hand_2 : decode cX6_hand 2 = .ok (.invokevirtual 168, 3) := by decide +kernel
theorem dX6_hand_5 : decode cX6_hand 5 = .ok (.ifCond .eq 12, 3) := by decide +kernel
theorem dX6_hand_8 : decode cX6_hand 8 = .ok (.iload_n 2, 1) := by decide +kernel
theorem dX6_hand_9 : decode cX6_hand 9 = .ok (.iconst 0, 1) := by decide +kernel
theorem dX6_hand_10 : decode cX6_hand 10 = .ok (.iconst 2, 1) := by decide +kernel
theorem dX6_hand_11 : decode cX6_hand 11 = .ok (.invokestatic 161, 3) := by decide +kernel
theorem dX6_hand_14 : decode cX6_hand 14 = .ok (.ifCond .ne 5, 3) := by decide +kernel
theorem dX6_hand_17 : decode cX6_hand 17 = .ok (.iconst 0, 1) := by decide +kernel
theorem dX6_hand_18 : decode cX6_hand 18 = .ok (.ireturn, 1) := by decide +kernel
theorem dX6_hand_19 : decode cX6_hand 19 = .ok (.iload_n 2, 1) := by decide +kernel
theorem dX6_hand_20 : decode cX6_hand 20 = .ok (.ifCond .ne 17, 3) := by decide +kernel
theorem dX6_hand_23 : decode cX6_hand 23 = .ok (.aload_n 0, 1) := by decide +kernel
theorem dX6_hand_24 : decode cX6_hand 24 = .ok (.iload_n 1, 1) := by decide +kernel
theorem dX6_hand_25 : decode cX6_hand 25 = .ok (.invokevirtual 322, 3) := by decide +kernel
theorem dX6_hand_28 : decode cX6_hand 28 = .ok (.aload_n 0, 1) := by decide +kernel
theorem dX6_hand_29 : decode cX6_hand 29 = .ok (.getfield 49, 3) := by decide +kernel
theorem dX6_hand_32 : decode cX6_hand 32 = .ok (.iload_n 1, 1) := by decide +kernel
theorem dX6_hand_33 : decode cX6_hand 33 = .ok (.iconst 0, 1) := by decide +kernel
theorem dX6_hand_34 : decode cX6_hand 34 = .ok (.iastore, 1) := by decide +kernel
theorem dX6_hand_35 : decode cX6_hand 35 = .ok (.iconst 1, 1) := by decide +kernel
theorem dX6_hand_36 : decode cX6_hand 36 = .ok (.ireturn, 1) := by decide +kernel
theorem dX6_hand_37 : decode cX6_hand 37 = .ok (.aload_n 0, 1) := by decide +kernel
theorem dX6_hand_38 : decode cX6_hand 38 = .ok (.getfield 49, 3) := by decide +kernel
theorem dX6_hand_41 : decode cX6_hand 41 = .ok (.iload_n 1, 1) := by decide +kernel
theorem dX6_hand_42 : decode cX6_hand 42 = .ok (.iaload, 1) := by decide +kernel
theorem dX6_hand_43 : decode cX6_hand 43 = .ok (.iconst 4, 1) := by decide +kernel
theorem dX6_hand_44 : decode cX6_hand 44 = .ok (.if_icmp .ne 7, 3) := by decide +kernel
theorem dX6_hand_47 : decode cX6_hand 47 = .ok (.iconst 1, 1) := by decide +kernel
theorem dX6_hand_48 : decode cX6_hand 48 = .ok (.goto 4, 3) := by decide +kernel
theorem dX6_hand_51 : decode cX6_hand 51 = .ok (.iconst 0, 1) := by decide +kernel
theorem dX6_hand_52 : decode cX6_hand 52 = .ok (.iload_n 2, 1) := by decide +kernel
theorem dX6_hand_53 : decode cX6_hand 53 = .ok (.iconst 2, 1) := by decide +kernel
theorem dX6_hand_54 : decode cX6_hand 54 = .ok (.if_icmp .ne 7, 3) := by decide +kernel
theorem dX6_hand_57 : decode cX6_hand 57 = .ok (.iconst 1, 1) := by decide +kernel
theorem dX6_hand_58 : decode cX6_hand 58 = .ok (.goto 4, 3) := by decide +kernel
theorem dX6_hand_61 : decode cX6_hand 61 = .ok (.iconst 0, 1) := by decide +kernel
theorem dX6_hand_62 : decode cX6_hand 62 = .ok (.if_icmp .eq 5, 3) := by decide +kernel
theorem dX6_hand_65 : decode cX6_hand 65 = .ok (.iconst 0, 1) := by decide +kernel
theorem dX6_hand_66 : decode cX6_hand 66 = .ok (.ireturn, 1) := by decide +kernel
theorem dX6_hand_67 : decode cX6_hand 67 = .ok (.aload_n 0, 1) := by decide +kernel
theorem dX6_hand_68 : decode cX6_hand 68 = .ok (.getfield 49, 3) := by decide +kernel
theorem dX6_hand_71 : decode cX6_hand 71 = .ok (.iload_n 1, 1) := by decide +kernel
theorem dX6_hand_72 : decode cX6_hand 72 = .ok (.iload_n 2, 1) := by decide +kernel
theorem dX6_hand_73 : decode cX6_hand 73 = .ok (.iconst 1, 1) := by decide +kernel
theorem dX6_hand_74 : decode cX6_hand 74 = .ok (.if_icmp .ne 7, 3) := by decide +kernel
theorem dX6_hand_77 : decode cX6_hand 77 = .ok (.iconst 4, 1) := by decide +kernel
theorem dX6_hand_78 : decode cX6_hand 78 = .ok (.goto 4, 3) := by decide +kernel
theorem dX6_hand_81 : decode cX6_hand 81 = .ok (.iconst 0, 1) := by decide +kernel
theorem dX6_hand_82 : decode cX6_hand 82 = .ok (.iastore, 1) := by decide +kernel
theorem dX6_hand_83 : decode cX6_hand 83 = .ok (.iconst 1, 1) := by decide +kernel
theorem dX6_hand_84 : decode cX6_hand 84 = .ok (.ireturn, 1) := by decide +kernel
abbrev rm_X6_hand : Room := k2_rm 2 43
section
variable {p : Program} {l : Launch} {e : Env} {s : State} {m : MethodId} {args : Array Value} {below : List Frame} {meth : Method} {c : Code} {D : gD} {A : Nat → Prop} {ad : Nat → Nat} {S : Nat → Nat × Nat} {σ : Mem}
set_option maxRecDepth 100000 in
set_option maxHeartbeats 4000000 in
theorem w_X6_hand {a1 : Int32} {a2 : Int32} (hi0 : S 200 = (24, 0)) {r : (Mem × Int32)} (h : f_X6_hand σ a1 a2 = some r) : Met l yX6_hand (ws_ yX6_hand cX6_hand 3 (some .boolean)) rm_X6_hand (va_Pc [.ref (ad 200), .int a1, .int a2] (PreG D (Ew D A) A ad S σ)) (QG D A ad S (some (.int r.2)) r.1) 0 0 A := by
  refine y_met (by decide) (Nat.le_of_ble_eq_true rfl) (fun p e s m below meth c ls Z hS hl => ?_)
  have hx := Z.1
  have hb := Z.2.1
  have hown := Z.2.2.2.2.2.1
  have hts := Z.2.2.2.2.2.2.1
  unfold f_X6_hand at h
  refine lv_aload_n hx hb dX6_hand_0 rfl (lv_at hl 0 rfl) ?_
  refine lv_iload_n hx hb dX6_hand_1 rfl (lv_at hl 1 rfl) ?_
  refine h_ci hS h (fun z hz => h_rV (rest := []) Z hS hi0 rfl v_X6_168 (w_X6_isFilter hi0 hz) rfl rfl ⟨by decide, by decide⟩ rfl hl.1 rfl (Nat.le_of_ble_eq_true rfl) (Nat.zero_le _) (Nat.zero_le _) dX6_hand_2) (fun x1 H locs hS h => ?_)
  refine lv_if_eq (tgt := 17) hx hb dX6_hand_5 (by decide) (fun c2 => ?_) (fun c2 => ?_)
  · have h := if_t h c2
    refine lv_iconst (v := (0 : Int32)) hx hb dX6_hand_17 (by decide) ?_
    exact h_zretm Z hS dX6_hand_18 h
  · have h := if_f h c2
    refine lv_iload_n hx hb dX6_hand_8 rfl (lv_at hl 2 rfl) ?_
    refine lv_iconst (v := (0 : Int32)) hx hb dX6_hand_9 (by decide) ?_
    refine lv_iconst (v := (2 : Int32)) hx hb dX6_hand_10 (by decide) ?_
    refine h_ci hS h (fun z hz => h_rS (rest := []) Z hS v_X6_161 (w_X6_in hz) rfl rfl ⟨by decide, by decide⟩ rfl hl.1 rfl (Nat.le_of_ble_eq_true rfl) (Nat.zero_le _) (Nat.zero_le _) dX6_hand_11) (fun x3 H locs hS h => ?_)
    refine lv_if_ne (tgt := 19) hx hb dX6_hand_14 (by decide) (fun c4 => ?_) (fun c4 => ?_)
    · have h := if_f h c4
      refine lv_iload_n hx hb dX6_hand_19 rfl (lv_at hl 2 rfl) ?_
      refine lv_if_ne (tgt := 37) hx hb dX6_hand_20 (by decide) (fun c5 => ?_) (fun c5 => ?_)
      · have h := if_f h c5
        refine lv_aload_n hx hb dX6_hand_37 rfl (lv_at hl 0 rfl) ?_
        refine h_getC (n := 16) (j := 216) (sh := (1, 9)) Z hS cls_14 hi0 (by decide) rfl rfl rfl fl_X6_49_14 dX6_hand_38 (fun hc9 => ?_)
        refine lv_iload_n hx hb dX6_hand_41 rfl (lv_at hl 1 rfl) ?_
        refine h_iald Z hS hc9 dX6_hand_42 h (fun x10 h => ?_)
        refine lv_iconst (v := (4 : Int32)) hx hb dX6_hand_43 (by decide) ?_
        obtain ⟨x12, hp13, h⟩ := bnd_el h
        have K13 : ∀ (H : Heap) (locs : List Loc) (ls : Array Slot), St D A ad S σ s.heap H locs → lv_has ls 3 [(0, .ref (ad 200)), (1, .int a1), (2, .int a2)] → W p l e rm_X6_hand s m ([.ref (ad 200), .int a1, .int a2] : List Value).toArray below meth c H locs 0 0 (MQ below (QG D A ad S (some (.int r.2)) r.1) ([.ref (ad 200), .int a1, .int a2] : List Value).toArray s 0 0 A) (F0 m 52 ls [.int x12]) := by
          intro H locs ls hS hl
          refine lv_iload_n hx hb dX6_hand_52 rfl (lv_at hl 2 rfl) ?_
          refine lv_iconst (v := (2 : Int32)) hx hb dX6_hand_53 (by decide) ?_
          obtain ⟨x15, hp16, h⟩ := bnd_el h
          have K16 : ∀ (H : Heap) (locs : List Loc) (ls : Array Slot), St D A ad S σ s.heap H locs → lv_has ls 3 [(0, .ref (ad 200)), (1, .int a1), (2, .int a2)] → W p l e rm_X6_hand s m ([.ref (ad 200), .int a1, .int a2] : List Value).toArray below meth c H locs 0 0 (MQ below (QG D A ad S (some (.int r.2)) r.1) ([.ref (ad 200), .int a1, .int a2] : List Value).toArray s 0 0 A) (F0 m 62 ls [.int x15, .int x12]) := by
            intro H locs ls hS hl
            refine lv_icmp_eq (tgt := 67) hx hb dX6_hand_62 (by decide) (fun c17 => ?_) (fun c17 => ?_)
            · have h := if_t h c17
              refine lv_aload_n hx hb dX6_hand_67 rfl (lv_at hl 0 rfl) ?_
              refine h_getC (n := 16) (j := 216) (sh := (1, 9)) Z hS cls_14 hi0 (by decide) rfl rfl rfl fl_X6_49_14 dX6_hand_68 (fun hc18 => ?_)
              refine lv_iload_n hx hb dX6_hand_71 rfl (lv_at hl 1 rfl) ?_
              refine lv_iload_n hx hb dX6_hand_72 rfl (lv_at hl 2 rfl) ?_
              refine lv_iconst (v := (1 : Int32)) hx hb dX6_hand_73 (by decide) ?_
              refine lv_icmp_ne (tgt := 81) hx hb dX6_hand_74 (by decide) (fun c19 => ?_) (fun c19 => ?_)
              · have h := if_f h c19
                refine lv_iconst (v := (0 : Int32)) hx hb dX6_hand_81 (by decide) ?_
                refine h_iast Z hS hc18 dX6_hand_82 h (fun σ21 H locs hS h => ?_)
                refine lv_iconst (v := (1 : Int32)) hx hb dX6_hand_83 (by decide) ?_
                exact h_zretm Z hS dX6_hand_84 h
              · have h := if_t h c19
                refine lv_iconst (v := (4 : Int32)) hx hb dX6_hand_77 (by decide) ?_
                refine lv_goto (tgt := 82) hx hb dX6_hand_78 (by decide) ?_
                refine h_iast Z hS hc18 dX6_hand_82 h (fun σ20 H locs hS h => ?_)
                refine lv_iconst (v := (1 : Int32)) hx hb dX6_hand_83 (by decide) ?_
                exact h_zretm Z hS dX6_hand_84 h
            · have h := if_f h c17
              refine lv_iconst (v := (0 : Int32)) hx hb dX6_hand_65 (by decide) ?_
              exact h_zretm Z hS dX6_hand_66 h
          clear h
          have h := hp16
          clear hp16
          refine lv_icmp_ne (tgt := 61) hx hb dX6_hand_54 (by decide) (fun c14 => ?_) (fun c14 => ?_)
          · have h := if_f h c14
            refine lv_iconst (v := (0 : Int32)) hx hb dX6_hand_61 (by decide) ?_
            cases h
            exact K16 _ _ _ hS (lv_sub hl [0, 1, 2] rfl)
          · have h := if_t h c14
            refine lv_iconst (v := (1 : Int32)) hx hb dX6_hand_57 (by decide) ?_
            refine lv_goto (tgt := 62) hx hb dX6_hand_58 (by decide) ?_
            cases h
            exact K16 _ _ _ hS (lv_sub hl [0, 1, 2] rfl)
        clear h
        have h := hp13
        clear hp13
        refine lv_icmp_ne (tgt := 51) hx hb dX6_hand_44 (by decide) (fun c11 => ?_) (fun c11 => ?_)
        · have h := if_f h c11
          refine lv_iconst (v := (0 : Int32)) hx hb dX6_hand_51 (by decide) ?_
          cases h
          exact K13 _ _ _ hS (lv_sub hl [0, 1, 2] rfl)
        · have h := if_t h c11
          refine lv_iconst (v := (1 : Int32)) hx hb dX6_hand_47 (by decide) ?_
          refine lv_goto (tgt := 52) hx hb dX6_hand_48 (by decide) ?_
          cases h
          exact K13 _ _ _ hS (lv_sub hl [0, 1, 2] rfl)
      · have h := if_t h c5
        refine lv_aload_n hx hb dX6_hand_23 rfl (lv_at hl 0 rfl) ?_
        refine lv_iload_n hx hb dX6_hand_24 rfl (lv_at hl 1 rfl) ?_
        refine h_cm hS h (fun z hz => h_rV (rest := []) Z hS hi0 rfl v_X6_322 (w_X6_change hi0 hz) rfl rfl ⟨by decide, by decide⟩ rfl hl.1 rfl (Nat.le_of_ble_eq_true rfl) (Nat.zero_le _) (Nat.zero_le _) dX6_hand_25) (fun σ6 H locs hS h => ?_)
        refine lv_aload_n hx hb dX6_hand_28 rfl (lv_at hl 0 rfl) ?_
        refine h_getC (n := 16) (j := 216) (sh := (1, 9)) Z hS cls_14 hi0 (by decide) rfl rfl rfl fl_X6_49_14 dX6_hand_29 (fun hc7 => ?_)
        refine lv_iload_n hx hb dX6_hand_32 rfl (lv_at hl 1 rfl) ?_
        refine lv_iconst (v := (0 : Int32)) hx hb dX6_hand_33 (by decide) ?_
        refine h_iast Z hS hc7 dX6_hand_34 h (fun σ8 H locs hS h => ?_)
        refine lv_iconst (v := (1 : Int32)) hx hb dX6_hand_35 (by decide) ?_
        exact h_zretm Z hS dX6_hand_36 h
    · have h := if_t h c4
      refine lv_iconst (v := (0 : Int32)) hx hb dX6_hand_17 (by decide) ?_
      exact h_zretm Z hS dX6_hand_18 h
end
theorem dX6_history_0 : decode cX6_history 0 = .ok (.iload_n 1, 1) := by decide +kernel
theorem dX6_history_1 : decode cX6_history 1 = .ok (.iconst 1, 1) := by decide +kernel
theorem dX6_history_2 : decode cX6_history 2 = .ok (.aload_n 0, 1) := by decide +kernel
theorem dX6_history_3 : decode cX6_history 3 = .ok (.getfield 330, 3) := by decide +kernel
theorem dX6_history_6 : decode cX6_history 6 = .ok (.invokestatic 161, 3) := by decide +kernel
theorem dX6_history_9 : decode cX6_history 9 = .ok (.ifCond .eq 40, 3) := by decide +kernel
theorem dX6_history_12 : decode cX6_history 12 = .ok (.iload_n 2, 1) := by decide +kernel
theorem dX6_history_13 : decode cX6_history 13 = .ok (.iconst 0, 1) := by decide +kernel
theorem dX6_history_14 : decode cX6_history 14 = .ok (.bipush 7, 2) := by decide +kernel
theorem dX6_history_16 : decode cX6_history 16 = .ok (.invokestatic 161, 3) := by decide +kernel
theorem dX6_history_19 : decode cX6_history 19 = .ok (.ifCond .eq 30, 3) := by decide +kernel
theorem dX6_history_22 : decode cX6_history 22 = .ok (.iload_n 3, 1) := by decide +kernel
theorem dX6_history_23 : decode cX6_history 23 = .ok (.iconst 0, 1) := by decide +kernel
theorem dX6_history_24 : decode cX6_history 24 = .ok (.iconst 2, 1) := by decide +kernel
theorem dX6_history_25 : decode cX6_history 25 = .ok (.invokestatic 161, 3) := by decide +kernel
theorem dX6_history_28 : decode cX6_history 28 = .ok (.ifCond .eq 21, 3) := by decide +kernel
theorem dX6_history_31 : decode cX6_history 31 = .ok (.aload_n 0, 1) := by decide +kernel
theorem dX6_history_32 : decode cX6_history 32 = .ok (.getfield 99, 3) := by decide +kernel
theorem dX6_history_35 : decode cX6_history 35 = .ok (.iconst 3, 1) := by decide +kernel
theorem dX6_history_36 : decode cX6_history 36 = .ok (.bipush 8, 2) := by decide +kernel
theorem dX6_history_38 : decode cX6_history 38 = .ok (.iload_n 1, 1) := by decide +kernel
theorem dX6_history_39 : decode cX6_history 39 = .ok (.imul, 1) := by decide +kernel
theorem dX6_history_40 : decode cX6_history 40 = .ok (.iload_n 2, 1) := by decide +kernel
theorem dX6_history_41 : decode cX6_history 41 = .ok (.iadd, 1) := by decide +kernel
theorem dX6_history_42 : decode cX6_history 42 = .ok (.imul, 1) := by decide +kernel
theorem dX6_history_43 : decode cX6_history 43 = .ok (.iload_n 3, 1) := by decide +kernel
theorem dX6_history_44 : decode cX6_history 44 = .ok (.iadd, 1) := by decide +kernel
theorem dX6_history_45 : decode cX6_history 45 = .ok (.iaload, 1) := by decide +kernel
theorem dX6_history_46 : decode cX6_history 46 = .ok (.goto 4, 3) := by decide +kernel
theorem dX6_history_49 : decode cX6_history 49 = .ok (.iconst (-1), 1) := by decide +kernel
theorem dX6_history_50 : decode cX6_history 50 = .ok (.ireturn, 1) := by decide +kernel
abbrev rm_X6_history : Room := k2_rm 1 22
section
variable {p : Program} {l : Launch} {e : Env} {s : State} {m : MethodId} {args : Array Value} {below : List Frame} {meth : Method} {c : Code} {D : gD} {A : Nat → Prop} {ad : Nat → Nat} {S : Nat → Nat × Nat} {σ : Mem}
set_option maxRecDepth 100000 in
set_option maxHeartbeats 4000000 in
theorem w_X6_history {a1 : Int32} {a2 : Int32} {a3 : Int32} (hi0 : S 200 = (24, 0)) {r : Int32} (h : f_X6_history σ a1 a2 a3 = some r) : Met l yX6_history (ws_ yX6_history cX6_history 4 (some .int)) rm_X6_history (va_Pc [.ref (ad 200), .int a1, .int a2, .int a3] (PreG D (Ew D A) A ad S σ)) (QG D A ad S (some (.int r)) σ) 0 0 A := by
  refine y_met (by decide) (Nat.le_of_ble_eq_true rfl) (fun p e s m below meth c ls Z hS hl => ?_)
  have hx := Z.1
  have hb := Z.2.1
  have hown := Z.2.2.2.2.2.1
  have hts := Z.2.2.2.2.2.2.1
  unfold f_X6_history at h
  refine lv_iload_n hx hb dX6_history_0 rfl (lv_at hl 1 rfl) ?_
  refine lv_iconst (v := (1 : Int32)) hx hb dX6_history_1 (by decide) ?_
  refine lv_aload_n hx hb dX6_history_2 rfl (lv_at hl 0 rfl) ?_
  refine h_getI Z hS cls_14 hi0 (by decide) rfl fl_X6_330_14 dX6_history_3 h (fun x1 h => ?_)
  refine h_ci hS h (fun z hz => h_rS (rest := []) Z hS v_X6_161 (w_X6_in hz) rfl rfl ⟨by decide, by decide⟩ rfl hl.1 rfl (Nat.le_of_ble_eq_true rfl) (Nat.zero_le _) (Nat.zero_le _) dX6_history_6) (fun x2 H locs hS h => ?_)
  refine lv_if_eq (tgt := 49) hx hb dX6_history_9 (by decide) (fun c3 => ?_) (fun c3 => ?_)
  · have h := if_t h c3
    refine lv_iconst (v := (-1 : Int32)) hx hb dX6_history_49 (by decide) ?_
    exact h_iret Z hS dX6_history_50 h
  · have h := if_f h c3
    refine lv_iload_n hx hb dX6_history_12 rfl (lv_at hl 2 rfl) ?_
    refine lv_iconst (v := (0 : Int32)) hx hb dX6_history_13 (by decide) ?_
    refine lv_bipush (v := (7 : Int32)) hx hb dX6_history_14 (by decide) ?_
    refine h_ci hS h (fun z hz => h_rS (rest := []) Z hS v_X6_161 (w_X6_in hz) rfl rfl ⟨by decide, by decide⟩ rfl hl.1 rfl (Nat.le_of_ble_eq_true rfl) (Nat.zero_le _) (Nat.zero_le _) dX6_history_16) (fun x4 H locs hS h => ?_)
    refine lv_if_eq (tgt := 49) hx hb dX6_history_19 (by decide) (fun c5 => ?_) (fun c5 => ?_)
    · have h := if_t h c5
      refine lv_iconst (v := (-1 : Int32)) hx hb dX6_history_49 (by decide) ?_
      exact h_iret Z hS dX6_history_50 h
    · have h := if_f h c5
      refine lv_iload_n hx hb dX6_history_22 rfl (lv_at hl 3 rfl) ?_
      refine lv_iconst (v := (0 : Int32)) hx hb dX6_history_23 (by decide) ?_
      refine lv_iconst (v := (2 : Int32)) hx hb dX6_history_24 (by decide) ?_
      refine h_ci hS h (fun z hz => h_rS (rest := []) Z hS v_X6_161 (w_X6_in hz) rfl rfl ⟨by decide, by decide⟩ rfl hl.1 rfl (Nat.le_of_ble_eq_true rfl) (Nat.zero_le _) (Nat.zero_le _) dX6_history_25) (fun x6 H locs hS h => ?_)
      refine lv_if_eq (tgt := 49) hx hb dX6_history_28 (by decide) (fun c7 => ?_) (fun c7 => ?_)
      · have h := if_t h c7
        refine lv_iconst (v := (-1 : Int32)) hx hb dX6_history_49 (by decide) ?_
        exact h_iret Z hS dX6_history_50 h
      · have h := if_f h c7
        refine lv_aload_n hx hb dX6_history_31 rfl (lv_at hl 0 rfl) ?_
        refine h_getC (n := 40) (j := 240) (sh := (1, 48024)) Z hS cls_14 hi0 (by decide) rfl rfl rfl fl_X6_99_14 dX6_history_32 (fun hc8 => ?_)
        refine lv_iconst (v := (3 : Int32)) hx hb dX6_history_35 (by decide) ?_
        refine lv_bipush (v := (8 : Int32)) hx hb dX6_history_36 (by decide) ?_
        refine lv_iload_n hx hb dX6_history_38 rfl (lv_at hl 1 rfl) ?_
        refine lv_imul hx hb dX6_history_39 ?_
        refine lv_iload_n hx hb dX6_history_40 rfl (lv_at hl 2 rfl) ?_
        refine lv_iadd hx hb dX6_history_41 ?_
        refine lv_imul hx hb dX6_history_42 ?_
        refine lv_iload_n hx hb dX6_history_43 rfl (lv_at hl 3 rfl) ?_
        refine lv_iadd hx hb dX6_history_44 ?_
        refine h_iald Z hS hc8 dX6_history_45 h (fun x9 h => ?_)
        refine lv_goto (tgt := 50) hx hb dX6_history_46 (by decide) ?_
        exact h_iret Z hS dX6_history_50 h
end
theorem dX6_breaks_0 : decode cX6_breaks 0 = .ok (.iload_n 1, 1) := by decide +kernel
theorem dX6_breaks_1 : decode cX6_breaks 1 = .ok (.iconst 0, 1) := by decide +kernel
theorem dX6_breaks_2 : decode cX6_breaks 2 = .ok (.bipush 7, 2) := by decide +kernel
theorem dX6_breaks_4 : decode cX6_breaks 4 = .ok (.invokestatic 161, 3) := by decide +kernel
theorem dX6_breaks_7 : decode cX6_breaks 7 = .ok (.ifCond .eq 7, 3) := by decide +kernel
theorem dX6_breaks_10 : decode cX6_breaks 10 = .ok (.iload_n 2, 1) := by decide +kernel
theorem dX6_breaks_11 : decode cX6_breaks 11 = .ok (.ifCond .ge 5, 3) := by decide +kernel
theorem dX6_breaks_14 : decode cX6_breaks 14 = .ok (.iconst (-1), 1) := by decide +kernel
theorem dX6_breaks_15 : decode cX6_breaks 15 = .ok (.ireturn, 1) := by decide +kernel
theorem dX6_breaks_16 : decode cX6_breaks 16 = .ok (.iconst 1, 1) := by decide +kernel
theorem dX6_breaks_17 : decode cX6_breaks 17 = .ok (.istore_n 3, 1) := by decide +kernel
theorem dX6_breaks_18 : decode cX6_breaks 18 = .ok (.iload_n 3, 1) := by decide +kernel
theorem dX6_breaks_19 : decode cX6_breaks 19 = .ok (.aload_n 0, 1) := by decide +kernel
theorem dX6_breaks_20 : decode cX6_breaks 20 = .ok (.getfield 330, 3) := by decide +kernel
theorem dX6_breaks_23 : decode cX6_breaks 23 = .ok (.if_icmp .gt 74, 3) := by decide +kernel
theorem dX6_breaks_26 : decode cX6_breaks 26 = .ok (.iconst 0, 1) := by decide +kernel
theorem dX6_breaks_27 : decode cX6_breaks 27 = .ok (.istore 4, 2) := by decide +kernel
theorem dX6_breaks_29 : decode cX6_breaks 29 = .ok (.iload_n 1, 1) := by decide +kernel
theorem dX6_breaks_30 : decode cX6_breaks 30 = .ok (.istore 5, 2) := by decide +kernel
theorem dX6_breaks_32 : decode cX6_breaks 32 = .ok (.iload 5, 2) := by decide +kernel
theorem dX6_breaks_34 : decode cX6_breaks 34 = .ok (.bipush 8, 2) := by decide +kernel
theorem dX6_breaks_36 : decode cX6_breaks 36 = .ok (.if_icmp .ge 47, 3) := by decide +kernel
theorem dX6_breaks_39 : decode cX6_breaks 39 = .ok (.iload 4, 2) := by decide +kernel
theorem dX6_breaks_41 : decode cX6_breaks 41 = .ok (.aload_n 0, 1) := by decide +kernel
theorem dX6_breaks_42 : decode cX6_breaks 42 = .ok (.getfield 99, 3) := by decide +kernel
theorem dX6_breaks_45 : decode cX6_breaks 45 = .ok (.iconst 3, 1) := by decide +kernel
theorem dX6_breaks_46 : decode cX6_breaks 46 = .ok (.bipush 8, 2) := by decide +kernel
theorem dX6_breaks_48 : decode cX6_breaks 48 = .ok (.iload_n 3, 1) := by decide +kernel
theorem dX6_breaks_49 : decode cX6_breaks 49 = .ok (.imul, 1) := by decide +kernel
theorem dX6_breaks_50 : decode cX6_breaks 50 = .ok (.iload 5, 2) := by decide +kernel
theorem dX6_breaks_52 : decode cX6_breaks 52 = .ok (.iadd, 1) := by decide +kernel
theorem dX6_breaks_53 : decode cX6_breaks 53 = .ok (.imul, 1) := by decide +kernel
theorem dX6_breaks_54 : decode cX6_breaks 54 = .ok (.iconst 1, 1) := by decide +kernel
theorem dX6_breaks_55 : decode cX6_breaks 55 = .ok (.iadd, 1) := by decide +kernel
theorem dX6_breaks_56 : decode cX6_breaks 56 = .ok (.iaload, 1) := by decide +kernel
theorem dX6_breaks_57 : decode cX6_breaks 57 = .ok (.aload_n 0, 1) := by decide +kernel
theorem dX6_breaks_58 : decode cX6_breaks 58 = .ok (.getfield 99, 3) := by decide +kernel
theorem dX6_breaks_61 : decode cX6_breaks 61 = .ok (.iconst 3, 1) := by decide +kernel
theorem dX6_breaks_62 : decode cX6_breaks 62 = .ok (.bipush 8, 2) := by decide +kernel
theorem dX6_breaks_64 : decode cX6_breaks 64 = .ok (.iload_n 3, 1) := by decide +kernel
theorem dX6_breaks_65 : decode cX6_breaks 65 = .ok (.imul, 1) := by decide +kernel
theorem dX6_breaks_66 : decode cX6_breaks 66 = .ok (.iload 5, 2) := by decide +kernel
theorem dX6_breaks_68 : decode cX6_breaks 68 = .ok (.iadd, 1) := by decide +kernel
theorem dX6_breaks_69 : decode cX6_breaks 69 = .ok (.imul, 1) := by decide +kernel
theorem dX6_breaks_70 : decode cX6_breaks 70 = .ok (.iconst 2, 1) := by decide +kernel
theorem dX6_breaks_71 : decode cX6_breaks 71 = .ok (.iadd, 1) := by decide +kernel
theorem dX6_breaks_72 : decode cX6_breaks 72 = .ok (.iaload, 1) := by decide +kernel
theorem dX6_breaks_73 : decode cX6_breaks 73 = .ok (.iadd, 1) := by decide +kernel
theorem dX6_breaks_74 : decode cX6_breaks 74 = .ok (.iadd, 1) := by decide +kernel
theorem dX6_breaks_75 : decode cX6_breaks 75 = .ok (.istore 4, 2) := by decide +kernel
theorem dX6_breaks_77 : decode cX6_breaks 77 = .ok (.iinc 5 1, 3) := by decide +kernel
theorem dX6_breaks_80 : decode cX6_breaks 80 = .ok (.goto (-48), 3) := by decide +kernel
theorem dX6_breaks_83 : decode cX6_breaks 83 = .ok (.iload 4, 2) := by decide +kernel
theorem dX6_breaks_85 : decode cX6_breaks 85 = .ok (.iload_n 2, 1) := by decide +kernel
theorem dX6_breaks_86 : decode cX6_breaks 86 = .ok (.if_icmp .le 5, 3) := by decide +kernel
theorem dX6_breaks_89 : decode cX6_breaks 89 = .ok (.iload_n 3, 1) := by decide +kernel
theorem dX6_breaks_90 : decode cX6_breaks 90 = .ok (.ireturn, 1) := by decide +kernel
theorem dX6_breaks_91 : decode cX6_breaks 91 = .ok (.iinc 3 1, 3) := by decide +kernel
theorem dX6_breaks_94 : decode cX6_breaks 94 = .ok (.goto (-76), 3) := by decide +kernel
theorem dX6_breaks_97 : decode cX6_breaks 97 = .ok (.iconst (-1), 1) := by decide +kernel
theorem dX6_breaks_98 : decode cX6_breaks 98 = .ok (.ireturn, 1) := by decide +kernel
abbrev rm_X6_breaks : Room := k2_rm 1 22
section
variable {p : Program} {l : Launch} {e : Env} {s : State} {m : MethodId} {args : Array Value} {below : List Frame} {meth : Method} {c : Code} {D : gD} {A : Nat → Prop} {ad : Nat → Nat} {S : Nat → Nat × Nat} {σ : Mem}
set_option maxRecDepth 100000 in
set_option maxHeartbeats 4000000 in
theorem w_X6_breaks_L32 (Z : Cz D (Ew D A) A cX6_breaks 6 (some .int) RX6 p s m args meth c) {u1 : Int32} {u2 : Int32} {u3 : Int32} (hu0 : S 200 = (24, 0)) {r : Int32} {k83 : Int32 → Option Int32}
    (hk83 : ∀ (w4 : Int32) (H : Heap) (locs : List Loc) (ls : Array Slot), St D A ad S σ s.heap H locs → lv_has ls 6 [(0, .ref (ad 200)), (1, .int u1), (2, .int u2), (3, .int u3), (4, .int w4)] → k83 w4 = some r → W p l e rm_X6_breaks s m args below meth c H locs 0 0 (MQ below (QG D A ad S (some (.int r)) σ) args s 0 0 A) (F0 m 83 ls [])) :
    ∀ (n : Nat) (v4 : Int32) (v5 : Int32) (H : Heap) (locs : List Loc) (ls : Array Slot), St D A ad S σ s.heap H locs → lv_has ls 6 [(0, .ref (ad 200)), (1, .int u1), (2, .int u2), (3, .int u3), (4, .int v4), (5, .int v5)] → f_X6_breaks_L32 k83 σ u1 u2 u3 n v4 v5 = some r → W p l e rm_X6_breaks s m args below meth c H locs 0 0 (MQ below (QG D A ad S (some (.int r)) σ) args s 0 0 A) (F0 m 32 ls []) := by
  have hx := Z.1
  have hb := Z.2.1
  have hown := Z.2.2.2.2.2.1
  have hts := Z.2.2.2.2.2.2.1
  intro n
  induction n with
  | zero => intro v4 v5 H locs ls hS hl h; cases h
  | succ n ih =>
    intro v4 v5 H locs ls hS hl h
    unfold f_X6_breaks_L32 at h
    refine lv_iload hx hb dX6_breaks_32 (lv_at hl 5 rfl) ?_
    refine lv_bipush (v := (8 : Int32)) hx hb dX6_breaks_34 (by decide) ?_
    refine lv_icmp_ge (tgt := 83) hx hb dX6_breaks_36 (by decide) (fun c6 => ?_) (fun c6 => ?_)
    · have h := if_t h c6
      exact hk83 _ _ _ _ hS (lv_sub hl [0, 1, 2, 3, 4] rfl) h
    · have h := if_f h c6
      refine lv_iload hx hb dX6_breaks_39 (lv_at hl 4 rfl) ?_
      refine lv_aload_n hx hb dX6_breaks_41 rfl (lv_at hl 0 rfl) ?_
      refine h_getC (n := 40) (j := 240) (sh := (1, 48024)) Z hS cls_14 hu0 (by decide) rfl rfl rfl fl_X6_99_14 dX6_breaks_42 (fun hc7 => ?_)
      refine lv_iconst (v := (3 : Int32)) hx hb dX6_breaks_45 (by decide) ?_
      refine lv_bipush (v := (8 : Int32)) hx hb dX6_breaks_46 (by decide) ?_
      refine lv_iload_n hx hb dX6_breaks_48 rfl (lv_at hl 3 rfl) ?_
      refine lv_imul hx hb dX6_breaks_49 ?_
      refine lv_iload hx hb dX6_breaks_50 (lv_at hl 5 rfl) ?_
      refine lv_iadd hx hb dX6_breaks_52 ?_
      refine lv_imul hx hb dX6_breaks_53 ?_
      refine lv_iconst (v := (1 : Int32)) hx hb dX6_breaks_54 (by decide) ?_
      refine lv_iadd hx hb dX6_breaks_55 ?_
      refine h_iald Z hS hc7 dX6_breaks_56 h (fun x8 h => ?_)
      refine lv_aload_n hx hb dX6_breaks_57 rfl (lv_at hl 0 rfl) ?_
      refine h_getC (n := 40) (j := 240) (sh := (1, 48024)) Z hS cls_14 hu0 (by decide) rfl rfl rfl fl_X6_99_14 dX6_breaks_58 (fun hc9 => ?_)
      refine lv_iconst (v := (3 : Int32)) hx hb dX6_breaks_61 (by decide) ?_
      refine lv_bipush (v := (8 : Int32)) hx hb dX6_breaks_62 (by decide) ?_
      refine lv_iload_n hx hb dX6_breaks_64 rfl (lv_at hl 3 rfl) ?_
      refine lv_imul hx hb dX6_breaks_65 ?_
      refine lv_iload hx hb dX6_breaks_66 (lv_at hl 5 rfl) ?_
      refine lv_iadd hx hb dX6_breaks_68 ?_
      refine lv_imul hx hb dX6_breaks_69 ?_
      refine lv_iconst (v := (2 : Int32)) hx hb dX6_breaks_70 (by decide) ?_
      refine lv_iadd hx hb dX6_breaks_71 ?_
      refine h_iald Z hS hc9 dX6_breaks_72 h (fun x10 h => ?_)
      refine lv_iadd hx hb dX6_breaks_73 ?_
      refine lv_iadd hx hb dX6_breaks_74 ?_
      refine h_leti h (fun x11 h => ?_)
      refine lv_istore (lv' := [(4, .int x11), (0, .ref (ad 200)), (1, .int u1), (2, .int u2), (3, .int u3), (5, .int v5)]) hx hb dX6_breaks_75 hl (by decide) rfl (fun ls hl => ?_)
      refine lv_iinc (v := (v5 + (1 : Int32))) (lv' := [(5, .int (v5 + (1 : Int32))), (4, .int x11), (0, .ref (ad 200)), (1, .int u1), (2, .int u2), (3, .int u3)]) hx hb dX6_breaks_77 hl (k := 5) rfl rfl (by decide) rfl (fun ls hl => ?_)
      refine lv_goto (tgt := 32) hx hb dX6_breaks_80 (by decide) ?_
      exact ih _ _ _ _ _ hS (lv_sub hl [2, 3, 4, 5, 1, 0] rfl) h
set_option maxRecDepth 100000 in
set_option maxHeartbeats 4000000 in
theorem w_X6_breaks_L18 (Z : Cz D (Ew D A) A cX6_breaks 6 (some .int) RX6 p s m args meth c) {u1 : Int32} {u2 : Int32} (hu0 : S 200 = (24, 0)) {r : Int32} {k89 : Int32 → Option Int32} {k97 : Option Int32}
    (hk89 : ∀ (w3 : Int32) (H : Heap) (locs : List Loc) (ls : Array Slot), St D A ad S σ s.heap H locs → lv_has ls 6 [(3, .int w3)] → k89 w3 = some r → W p l e rm_X6_breaks s m args below meth c H locs 0 0 (MQ below (QG D A ad S (some (.int r)) σ) args s 0 0 A) (F0 m 89 ls []))
    (hk97 : ∀  (H : Heap) (locs : List Loc) (ls : Array Slot), St D A ad S σ s.heap H locs → lv_has ls 6 [] → k97 = some r → W p l e rm_X6_breaks s m args below meth c H locs 0 0 (MQ below (QG D A ad S (some (.int r)) σ) args s 0 0 A) (F0 m 97 ls [])) :
    ∀ (n : Nat) (v3 : Int32) (H : Heap) (locs : List Loc) (ls : Array Slot), St D A ad S σ s.heap H locs → lv_has ls 6 [(0, .ref (ad 200)), (1, .int u1), (2, .int u2), (3, .int v3)] → f_X6_breaks_L18 k89 k97 σ u1 u2 n v3 = some r → W p l e rm_X6_breaks s m args below meth c H locs 0 0 (MQ below (QG D A ad S (some (.int r)) σ) args s 0 0 A) (F0 m 18 ls []) := by
  have hx := Z.1
  have hb := Z.2.1
  have hown := Z.2.2.2.2.2.1
  have hts := Z.2.2.2.2.2.2.1
  intro n
  induction n with
  | zero => intro v3 H locs ls hS hl h; cases h
  | succ n ih =>
    intro v3 H locs ls hS hl h
    unfold f_X6_breaks_L18 at h
    refine lv_iload_n hx hb dX6_breaks_18 rfl (lv_at hl 3 rfl) ?_
    refine lv_aload_n hx hb dX6_breaks_19 rfl (lv_at hl 0 rfl) ?_
    refine h_getI Z hS cls_14 hu0 (by decide) rfl fl_X6_330_14 dX6_breaks_20 h (fun x4 h => ?_)
    refine lv_icmp_gt (tgt := 97) hx hb dX6_breaks_23 (by decide) (fun c5 => ?_) (fun c5 => ?_)
    · have h := if_t h c5
      exact hk97  _ _ _ hS (lv_sub hl [] rfl) h
    · have h := if_f h c5
      refine lv_iconst (v := (0 : Int32)) hx hb dX6_breaks_26 (by decide) ?_
      refine lv_istore (lv' := [(4, .int (0 : Int32)), (0, .ref (ad 200)), (1, .int u1), (2, .int u2), (3, .int v3)]) hx hb dX6_breaks_27 hl (by decide) rfl (fun ls hl => ?_)
      refine lv_iload_n hx hb dX6_breaks_29 rfl (lv_at hl 2 rfl) ?_
      refine lv_istore (lv' := [(5, .int u1), (4, .int (0 : Int32)), (0, .ref (ad 200)), (1, .int u1), (2, .int u2), (3, .int v3)]) hx hb dX6_breaks_30 hl (by decide) rfl (fun ls hl => ?_)
      refine w_X6_breaks_L32 Z hu0 (fun x12 H locs ls hS hl h => ?_) FU _ _ _ _ _ hS (lv_sub hl [2, 3, 4, 5, 1, 0] rfl) h
      refine lv_iload hx hb dX6_breaks_83 (lv_at hl 4 rfl) ?_
      refine lv_iload_n hx hb dX6_breaks_85 rfl (lv_at hl 2 rfl) ?_
      refine lv_icmp_le (tgt := 91) hx hb dX6_breaks_86 (by decide) (fun c13 => ?_) (fun c13 => ?_)
      · have h := if_t h c13
        refine lv_iinc (v := (v3 + (1 : Int32))) (lv' := [(3, .int (v3 + (1 : Int32))), (0, .ref (ad 200)), (1, .int u1), (2, .int u2), (4, .int x12)]) hx hb dX6_breaks_91 hl (k := 3) rfl rfl (by decide) rfl (fun ls hl => ?_)
        refine lv_goto (tgt := 18) hx hb dX6_breaks_94 (by decide) ?_
        exact ih _ _ _ _ hS (lv_sub hl [1, 2, 3, 0] rfl) h
      · have h := if_f h c13
        exact hk89 _ _ _ _ hS (lv_sub hl [3] rfl) h
set_option maxRecDepth 100000 in
set_option maxHeartbeats 4000000 in
theorem w_X6_breaks {a1 : Int32} {a2 : Int32} (hi0 : S 200 = (24, 0)) {r : Int32} (h : f_X6_breaks σ a1 a2 = some r) : Met l yX6_breaks (ws_ yX6_breaks cX6_breaks 6 (some .int)) rm_X6_breaks (va_Pc [.ref (ad 200), .int a1, .int a2] (PreG D (Ew D A) A ad S σ)) (QG D A ad S (some (.int r)) σ) 0 0 A := by
  refine y_met (by decide) (Nat.le_of_ble_eq_true rfl) (fun p e s m below meth c ls Z hS hl => ?_)
  have hx := Z.1
  have hb := Z.2.1
  have hown := Z.2.2.2.2.2.1
  have hts := Z.2.2.2.2.2.2.1
  unfold f_X6_breaks at h
  refine lv_iload_n hx hb dX6_breaks_0 rfl (lv_at hl 1 rfl) ?_
  refine lv_iconst (v := (0 : Int32)) hx hb dX6_breaks_1 (by decide) ?_
  refine lv_bipush (v := (7 : Int32)) hx hb dX6_breaks_2 (by decide) ?_
  refine h_ci hS h (fun z hz => h_rS (rest := []) Z hS v_X6_161 (w_X6_in hz) rfl rfl ⟨by decide, by decide⟩ rfl hl.1 rfl (Nat.le_of_ble_eq_true rfl) (Nat.zero_le _) (Nat.zero_le _) dX6_breaks_4) (fun x1 H locs hS h => ?_)
  refine lv_if_eq (tgt := 14) hx hb dX6_breaks_7 (by decide) (fun c2 => ?_) (fun c2 => ?_)
  · have h := if_t h c2
    refine lv_iconst (v := (-1 : Int32)) hx hb dX6_breaks_14 (by decide) ?_
    exact h_iret Z hS dX6_breaks_15 h
  · have h := if_f h c2
    refine lv_iload_n hx hb dX6_breaks_10 rfl (lv_at hl 2 rfl) ?_
    refine lv_if_ge (tgt := 16) hx hb dX6_breaks_11 (by decide) (fun c3 => ?_) (fun c3 => ?_)
    · have h := if_t h c3
      refine lv_iconst (v := (1 : Int32)) hx hb dX6_breaks_16 (by decide) ?_
      refine lv_istore_n (lv' := [(3, .int (1 : Int32)), (0, .ref (ad 200)), (1, .int a1), (2, .int a2)]) hx hb dX6_breaks_17 rfl hl (by decide) rfl (fun ls hl => ?_)
      refine w_X6_breaks_L18 Z hi0 (fun x14 H locs ls hS hl h => ?_) (fun  H locs ls hS hl h => ?_) FU _ _ _ _ hS (lv_sub hl [1, 2, 3, 0] rfl) h
      · refine lv_iload_n hx hb dX6_breaks_89 rfl (lv_at hl 0 rfl) ?_
        exact h_iret Z hS dX6_breaks_90 h
      · refine lv_iconst (v := (-1 : Int32)) hx hb dX6_breaks_97 (by decide) ?_
        exact h_iret Z hS dX6_breaks_98 h
    · have h := if_f h c3
      refine lv_iconst (v := (-1 : Int32)) hx hb dX6_breaks_14 (by decide) ?_
      exact h_iret Z hS dX6_breaks_15 h
end
theorem dX6_ripe_0 : decode cX6_ripe 0 = .ok (.aload_n 0, 1) := by decide +kernel
theorem dX6_ripe_1 : decode cX6_ripe 1 = .ok (.iload_n 1, 1) := by decide +kernel
theorem dX6_ripe_2 : decode cX6_ripe 2 = .ok (.invokevirtual 168, 3) := by decide +kernel
theorem dX6_ripe_5 : decode cX6_ripe 5 = .ok (.ifCond .eq 12, 3) := by decide +kernel
theorem dX6_ripe_8 : decode cX6_ripe 8 = .ok (.aload_n 0, 1) := by decide +kernel
theorem dX6_ripe_9 : decode cX6_ripe 9 = .ok (.getfield 102, 3) := by decide +kernel
theorem dX6_ripe_12 : decode cX6_ripe 12 = .ok (.iload_n 1, 1) := by decide +kernel
theorem dX6_ripe_13 : decode cX6_ripe 13 = .ok (.iaload, 1) := by decide +kernel
theorem dX6_ripe_14 : decode cX6_ripe 14 = .ok (.goto 4, 3) := by decide +kernel
theorem dX6_ripe_17 : decode cX6_ripe 17 = .ok (.iconst (-1), 1) := by decide +kernel
theorem dX6_ripe_18 : decode cX6_ripe 18 = .ok (.ireturn, 1) := by decide +kernel
abbrev rm_X6_ripe : Room := k2_rm 2 43
section
variable {p : Program} {l : Launch} {e : Env} {s : State} {m : MethodId} {args : Array Value} {below : List Frame} {meth : Method} {c : Code} {D : gD} {A : Nat → Prop} {ad : Nat → Nat} {S : Nat → Nat × Nat} {σ : Mem}
set_option maxRecDepth 100000 in
set_option maxHeartbeats 4000000 in
theorem w_X6_ripe {a1 : Int32} (hi0 : S 200 = (24, 0)) {r : Int32} (h : f_X6_ripe σ a1 = some r) : Met l yX6_ripe (ws_ yX6_ripe cX6_ripe 2 (some .int)) rm_X6_ripe (va_Pc [.ref (ad 200), .int a1] (PreG D (Ew D A) A ad S σ)) (QG D A ad S (some (.int r)) σ) 0 0 A := by
  refine y_met (by decide) (Nat.le_of_ble_eq_true rfl) (fun p e s m below meth c ls Z hS hl => ?_)
  have hx := Z.1
  have hb := Z.2.1
  have hown := Z.2.2.2.2.2.1
  have hts := Z.2.2.2.2.2.2.1
  unfold f_X6_ripe at h
  refine lv_aload_n hx hb dX6_ripe_0 rfl (lv_at hl 0 rfl) ?_
  refine lv_iload_n hx hb dX6_ripe_1 rfl (lv_at hl 1 rfl) ?_
  refine h_ci hS h (fun z hz => h_rV (rest := []) Z hS hi0 rfl v_X6_168 (w_X6_isFilter hi0 hz) rfl rfl ⟨by decide, by decide⟩ rfl hl.1 rfl (Nat.le_of_ble_eq_true rfl) (Nat.zero_le _) (Nat.zero_le _) dX6_ripe_2) (fun x1 H locs hS h => ?_)
  refine lv_if_eq (tgt := 17) hx hb dX6_ripe_5 (by decide) (fun c2 => ?_) (fun c2 => ?_)
  · have h := if_t h c2
    refine lv_iconst (v := (-1 : Int32)) hx hb dX6_ripe_17 (by decide) ?_
    exact h_iret Z hS dX6_ripe_18 h
  · have h := if_f h c2
    refine lv_aload_n hx hb dX6_ripe_8 rfl (lv_at hl 0 rfl) ?_
    refine h_getC (n := 41) (j := 241) (sh := (1, 8)) Z hS cls_14 hi0 (by decide) rfl rfl rfl fl_X6_102_14 dX6_ripe_9 (fun hc3 => ?_)
    refine lv_iload_n hx hb dX6_ripe_12 rfl (lv_at hl 1 rfl) ?_
    refine h_iald Z hS hc3 dX6_ripe_13 h (fun x4 h => ?_)
    refine lv_goto (tgt := 18) hx hb dX6_ripe_14 (by decide) ?_
    exact h_iret Z hS dX6_ripe_18 h
end
theorem dX6_led_0 : decode cX6_led 0 = .ok (.iload_n 1, 1) := by decide +kernel
theorem dX6_led_1 : decode cX6_led 1 = .ok (.iconst 0, 1) := by decide +kernel
theorem dX6_led_2 : decode cX6_led 2 = .ok (.bipush 7, 2) := by decide +kernel
theorem dX6_led_4 : decode cX6_led 4 = .ok (.invokestatic 161, 3) := by decide +kernel
theorem dX6_led_7 : decode cX6_led 7 = .ok (.ifCond .eq 12, 3) := by decide +kernel
theorem dX6_led_10 : decode cX6_led 10 = .ok (.iload_n 2, 1) := by decide +kernel
theorem dX6_led_11 : decode cX6_led 11 = .ok (.iconst 0, 1) := by decide +kernel
theorem dX6_led_12 : decode cX6_led 12 = .ok (.iconst 5, 1) := by decide +kernel
theorem dX6_led_13 : decode cX6_led 13 = .ok (.invokestatic 161, 3) := by decide +kernel
theorem dX6_led_16 : decode cX6_led 16 = .ok (.ifCond .ne 5, 3) := by decide +kernel
theorem dX6_led_19 : decode cX6_led 19 = .ok (.iconst (-1), 1) := by decide +kernel
theorem dX6_led_20 : decode cX6_led 20 = .ok (.ireturn, 1) := by decide +kernel
theorem dX6_led_21 : decode cX6_led 21 = .ok (.iload_n 2, 1) := by decide +kernel
theorem dX6_led_22 : decode cX6_led 22 = .ok (.iconst 1, 1) := by decide +kernel
theorem dX6_led_23 : decode cX6_led 23 = .ok (.if_icmp .eq 15, 3) := by decide +kernel
theorem dX6_led_26 : decode cX6_led 26 = .ok (.aload_n 0, 1) := by decide +kernel
theorem dX6_led_27 : decode cX6_led 27 = .ok (.getfield 108, 3) := by decide +kernel
theorem dX6_led_30 : decode cX6_led 30 = .ok (.bipush 6, 2) := by decide +kernel
theorem dX6_led_32 : decode cX6_led 32 = .ok (.iload_n 1, 1) := by decide +kernel
theorem dX6_led_33 : decode cX6_led 33 = .ok (.imul, 1) := by decide +kernel
theorem dX6_led_34 : decode cX6_led 34 = .ok (.iload_n 2, 1) := by decide +kernel
theorem dX6_led_35 : decode cX6_led 35 = .ok (.iadd, 1) := by decide +kernel
theorem dX6_led_36 : decode cX6_led 36 = .ok (.iaload, 1) := by decide +kernel
theorem dX6_led_37 : decode cX6_led 37 = .ok (.ireturn, 1) := by decide +kernel
theorem dX6_led_38 : decode cX6_led 38 = .ok (.iconst 0, 1) := by decide +kernel
theorem dX6_led_39 : decode cX6_led 39 = .ok (.istore_n 3, 1) := by decide +kernel
theorem dX6_led_40 : decode cX6_led 40 = .ok (.iconst 0, 1) := by decide +kernel
theorem dX6_led_41 : decode cX6_led 41 = .ok (.istore 4, 2) := by decide +kernel
theorem dX6_led_43 : decode cX6_led 43 = .ok (.iload 4, 2) := by decide +kernel
theorem dX6_led_45 : decode cX6_led 45 = .ok (.aload_n 0, 1) := by decide +kernel
theorem dX6_led_46 : decode cX6_led 46 = .ok (.getfield 165, 3) := by decide +kernel
theorem dX6_led_49 : decode cX6_led 49 = .ok (.if_icmp .ge 66, 3) := by decide +kernel
theorem dX6_led_52 : decode cX6_led 52 = .ok (.iload_n 3, 1) := by decide +kernel
theorem dX6_led_53 : decode cX6_led 53 = .ok (.aload_n 0, 1) := by decide +kernel
theorem dX6_led_54 : decode cX6_led 54 = .ok (.getfield 37, 3) := by decide +kernel
theorem dX6_led_57 : decode cX6_led 57 = .ok (.bipush 8, 2) := by decide +kernel
theorem dX6_led_59 : decode cX6_led 59 = .ok (.iload 4, 2) := by decide +kernel
theorem dX6_led_61 : decode cX6_led 61 = .ok (.imul, 1) := by decide +kernel
theorem dX6_led_62 : decode cX6_led 62 = .ok (.iload_n 1, 1) := by decide +kernel
theorem dX6_led_63 : decode cX6_led 63 = .ok (.iadd, 1) := by decide +kernel
theorem dX6_led_64 : decode cX6_led 64 = .ok (.iaload, 1) := by decide +kernel
theorem dX6_led_65 : decode cX6_led 65 = .ok (.iadd, 1) := by decide +kernel
theorem dX6_led_66 : decode cX6_led 66 = .ok (.istore_n 3, 1) := by decide +kernel
theorem dX6_led_67 : decode cX6_led 67 = .ok (.iconst 0, 1) := by decide +kernel
theorem dX6_led_68 : decode cX6_led 68 = .ok (.istore 5, 2) := by decide +kernel
theorem dX6_led_70 : decode cX6_led 70 = .ok (.iload 5, 2) := by decide +kernel
theorem dX6_led_72 : decode cX6_led 72 = .ok (.aload_n 0, 1) := by decide +kernel
theorem dX6_led_73 : decode cX6_led 73 = .ok (.getfield 19, 3) := by decide +kernel
theorem dX6_led_76 : decode cX6_led 76 = .ok (.iload 4, 2) := by decide +kernel
theorem dX6_led_78 : decode cX6_led 78 = .ok (.iaload, 1) := by decide +kernel
theorem dX6_led_79 : decode cX6_led 79 = .ok (.if_icmp .ge 30, 3) := by decide +kernel
theorem dX6_led_82 : decode cX6_led 82 = .ok (.iload_n 3, 1) := by decide +kernel
theorem dX6_led_83 : decode cX6_led 83 = .ok (.aload_n 0, 1) := by decide +kernel
theorem dX6_led_84 : decode cX6_led 84 = .ok (.getfield 31, 3) := by decide +kernel
theorem dX6_led_87 : decode cX6_led 87 = .ok (.bipush 8, 2) := by decide +kernel
theorem dX6_led_89 : decode cX6_led 89 = .ok (.bipush 10, 2) := by decide +kernel
theorem dX6_led_91 : decode cX6_led 91 = .ok (.iload 4, 2) := by decide +kernel
theorem dX6_led_93 : decode cX6_led 93 = .ok (.imul, 1) := by decide +kernel
theorem dX6_led_94 : decode cX6_led 94 = .ok (.iload 5, 2) := by decide +kernel
theorem dX6_led_96 : decode cX6_led 96 = .ok (.iadd, 1) := by decide +kernel
theorem dX6_led_97 : decode cX6_led 97 = .ok (.imul, 1) := by decide +kernel
theorem dX6_led_98 : decode cX6_led 98 = .ok (.iload_n 1, 1) := by decide +kernel
theorem dX6_led_99 : decode cX6_led 99 = .ok (.iadd, 1) := by decide +kernel
theorem dX6_led_100 : decode cX6_led 100 = .ok (.iaload, 1) := by decide +kernel
theorem dX6_led_101 : decode cX6_led 101 = .ok (.iadd, 1) := by decide +kernel
theorem dX6_led_102 : decode cX6_led 102 = .ok (.istore_n 3, 1) := by decide +kernel
theorem dX6_led_103 : decode cX6_led 103 = .ok (.iinc 5 1, 3) := by decide +kernel
theorem dX6_led_106 : decode cX6_led 106 = .ok (.goto (-36), 3) := by decide +kernel
theorem dX6_led_109 : decode cX6_led 109 = .ok (.iinc 4 1, 3) := by decide +kernel
theorem dX6_led_112 : decode cX6_led 112 = .ok (.goto (-69), 3) := by decide +kernel
theorem dX6_led_115 : decode cX6_led 115 = .ok (.iload_n 3, 1) := by decide +kernel
theorem dX6_led_116 : decode cX6_led 116 = .ok (.ireturn, 1) := by decide +kernel
abbrev rm_X6_led : Room := k2_rm 1 22
section
variable {p : Program} {l : Launch} {e : Env} {s : State} {m : MethodId} {args : Array Value} {below : List Frame} {meth : Method} {c : Code} {D : gD} {A : Nat → Prop} {ad : Nat → Nat} {S : Nat → Nat × Nat} {σ : Mem}
set_option maxRecDepth 100000 in
set_option maxHeartbeats 4000000 in
theorem w_X6_led_L70 (Z : Cz D (Ew D A) A cX6_led 6 (some .int) RX6 p s m args meth c) {u1 : Int32} {u4 : Int32} (hu0 : S 200 = (24, 0)) {r : Int32} {k109 : Int32 → Option Int32}
    (hk109 : ∀ (w3 : Int32) (H : Heap) (locs : List Loc) (ls : Array Slot), St D A ad S σ s.heap H locs → lv_has ls 6 [(0, .ref (ad 200)), (1, .int u1), (3, .int w3), (4, .int u4)] → k109 w3 = some r → W p l e rm_X6_led s m args below meth c H locs 0 0 (MQ below (QG D A ad S (some (.int r)) σ) args s 0 0 A) (F0 m 109 ls [])) :
    ∀ (n : Nat) (v3 : Int32) (v5 : Int32) (H : Heap) (locs : List Loc) (ls : Array Slot), St D A ad S σ s.heap H locs → lv_has ls 6 [(0, .ref (ad 200)), (1, .int u1), (3, .int v3), (4, .int u4), (5, .int v5)] → f_X6_led_L70 k109 σ u1 u4 n v3 v5 = some r → W p l e rm_X6_led s m args below meth c H locs 0 0 (MQ below (QG D A ad S (some (.int r)) σ) args s 0 0 A) (F0 m 70 ls []) := by
  have hx := Z.1
  have hb := Z.2.1
  have hown := Z.2.2.2.2.2.1
  have hts := Z.2.2.2.2.2.2.1
  intro n
  induction n with
  | zero => intro v3 v5 H locs ls hS hl h; cases h
  | succ n ih =>
    intro v3 v5 H locs ls hS hl h
    unfold f_X6_led_L70 at h
    refine lv_iload hx hb dX6_led_70 (lv_at hl 4 rfl) ?_
    refine lv_aload_n hx hb dX6_led_72 rfl (lv_at hl 0 rfl) ?_
    refine h_getC (n := 6) (j := 206) (sh := (1, 9)) Z hS cls_14 hu0 (by decide) rfl rfl rfl fl_X6_19_14 dX6_led_73 (fun hc11 => ?_)
    refine lv_iload hx hb dX6_led_76 (lv_at hl 3 rfl) ?_
    refine h_iald Z hS hc11 dX6_led_78 h (fun x12 h => ?_)
    refine lv_icmp_ge (tgt := 109) hx hb dX6_led_79 (by decide) (fun c13 => ?_) (fun c13 => ?_)
    · have h := if_t h c13
      exact hk109 _ _ _ _ hS (lv_sub hl [0, 1, 2, 3] rfl) h
    · have h := if_f h c13
      refine lv_iload_n hx hb dX6_led_82 rfl (lv_at hl 2 rfl) ?_
      refine lv_aload_n hx hb dX6_led_83 rfl (lv_at hl 0 rfl) ?_
      refine h_getC (n := 10) (j := 210) (sh := (1, 720)) Z hS cls_14 hu0 (by decide) rfl rfl rfl fl_X6_31_14 dX6_led_84 (fun hc14 => ?_)
      refine lv_bipush (v := (8 : Int32)) hx hb dX6_led_87 (by decide) ?_
      refine lv_bipush (v := (10 : Int32)) hx hb dX6_led_89 (by decide) ?_
      refine lv_iload hx hb dX6_led_91 (lv_at hl 3 rfl) ?_
      refine lv_imul hx hb dX6_led_93 ?_
      refine lv_iload hx hb dX6_led_94 (lv_at hl 4 rfl) ?_
      refine lv_iadd hx hb dX6_led_96 ?_
      refine lv_imul hx hb dX6_led_97 ?_
      refine lv_iload_n hx hb dX6_led_98 rfl (lv_at hl 1 rfl) ?_
      refine lv_iadd hx hb dX6_led_99 ?_
      refine h_iald Z hS hc14 dX6_led_100 h (fun x15 h => ?_)
      refine lv_iadd hx hb dX6_led_101 ?_
      refine h_leti h (fun x16 h => ?_)
      refine lv_istore_n (lv' := [(3, .int x16), (0, .ref (ad 200)), (1, .int u1), (4, .int u4), (5, .int v5)]) hx hb dX6_led_102 rfl hl (by decide) rfl (fun ls hl => ?_)
      refine lv_iinc (v := (v5 + (1 : Int32))) (lv' := [(5, .int (v5 + (1 : Int32))), (3, .int x16), (0, .ref (ad 200)), (1, .int u1), (4, .int u4)]) hx hb dX6_led_103 hl (k := 4) rfl rfl (by decide) rfl (fun ls hl => ?_)
      refine lv_goto (tgt := 70) hx hb dX6_led_106 (by decide) ?_
      exact ih _ _ _ _ _ hS (lv_sub hl [2, 3, 1, 4, 0] rfl) h
set_option maxRecDepth 100000 in
set_option maxHeartbeats 4000000 in
theorem w_X6_led_L43 (Z : Cz D (Ew D A) A cX6_led 6 (some .int) RX6 p s m args meth c) {u1 : Int32} (hu0 : S 200 = (24, 0)) {r : Int32} {k115 : Int32 → Option Int32}
    (hk115 : ∀ (w3 : Int32) (H : Heap) (locs : List Loc) (ls : Array Slot), St D A ad S σ s.heap H locs → lv_has ls 6 [(3, .int w3)] → k115 w3 = some r → W p l e rm_X6_led s m args below meth c H locs 0 0 (MQ below (QG D A ad S (some (.int r)) σ) args s 0 0 A) (F0 m 115 ls [])) :
    ∀ (n : Nat) (v3 : Int32) (v4 : Int32) (H : Heap) (locs : List Loc) (ls : Array Slot), St D A ad S σ s.heap H locs → lv_has ls 6 [(0, .ref (ad 200)), (1, .int u1), (3, .int v3), (4, .int v4)] → f_X6_led_L43 k115 σ u1 n v3 v4 = some r → W p l e rm_X6_led s m args below meth c H locs 0 0 (MQ below (QG D A ad S (some (.int r)) σ) args s 0 0 A) (F0 m 43 ls []) := by
  have hx := Z.1
  have hb := Z.2.1
  have hown := Z.2.2.2.2.2.1
  have hts := Z.2.2.2.2.2.2.1
  intro n
  induction n with
  | zero => intro v3 v4 H locs ls hS hl h; cases h
  | succ n ih =>
    intro v3 v4 H locs ls hS hl h
    unfold f_X6_led_L43 at h
    refine lv_iload hx hb dX6_led_43 (lv_at hl 3 rfl) ?_
    refine lv_aload_n hx hb dX6_led_45 rfl (lv_at hl 0 rfl) ?_
    refine h_getI Z hS cls_14 hu0 (by decide) rfl fl_X6_165_14 dX6_led_46 h (fun x6 h => ?_)
    refine lv_icmp_ge (tgt := 115) hx hb dX6_led_49 (by decide) (fun c7 => ?_) (fun c7 => ?_)
    · have h := if_t h c7
      exact hk115 _ _ _ _ hS (lv_sub hl [2] rfl) h
    · have h := if_f h c7
      refine lv_iload_n hx hb dX6_led_52 rfl (lv_at hl 2 rfl) ?_
      refine lv_aload_n hx hb dX6_led_53 rfl (lv_at hl 0 rfl) ?_
      refine h_getC (n := 12) (j := 212) (sh := (1, 72)) Z hS cls_14 hu0 (by decide) rfl rfl rfl fl_X6_37_14 dX6_led_54 (fun hc8 => ?_)
      refine lv_bipush (v := (8 : Int32)) hx hb dX6_led_57 (by decide) ?_
      refine lv_iload hx hb dX6_led_59 (lv_at hl 3 rfl) ?_
      refine lv_imul hx hb dX6_led_61 ?_
      refine lv_iload_n hx hb dX6_led_62 rfl (lv_at hl 1 rfl) ?_
      refine lv_iadd hx hb dX6_led_63 ?_
      refine h_iald Z hS hc8 dX6_led_64 h (fun x9 h => ?_)
      refine lv_iadd hx hb dX6_led_65 ?_
      refine h_leti h (fun x10 h => ?_)
      refine lv_istore_n (lv' := [(3, .int x10), (0, .ref (ad 200)), (1, .int u1), (4, .int v4)]) hx hb dX6_led_66 rfl hl (by decide) rfl (fun ls hl => ?_)
      refine lv_iconst (v := (0 : Int32)) hx hb dX6_led_67 (by decide) ?_
      refine lv_istore (lv' := [(5, .int (0 : Int32)), (3, .int x10), (0, .ref (ad 200)), (1, .int u1), (4, .int v4)]) hx hb dX6_led_68 hl (by decide) rfl (fun ls hl => ?_)
      refine w_X6_led_L70 Z hu0 (fun x17 H locs ls hS hl h => ?_) FU _ _ _ _ _ hS (lv_sub hl [2, 3, 1, 4, 0] rfl) h
      refine lv_iinc (v := (v4 + (1 : Int32))) (lv' := [(4, .int (v4 + (1 : Int32))), (0, .ref (ad 200)), (1, .int u1), (3, .int x17)]) hx hb dX6_led_109 hl (k := 3) rfl rfl (by decide) rfl (fun ls hl => ?_)
      refine lv_goto (tgt := 43) hx hb dX6_led_112 (by decide) ?_
      exact ih _ _ _ _ _ hS (lv_sub hl [1, 2, 3, 0] rfl) h
set_option maxRecDepth 100000 in
set_option maxHeartbeats 4000000 in
theorem w_X6_led {a1 : Int32} {a2 : Int32} (hi0 : S 200 = (24, 0)) {r : Int32} (h : f_X6_led σ a1 a2 = some r) : Met l yX6_led (ws_ yX6_led cX6_led 6 (some .int)) rm_X6_led (va_Pc [.ref (ad 200), .int a1, .int a2] (PreG D (Ew D A) A ad S σ)) (QG D A ad S (some (.int r)) σ) 0 0 A := by
  refine y_met (by decide) (Nat.le_of_ble_eq_true rfl) (fun p e s m below meth c ls Z hS hl => ?_)
  have hx := Z.1
  have hb := Z.2.1
  have hown := Z.2.2.2.2.2.1
  have hts := Z.2.2.2.2.2.2.1
  unfold f_X6_led at h
  refine lv_iload_n hx hb dX6_led_0 rfl (lv_at hl 1 rfl) ?_
  refine lv_iconst (v := (0 : Int32)) hx hb dX6_led_1 (by decide) ?_
  refine lv_bipush (v := (7 : Int32)) hx hb dX6_led_2 (by decide) ?_
  refine h_ci hS h (fun z hz => h_rS (rest := []) Z hS v_X6_161 (w_X6_in hz) rfl rfl ⟨by decide, by decide⟩ rfl hl.1 rfl (Nat.le_of_ble_eq_true rfl) (Nat.zero_le _) (Nat.zero_le _) dX6_led_4) (fun x1 H locs hS h => ?_)
  refine lv_if_eq (tgt := 19) hx hb dX6_led_7 (by decide) (fun c2 => ?_) (fun c2 => ?_)
  · have h := if_t h c2
    refine lv_iconst (v := (-1 : Int32)) hx hb dX6_led_19 (by decide) ?_
    exact h_iret Z hS dX6_led_20 h
  · have h := if_f h c2
    refine lv_iload_n hx hb dX6_led_10 rfl (lv_at hl 2 rfl) ?_
    refine lv_iconst (v := (0 : Int32)) hx hb dX6_led_11 (by decide) ?_
    refine lv_iconst (v := (5 : Int32)) hx hb dX6_led_12 (by decide) ?_
    refine h_ci hS h (fun z hz => h_rS (rest := []) Z hS v_X6_161 (w_X6_in hz) rfl rfl ⟨by decide, by decide⟩ rfl hl.1 rfl (Nat.le_of_ble_eq_true rfl) (Nat.zero_le _) (Nat.zero_le _) dX6_led_13) (fun x3 H locs hS h => ?_)
    refine lv_if_ne (tgt := 21) hx hb dX6_led_16 (by decide) (fun c4 => ?_) (fun c4 => ?_)
    · have h := if_f h c4
      refine lv_iload_n hx hb dX6_led_21 rfl (lv_at hl 2 rfl) ?_
      refine lv_iconst (v := (1 : Int32)) hx hb dX6_led_22 (by decide) ?_
      refine lv_icmp_eq (tgt := 38) hx hb dX6_led_23 (by decide) (fun c5 => ?_) (fun c5 => ?_)
      · have h := if_t h c5
        refine lv_iconst (v := (0 : Int32)) hx hb dX6_led_38 (by decide) ?_
        refine lv_istore_n (lv' := [(3, .int (0 : Int32)), (0, .ref (ad 200)), (1, .int a1), (2, .int a2)]) hx hb dX6_led_39 rfl hl (by decide) rfl (fun ls hl => ?_)
        refine lv_iconst (v := (0 : Int32)) hx hb dX6_led_40 (by decide) ?_
        refine lv_istore (lv' := [(4, .int (0 : Int32)), (3, .int (0 : Int32)), (0, .ref (ad 200)), (1, .int a1), (2, .int a2)]) hx hb dX6_led_41 hl (by decide) rfl (fun ls hl => ?_)
        refine w_X6_led_L43 Z hi0 (fun x18 H locs ls hS hl h => ?_) FU _ _ _ _ _ hS (lv_sub hl [2, 3, 1, 0] rfl) h
        refine lv_iload_n hx hb dX6_led_115 rfl (lv_at hl 0 rfl) ?_
        exact h_iret Z hS dX6_led_116 h
      · have h := if_f h c5
        refine lv_aload_n hx hb dX6_led_26 rfl (lv_at hl 0 rfl) ?_
        refine h_getC (n := 43) (j := 243) (sh := (1, 48)) Z hS cls_14 hi0 (by decide) rfl rfl rfl fl_X6_108_14 dX6_led_27 (fun hc19 => ?_)
        refine lv_bipush (v := (6 : Int32)) hx hb dX6_led_30 (by decide) ?_
        refine lv_iload_n hx hb dX6_led_32 rfl (lv_at hl 1 rfl) ?_
        refine lv_imul hx hb dX6_led_33 ?_
        refine lv_iload_n hx hb dX6_led_34 rfl (lv_at hl 2 rfl) ?_
        refine lv_iadd hx hb dX6_led_35 ?_
        refine h_iald Z hS hc19 dX6_led_36 h (fun x20 h => ?_)
        exact h_iret Z hS dX6_led_37 h
    · have h := if_t h c4
      refine lv_iconst (v := (-1 : Int32)) hx hb dX6_led_19 (by decide) ?_
      exact h_iret Z hS dX6_led_20 h
end
theorem dX6_digest_0 : decode cX6_digest 0 = .ok (.sipush 217, 3) := by decide +kernel
theorem dX6_digest_3 : decode cX6_digest 3 = .ok (.aload_n 0, 1) := by decide +kernel
theorem dX6_digest_4 : decode cX6_digest 4 = .ok (.getfield 330, 3) := by decide +kernel
theorem dX6_digest_7 : decode cX6_digest 7 = .ok (.iadd, 1) := by decide +kernel
theorem dX6_digest_8 : decode cX6_digest 8 = .ok (.istore_n 1, 1) := by decide +kernel
theorem dX6_digest_9 : decode cX6_digest 9 = .ok (.iconst 0, 1) := by decide +kernel
theorem dX6_digest_10 : decode cX6_digest 10 = .ok (.istore_n 2, 1) := by decide +kernel
theorem dX6_digest_11 : decode cX6_digest 11 = .ok (.iload_n 2, 1) := by decide +kernel
theorem dX6_digest_12 : decode cX6_digest 12 = .ok (.aload_n 0, 1) := by decide +kernel
theorem dX6_digest_13 : decode cX6_digest 13 = .ok (.getfield 165, 3) := by decide +kernel
theorem dX6_digest_16 : decode cX6_digest 16 = .ok (.if_icmp .ge 167, 3) := by decide +kernel
theorem dX6_digest_19 : decode cX6_digest 19 = .ok (.bipush 31, 2) := by decide +kernel
theorem dX6_digest_21 : decode cX6_digest 21 = .ok (.iload_n 1, 1) := by decide +kernel
theorem dX6_digest_22 : decode cX6_digest 22 = .ok (.imul, 1) := by decide +kernel
theorem dX6_digest_23 : decode cX6_digest 23 = .ok (.aload_n 0, 1) := by decide +kernel
theorem dX6_digest_24 : decode cX6_digest 24 = .ok (.getfield 49, 3) := by decide +kernel
theorem dX6_digest_27 : decode cX6_digest 27 = .ok (.iload_n 2, 1) := by decide +kernel
theorem dX6_digest_28 : decode cX6_digest 28 = .ok (.iaload, 1) := by decide +kernel
theorem dX6_digest_29 : decode cX6_digest 29 = .ok (.iadd, 1) := by decide +kernel
theorem dX6_digest_30 : decode cX6_digest 30 = .ok (.istore_n 1, 1) := by decide +kernel
theorem dX6_digest_31 : decode cX6_digest 31 = .ok (.bipush 31, 2) := by decide +kernel
theorem dX6_digest_33 : decode cX6_digest 33 = .ok (.iload_n 1, 1) := by decide +kernel
theorem dX6_digest_34 : decode cX6_digest 34 = .ok (.imul, 1) := by decide +kernel
theorem dX6_digest_35 : decode cX6_digest 35 = .ok (.aload_n 0, 1) := by decide +kernel
theorem dX6_digest_36 : decode cX6_digest 36 = .ok (.getfield 52, 3) := by decide +kernel
theorem dX6_digest_39 : decode cX6_digest 39 = .ok (.iload_n 2, 1) := by decide +kernel
theorem dX6_digest_40 : decode cX6_digest 40 = .ok (.iaload, 1) := by decide +kernel
theorem dX6_digest_41 : decode cX6_digest 41 = .ok (.iadd, 1) := by decide +kernel
theorem dX6_digest_42 : decode cX6_digest 42 = .ok (.istore_n 1, 1) := by decide +kernel
theorem dX6_digest_43 : decode cX6_digest 43 = .ok (.bipush 31, 2) := by decide +kernel
theorem dX6_digest_45 : decode cX6_digest 45 = .ok (.iload_n 1, 1) := by decide +kernel
theorem dX6_digest_46 : decode cX6_digest 46 = .ok (.imul, 1) := by decide +kernel
theorem dX6_digest_47 : decode cX6_digest 47 = .ok (.aload_n 0, 1) := by decide +kernel
theorem dX6_digest_48 : decode cX6_digest 48 = .ok (.getfield 55, 3) := by decide +kernel
theorem dX6_digest_51 : decode cX6_digest 51 = .ok (.iload_n 2, 1) := by decide +kernel
theorem dX6_digest_52 : decode cX6_digest 52 = .ok (.iaload, 1) := by decide +kernel
theorem dX6_digest_53 : decode cX6_digest 53 = .ok (.iadd, 1) := by decide +kernel
theorem dX6_digest_54 : decode cX6_digest 54 = .ok (.istore_n 1, 1) := by decide +kernel
theorem dX6_digest_55 : decode cX6_digest 55 = .ok (.iconst 0, 1) := by decide +kernel
theorem dX6_digest_56 : decode cX6_digest 56 = .ok (.istore_n 3, 1) := by decide +kernel
theorem dX6_digest_57 : decode cX6_digest 57 = .ok (.iload_n 3, 1) := by decide +kernel
theorem dX6_digest_58 : decode cX6_digest 58 = .ok (.bipush 8, 2) := by decide +kernel
theorem dX6_digest_60 : decode cX6_digest 60 = .ok (.if_icmp .ge 26, 3) := by decide +kernel
theorem dX6_digest_63 : decode cX6_digest 63 = .ok (.bipush 31, 2) := by decide +kernel
theorem dX6_digest_65 : decode cX6_digest 65 = .ok (.iload_n 1, 1) := by decide +kernel
theorem dX6_digest_66 : decode cX6_digest 66 = .ok (.imul, 1) := by decide +kernel
theorem dX6_digest_67 : decode cX6_digest 67 = .ok (.aload_n 0, 1) := by decide +kernel
theorem dX6_digest_68 : decode cX6_digest 68 = .ok (.getfield 37, 3) := by decide +kernel
theorem dX6_digest_71 : decode cX6_digest 71 = .ok (.bipush 8, 2) := by decide +kernel
theorem dX6_digest_73 : decode cX6_digest 73 = .ok (.iload_n 2, 1) := by decide +kernel
theorem dX6_digest_74 : decode cX6_digest 74 = .ok (.imul, 1) := by decide +kernel
theorem dX6_digest_75 : decode cX6_digest 75 = .ok (.iload_n 3, 1) := by decide +kernel
theorem dX6_digest_76 : decode cX6_digest 76 = .ok (.iadd, 1) := by decide +kernel
theorem dX6_digest_77 : decode cX6_digest 77 = .ok (.iaload, 1) := by decide +kernel
theorem dX6_digest_78 : decode cX6_digest 78 = .ok (.iadd, 1) := by decide +kernel
theorem dX6_digest_79 : decode cX6_digest 79 = .ok (.istore_n 1, 1) := by decide +kernel
theorem dX6_digest_80 : decode cX6_digest 80 = .ok (.iinc 3 1, 3) := by decide +kernel
theorem dX6_digest_83 : decode cX6_digest 83 = .ok (.goto (-26), 3) := by decide +kernel
theorem dX6_digest_86 : decode cX6_digest 86 = .ok (.iconst 0, 1) := by decide +kernel
theorem dX6_digest_87 : decode cX6_digest 87 = .ok (.istore_n 3, 1) := by decide +kernel
theorem dX6_digest_88 : decode cX6_digest 88 = .ok (.iload_n 3, 1) := by decide +kernel
theorem dX6_digest_89 : decode cX6_digest 89 = .ok (.aload_n 0, 1) := by decide +kernel
theorem dX6_digest_90 : decode cX6_digest 90 = .ok (.getfield 19, 3) := by decide +kernel
theorem dX6_digest_93 : decode cX6_digest 93 = .ok (.iload_n 2, 1) := by decide +kernel
theorem dX6_digest_94 : decode cX6_digest 94 = .ok (.iaload, 1) := by decide +kernel
theorem dX6_digest_95 : decode cX6_digest 95 = .ok (.if_icmp .ge 82, 3) := by decide +kernel
theorem dX6_digest_98 : decode cX6_digest 98 = .ok (.bipush 31, 2) := by decide +kernel
theorem dX6_digest_100 : decode cX6_digest 100 = .ok (.iload_n 1, 1) := by decide +kernel
theorem dX6_digest_101 : decode cX6_digest 101 = .ok (.imul, 1) := by decide +kernel
theorem dX6_digest_102 : decode cX6_digest 102 = .ok (.aload_n 0, 1) := by decide +kernel
theorem dX6_digest_103 : decode cX6_digest 103 = .ok (.getfield 22, 3) := by decide +kernel
theorem dX6_digest_106 : decode cX6_digest 106 = .ok (.bipush 10, 2) := by decide +kernel
theorem dX6_digest_108 : decode cX6_digest 108 = .ok (.iload_n 2, 1) := by decide +kernel
theorem dX6_digest_109 : decode cX6_digest 109 = .ok (.imul, 1) := by decide +kernel
theorem dX6_digest_110 : decode cX6_digest 110 = .ok (.iload_n 3, 1) := by decide +kernel
theorem dX6_digest_111 : decode cX6_digest 111 = .ok (.iadd, 1) := by decide +kernel
theorem dX6_digest_112 : decode cX6_digest 112 = .ok (.iaload, 1) := by decide +kernel
theorem dX6_digest_113 : decode cX6_digest 113 = .ok (.iadd, 1) := by decide +kernel
theorem dX6_digest_114 : decode cX6_digest 114 = .ok (.istore_n 1, 1) := by decide +kernel
theorem dX6_digest_115 : decode cX6_digest 115 = .ok (.iconst 0, 1) := by decide +kernel
theorem dX6_digest_116 : decode cX6_digest 116 = .ok (.istore 4, 2) := by decide +kernel
theorem dX6_digest_118 : decode cX6_digest 118 = .ok (.iload 4, 2) := by decide +kernel
theorem dX6_digest_120 : decode cX6_digest 120 = .ok (.bipush 8, 2) := by decide +kernel
theorem dX6_digest_122 : decode cX6_digest 122 = .ok (.if_icmp .ge 49, 3) := by decide +kernel
theorem dX6_digest_125 : decode cX6_digest 125 = .ok (.bipush 8, 2) := by decide +kernel
theorem dX6_digest_127 : decode cX6_digest 127 = .ok (.bipush 10, 2) := by decide +kernel
theorem dX6_digest_129 : decode cX6_digest 129 = .ok (.iload_n 2, 1) := by decide +kernel
theorem dX6_digest_130 : decode cX6_digest 130 = .ok (.imul, 1) := by decide +kernel
theorem dX6_digest_131 : decode cX6_digest 131 = .ok (.iload_n 3, 1) := by decide +kernel
theorem dX6_digest_132 : decode cX6_digest 132 = .ok (.iadd, 1) := by decide +kernel
theorem dX6_digest_133 : decode cX6_digest 133 = .ok (.imul, 1) := by decide +kernel
theorem dX6_digest_134 : decode cX6_digest 134 = .ok (.iload 4, 2) := by decide +kernel
theorem dX6_digest_136 : decode cX6_digest 136 = .ok (.iadd, 1) := by decide +kernel
theorem dX6_digest_137 : decode cX6_digest 137 = .ok (.istore 5, 2) := by decide +kernel
theorem dX6_digest_139 : decode cX6_digest 139 = .ok (.bipush 31, 2) := by decide +kernel
theorem dX6_digest_141 : decode cX6_digest 141 = .ok (.iload_n 1, 1) := by decide +kernel
theorem dX6_digest_142 : decode cX6_digest 142 = .ok (.imul, 1) := by decide +kernel
theorem dX6_digest_143 : decode cX6_digest 143 = .ok (.aload_n 0, 1) := by decide +kernel
theorem dX6_digest_144 : decode cX6_digest 144 = .ok (.getfield 31, 3) := by decide +kernel
theorem dX6_digest_147 : decode cX6_digest 147 = .ok (.iload 5, 2) := by decide +kernel
theorem dX6_digest_149 : decode cX6_digest 149 = .ok (.iaload, 1) := by decide +kernel
theorem dX6_digest_150 : decode cX6_digest 150 = .ok (.iadd, 1) := by decide +kernel
theorem dX6_digest_151 : decode cX6_digest 151 = .ok (.istore_n 1, 1) := by decide +kernel
theorem dX6_digest_152 : decode cX6_digest 152 = .ok (.bipush 31, 2) := by decide +kernel
theorem dX6_digest_154 : decode cX6_digest 154 = .ok (.iload_n 1, 1) := by decide +kernel
theorem dX6_digest_155 : decode cX6_digest 155 = .ok (.imul, 1) := by decide +kernel
theorem dX6_digest_156 : decode cX6_digest 156 = .ok (.aload_n 0, 1) := by decide +kernel
theorem dX6_digest_157 : decode cX6_digest 157 = .ok (.getfield 34, 3) := by decide +kernel
theorem dX6_digest_160 : decode cX6_digest 160 = .ok (.iload 5, 2) := by decide +kernel
theorem dX6_digest_162 : decode cX6_digest 162 = .ok (.iaload, 1) := by decide +kernel
theorem dX6_digest_163 : decode cX6_digest 163 = .ok (.iadd, 1) := by decide +kernel
theorem dX6_digest_164 : decode cX6_digest 164 = .ok (.istore_n 1, 1) := by decide +kernel
theorem dX6_digest_165 : decode cX6_digest 165 = .ok (.iinc 4 1, 3) := by decide +kernel
theorem dX6_digest_168 : decode cX6_digest 168 = .ok (.goto (-50), 3) := by decide +kernel
theorem dX6_digest_171 : decode cX6_digest 171 = .ok (.iinc 3 1, 3) := by decide +kernel
theorem dX6_digest_174 : decode cX6_digest 174 = .ok (.goto (-86), 3) := by decide +kernel
theorem dX6_digest_177 : decode cX6_digest 177 = .ok (.iinc 2 1, 3) := by decide +kernel
theorem dX6_digest_180 : decode cX6_digest 180 = .ok (.goto (-169), 3) := by decide +kernel
theorem dX6_digest_183 : decode cX6_digest 183 = .ok (.iload_n 1, 1) := by decide +kernel
theorem dX6_digest_184 : decode cX6_digest 184 = .ok (.ireturn, 1) := by decide +kernel
abbrev rm_X6_digest : Room := k2_rm 0 0
section
variable {p : Program} {l : Launch} {e : Env} {s : State} {m : MethodId} {args : Array Value} {below : List Frame} {meth : Method} {c : Code} {D : gD} {A : Nat → Prop} {ad : Nat → Nat} {S : Nat → Nat × Nat} {σ : Mem}
set_option maxRecDepth 100000 in
set_option maxHeartbeats 4000000 in
theorem w_X6_digest_L57 (Z : Cz D (Ew D A) A cX6_digest 6 (some .int) RX6 p s m args meth c) {u2 : Int32} (hu0 : S 200 = (24, 0)) {r : Int32} {k86 : Int32 → Option Int32}
    (hk86 : ∀ (w1 : Int32) (H : Heap) (locs : List Loc) (ls : Array Slot), St D A ad S σ s.heap H locs → lv_has ls 6 [(0, .ref (ad 200)), (1, .int w1), (2, .int u2)] → k86 w1 = some r → W p l e rm_X6_digest s m args below meth c H locs 0 0 (MQ below (QG D A ad S (some (.int r)) σ) args s 0 0 A) (F0 m 86 ls [])) :
    ∀ (n : Nat) (v1 : Int32) (v3 : Int32) (H : Heap) (locs : List Loc) (ls : Array Slot), St D A ad S σ s.heap H locs → lv_has ls 6 [(0, .ref (ad 200)), (1, .int v1), (2, .int u2), (3, .int v3)] → f_X6_digest_L57 k86 σ u2 n v1 v3 = some r → W p l e rm_X6_digest s m args below meth c H locs 0 0 (MQ below (QG D A ad S (some (.int r)) σ) args s 0 0 A) (F0 m 57 ls []) := by
  have hx := Z.1
  have hb := Z.2.1
  have hown := Z.2.2.2.2.2.1
  have hts := Z.2.2.2.2.2.2.1
  intro n
  induction n with
  | zero => intro v1 v3 H locs ls hS hl h; cases h
  | succ n ih =>
    intro v1 v3 H locs ls hS hl h
    unfold f_X6_digest_L57 at h
    refine lv_iload_n hx hb dX6_digest_57 rfl (lv_at hl 3 rfl) ?_
    refine lv_bipush (v := (8 : Int32)) hx hb dX6_digest_58 (by decide) ?_
    refine lv_icmp_ge (tgt := 86) hx hb dX6_digest_60 (by decide) (fun c14 => ?_) (fun c14 => ?_)
    · have h := if_t h c14
      exact hk86 _ _ _ _ hS (lv_sub hl [0, 1, 2] rfl) h
    · have h := if_f h c14
      refine lv_bipush (v := (31 : Int32)) hx hb dX6_digest_63 (by decide) ?_
      refine lv_iload_n hx hb dX6_digest_65 rfl (lv_at hl 1 rfl) ?_
      refine lv_imul hx hb dX6_digest_66 ?_
      refine lv_aload_n hx hb dX6_digest_67 rfl (lv_at hl 0 rfl) ?_
      refine h_getC (n := 12) (j := 212) (sh := (1, 72)) Z hS cls_14 hu0 (by decide) rfl rfl rfl fl_X6_37_14 dX6_digest_68 (fun hc15 => ?_)
      refine lv_bipush (v := (8 : Int32)) hx hb dX6_digest_71 (by decide) ?_
      refine lv_iload_n hx hb dX6_digest_73 rfl (lv_at hl 2 rfl) ?_
      refine lv_imul hx hb dX6_digest_74 ?_
      refine lv_iload_n hx hb dX6_digest_75 rfl (lv_at hl 3 rfl) ?_
      refine lv_iadd hx hb dX6_digest_76 ?_
      refine h_iald Z hS hc15 dX6_digest_77 h (fun x16 h => ?_)
      refine lv_iadd hx hb dX6_digest_78 ?_
      refine h_leti h (fun x17 h => ?_)
      refine lv_istore_n (lv' := [(1, .int x17), (0, .ref (ad 200)), (2, .int u2), (3, .int v3)]) hx hb dX6_digest_79 rfl hl (by decide) rfl (fun ls hl => ?_)
      refine lv_iinc (v := (v3 + (1 : Int32))) (lv' := [(3, .int (v3 + (1 : Int32))), (1, .int x17), (0, .ref (ad 200)), (2, .int u2)]) hx hb dX6_digest_80 hl (k := 3) rfl rfl (by decide) rfl (fun ls hl => ?_)
      refine lv_goto (tgt := 57) hx hb dX6_digest_83 (by decide) ?_
      exact ih _ _ _ _ _ hS (lv_sub hl [2, 1, 3, 0] rfl) h
set_option maxRecDepth 100000 in
set_option maxHeartbeats 4000000 in
theorem w_X6_digest_L118 (Z : Cz D (Ew D A) A cX6_digest 6 (some .int) RX6 p s m args meth c) {u2 : Int32} {u3 : Int32} (hu0 : S 200 = (24, 0)) {r : Int32} {k171 : Int32 → Option Int32}
    (hk171 : ∀ (w1 : Int32) (H : Heap) (locs : List Loc) (ls : Array Slot), St D A ad S σ s.heap H locs → lv_has ls 6 [(0, .ref (ad 200)), (1, .int w1), (2, .int u2), (3, .int u3)] → k171 w1 = some r → W p l e rm_X6_digest s m args below meth c H locs 0 0 (MQ below (QG D A ad S (some (.int r)) σ) args s 0 0 A) (F0 m 171 ls [])) :
    ∀ (n : Nat) (v1 : Int32) (v4 : Int32) (H : Heap) (locs : List Loc) (ls : Array Slot), St D A ad S σ s.heap H locs → lv_has ls 6 [(0, .ref (ad 200)), (1, .int v1), (2, .int u2), (3, .int u3), (4, .int v4)] → f_X6_digest_L118 k171 σ u2 u3 n v1 v4 = some r → W p l e rm_X6_digest s m args below meth c H locs 0 0 (MQ below (QG D A ad S (some (.int r)) σ) args s 0 0 A) (F0 m 118 ls []) := by
  have hx := Z.1
  have hb := Z.2.1
  have hown := Z.2.2.2.2.2.1
  have hts := Z.2.2.2.2.2.2.1
  intro n
  induction n with
  | zero => intro v1 v4 H locs ls hS hl h; cases h
  | succ n ih =>
    intro v1 v4 H locs ls hS hl h
    unfold f_X6_digest_L118 at h
    refine lv_iload hx hb dX6_digest_118 (lv_at hl 4 rfl) ?_
    refine lv_bipush (v := (8 : Int32)) hx hb dX6_digest_120 (by decide) ?_
    refine lv_icmp_ge (tgt := 171) hx hb dX6_digest_122 (by decide) (fun c25 => ?_) (fun c25 => ?_)
    · have h := if_t h c25
      exact hk171 _ _ _ _ hS (lv_sub hl [0, 1, 2, 3] rfl) h
    · have h := if_f h c25
      refine lv_bipush (v := (8 : Int32)) hx hb dX6_digest_125 (by decide) ?_
      refine lv_bipush (v := (10 : Int32)) hx hb dX6_digest_127 (by decide) ?_
      refine lv_iload_n hx hb dX6_digest_129 rfl (lv_at hl 2 rfl) ?_
      refine lv_imul hx hb dX6_digest_130 ?_
      refine lv_iload_n hx hb dX6_digest_131 rfl (lv_at hl 3 rfl) ?_
      refine lv_iadd hx hb dX6_digest_132 ?_
      refine lv_imul hx hb dX6_digest_133 ?_
      refine lv_iload hx hb dX6_digest_134 (lv_at hl 4 rfl) ?_
      refine lv_iadd hx hb dX6_digest_136 ?_
      refine h_leti h (fun x26 h => ?_)
      refine lv_istore (lv' := [(5, .int x26), (0, .ref (ad 200)), (1, .int v1), (2, .int u2), (3, .int u3), (4, .int v4)]) hx hb dX6_digest_137 hl (by decide) rfl (fun ls hl => ?_)
      refine lv_bipush (v := (31 : Int32)) hx hb dX6_digest_139 (by decide) ?_
      refine lv_iload_n hx hb dX6_digest_141 rfl (lv_at hl 2 rfl) ?_
      refine lv_imul hx hb dX6_digest_142 ?_
      refine lv_aload_n hx hb dX6_digest_143 rfl (lv_at hl 1 rfl) ?_
      refine h_getC (n := 10) (j := 210) (sh := (1, 720)) Z hS cls_14 hu0 (by decide) rfl rfl rfl fl_X6_31_14 dX6_digest_144 (fun hc27 => ?_)
      refine lv_iload hx hb dX6_digest_147 (lv_at hl 0 rfl) ?_
      refine h_iald Z hS hc27 dX6_digest_149 h (fun x28 h => ?_)
      refine lv_iadd hx hb dX6_digest_150 ?_
      refine h_leti h (fun x29 h => ?_)
      refine lv_istore_n (lv' := [(1, .int x29), (5, .int x26), (0, .ref (ad 200)), (2, .int u2), (3, .int u3), (4, .int v4)]) hx hb dX6_digest_151 rfl hl (by decide) rfl (fun ls hl => ?_)
      refine lv_bipush (v := (31 : Int32)) hx hb dX6_digest_152 (by decide) ?_
      refine lv_iload_n hx hb dX6_digest_154 rfl (lv_at hl 0 rfl) ?_
      refine lv_imul hx hb dX6_digest_155 ?_
      refine lv_aload_n hx hb dX6_digest_156 rfl (lv_at hl 2 rfl) ?_
      refine h_getC (n := 11) (j := 211) (sh := (1, 720)) Z hS cls_14 hu0 (by decide) rfl rfl rfl fl_X6_34_14 dX6_digest_157 (fun hc30 => ?_)
      refine lv_iload hx hb dX6_digest_160 (lv_at hl 1 rfl) ?_
      refine h_iald Z hS hc30 dX6_digest_162 h (fun x31 h => ?_)
      refine lv_iadd hx hb dX6_digest_163 ?_
      refine h_leti h (fun x32 h => ?_)
      refine lv_istore_n (lv' := [(1, .int x32), (5, .int x26), (0, .ref (ad 200)), (2, .int u2), (3, .int u3), (4, .int v4)]) hx hb dX6_digest_164 rfl hl (by decide) rfl (fun ls hl => ?_)
      refine lv_iinc (v := (v4 + (1 : Int32))) (lv' := [(4, .int (v4 + (1 : Int32))), (1, .int x32), (5, .int x26), (0, .ref (ad 200)), (2, .int u2), (3, .int u3)]) hx hb dX6_digest_165 hl (k := 5) rfl rfl (by decide) rfl (fun ls hl => ?_)
      refine lv_goto (tgt := 118) hx hb dX6_digest_168 (by decide) ?_
      exact ih _ _ _ _ _ hS (lv_sub hl [3, 1, 4, 5, 0] rfl) h
set_option maxRecDepth 100000 in
set_option maxHeartbeats 4000000 in
theorem w_X6_digest_L88 (Z : Cz D (Ew D A) A cX6_digest 6 (some .int) RX6 p s m args meth c) {u2 : Int32} (hu0 : S 200 = (24, 0)) {r : Int32} {k177 : Int32 → Option Int32}
    (hk177 : ∀ (w1 : Int32) (H : Heap) (locs : List Loc) (ls : Array Slot), St D A ad S σ s.heap H locs → lv_has ls 6 [(0, .ref (ad 200)), (1, .int w1), (2, .int u2)] → k177 w1 = some r → W p l e rm_X6_digest s m args below meth c H locs 0 0 (MQ below (QG D A ad S (some (.int r)) σ) args s 0 0 A) (F0 m 177 ls [])) :
    ∀ (n : Nat) (v1 : Int32) (v3 : Int32) (H : Heap) (locs : List Loc) (ls : Array Slot), St D A ad S σ s.heap H locs → lv_has ls 6 [(0, .ref (ad 200)), (1, .int v1), (2, .int u2), (3, .int v3)] → f_X6_digest_L88 k177 σ u2 n v1 v3 = some r → W p l e rm_X6_digest s m args below meth c H locs 0 0 (MQ below (QG D A ad S (some (.int r)) σ) args s 0 0 A) (F0 m 88 ls []) := by
  have hx := Z.1
  have hb := Z.2.1
  have hown := Z.2.2.2.2.2.1
  have hts := Z.2.2.2.2.2.2.1
  intro n
  induction n with
  | zero => intro v1 v3 H locs ls hS hl h; cases h
  | succ n ih =>
    intro v1 v3 H locs ls hS hl h
    unfold f_X6_digest_L88 at h
    refine lv_iload_n hx hb dX6_digest_88 rfl (lv_at hl 3 rfl) ?_
    refine lv_aload_n hx hb dX6_digest_89 rfl (lv_at hl 0 rfl) ?_
    refine h_getC (n := 6) (j := 206) (sh := (1, 9)) Z hS cls_14 hu0 (by decide) rfl rfl rfl fl_X6_19_14 dX6_digest_90 (fun hc19 => ?_)
    refine lv_iload_n hx hb dX6_digest_93 rfl (lv_at hl 2 rfl) ?_
    refine h_iald Z hS hc19 dX6_digest_94 h (fun x20 h => ?_)
    refine lv_icmp_ge (tgt := 177) hx hb dX6_digest_95 (by decide) (fun c21 => ?_) (fun c21 => ?_)
    · have h := if_t h c21
      exact hk177 _ _ _ _ hS (lv_sub hl [0, 1, 2] rfl) h
    · have h := if_f h c21
      refine lv_bipush (v := (31 : Int32)) hx hb dX6_digest_98 (by decide) ?_
      refine lv_iload_n hx hb dX6_digest_100 rfl (lv_at hl 1 rfl) ?_
      refine lv_imul hx hb dX6_digest_101 ?_
      refine lv_aload_n hx hb dX6_digest_102 rfl (lv_at hl 0 rfl) ?_
      refine h_getC (n := 7) (j := 207) (sh := (1, 90)) Z hS cls_14 hu0 (by decide) rfl rfl rfl fl_X6_22_14 dX6_digest_103 (fun hc22 => ?_)
      refine lv_bipush (v := (10 : Int32)) hx hb dX6_digest_106 (by decide) ?_
      refine lv_iload_n hx hb dX6_digest_108 rfl (lv_at hl 2 rfl) ?_
      refine lv_imul hx hb dX6_digest_109 ?_
      refine lv_iload_n hx hb dX6_digest_110 rfl (lv_at hl 3 rfl) ?_
      refine lv_iadd hx hb dX6_digest_111 ?_
      refine h_iald Z hS hc22 dX6_digest_112 h (fun x23 h => ?_)
      refine lv_iadd hx hb dX6_digest_113 ?_
      refine h_leti h (fun x24 h => ?_)
      refine lv_istore_n (lv' := [(1, .int x24), (0, .ref (ad 200)), (2, .int u2), (3, .int v3)]) hx hb dX6_digest_114 rfl hl (by decide) rfl (fun ls hl => ?_)
      refine lv_iconst (v := (0 : Int32)) hx hb dX6_digest_115 (by decide) ?_
      refine lv_istore (lv' := [(4, .int (0 : Int32)), (1, .int x24), (0, .ref (ad 200)), (2, .int u2), (3, .int v3)]) hx hb dX6_digest_116 hl (by decide) rfl (fun ls hl => ?_)
      refine w_X6_digest_L118 Z hu0 (fun x33 H locs ls hS hl h => ?_) FU _ _ _ _ _ hS (lv_sub hl [2, 1, 3, 4, 0] rfl) h
      refine lv_iinc (v := (v3 + (1 : Int32))) (lv' := [(3, .int (v3 + (1 : Int32))), (0, .ref (ad 200)), (1, .int x33), (2, .int u2)]) hx hb dX6_digest_171 hl (k := 3) rfl rfl (by decide) rfl (fun ls hl => ?_)
      refine lv_goto (tgt := 88) hx hb dX6_digest_174 (by decide) ?_
      exact ih _ _ _ _ _ hS (lv_sub hl [1, 2, 3, 0] rfl) h
set_option maxRecDepth 100000 in
set_option maxHeartbeats 4000000 in
theorem w_X6_digest_L11 (Z : Cz D (Ew D A) A cX6_digest 6 (some .int) RX6 p s m args meth c) (hu0 : S 200 = (24, 0)) {r : Int32} {k183 : Int32 → Option Int32}
    (hk183 : ∀ (w1 : Int32) (H : Heap) (locs : List Loc) (ls : Array Slot), St D A ad S σ s.heap H locs → lv_has ls 6 [(1, .int w1)] → k183 w1 = some r → W p l e rm_X6_digest s m args below meth c H locs 0 0 (MQ below (QG D A ad S (some (.int r)) σ) args s 0 0 A) (F0 m 183 ls [])) :
    ∀ (n : Nat) (v1 : Int32) (v2 : Int32) (H : Heap) (locs : List Loc) (ls : Array Slot), St D A ad S σ s.heap H locs → lv_has ls 6 [(0, .ref (ad 200)), (1, .int v1), (2, .int v2)] → f_X6_digest_L11 k183 σ n v1 v2 = some r → W p l e rm_X6_digest s m args below meth c H locs 0 0 (MQ below (QG D A ad S (some (.int r)) σ) args s 0 0 A) (F0 m 11 ls []) := by
  have hx := Z.1
  have hb := Z.2.1
  have hown := Z.2.2.2.2.2.1
  have hts := Z.2.2.2.2.2.2.1
  intro n
  induction n with
  | zero => intro v1 v2 H locs ls hS hl h; cases h
  | succ n ih =>
    intro v1 v2 H locs ls hS hl h
    unfold f_X6_digest_L11 at h
    refine lv_iload_n hx hb dX6_digest_11 rfl (lv_at hl 2 rfl) ?_
    refine lv_aload_n hx hb dX6_digest_12 rfl (lv_at hl 0 rfl) ?_
    refine h_getI Z hS cls_14 hu0 (by decide) rfl fl_X6_165_14 dX6_digest_13 h (fun x3 h => ?_)
    refine lv_icmp_ge (tgt := 183) hx hb dX6_digest_16 (by decide) (fun c4 => ?_) (fun c4 => ?_)
    · have h := if_t h c4
      exact hk183 _ _ _ _ hS (lv_sub hl [1] rfl) h
    · have h := if_f h c4
      refine lv_bipush (v := (31 : Int32)) hx hb dX6_digest_19 (by decide) ?_
      refine lv_iload_n hx hb dX6_digest_21 rfl (lv_at hl 1 rfl) ?_
      refine lv_imul hx hb dX6_digest_22 ?_
      refine lv_aload_n hx hb dX6_digest_23 rfl (lv_at hl 0 rfl) ?_
      refine h_getC (n := 16) (j := 216) (sh := (1, 9)) Z hS cls_14 hu0 (by decide) rfl rfl rfl fl_X6_49_14 dX6_digest_24 (fun hc5 => ?_)
      refine lv_iload_n hx hb dX6_digest_27 rfl (lv_at hl 2 rfl) ?_
      refine h_iald Z hS hc5 dX6_digest_28 h (fun x6 h => ?_)
      refine lv_iadd hx hb dX6_digest_29 ?_
      refine h_leti h (fun x7 h => ?_)
      refine lv_istore_n (lv' := [(1, .int x7), (0, .ref (ad 200)), (2, .int v2)]) hx hb dX6_digest_30 rfl hl (by decide) rfl (fun ls hl => ?_)
      refine lv_bipush (v := (31 : Int32)) hx hb dX6_digest_31 (by decide) ?_
      refine lv_iload_n hx hb dX6_digest_33 rfl (lv_at hl 0 rfl) ?_
      refine lv_imul hx hb dX6_digest_34 ?_
      refine lv_aload_n hx hb dX6_digest_35 rfl (lv_at hl 1 rfl) ?_
      refine h_getC (n := 17) (j := 217) (sh := (1, 9)) Z hS cls_14 hu0 (by decide) rfl rfl rfl fl_X6_52_14 dX6_digest_36 (fun hc8 => ?_)
      refine lv_iload_n hx hb dX6_digest_39 rfl (lv_at hl 2 rfl) ?_
      refine h_iald Z hS hc8 dX6_digest_40 h (fun x9 h => ?_)
      refine lv_iadd hx hb dX6_digest_41 ?_
      refine h_leti h (fun x10 h => ?_)
      refine lv_istore_n (lv' := [(1, .int x10), (0, .ref (ad 200)), (2, .int v2)]) hx hb dX6_digest_42 rfl hl (by decide) rfl (fun ls hl => ?_)
      refine lv_bipush (v := (31 : Int32)) hx hb dX6_digest_43 (by decide) ?_
      refine lv_iload_n hx hb dX6_digest_45 rfl (lv_at hl 0 rfl) ?_
      refine lv_imul hx hb dX6_digest_46 ?_
      refine lv_aload_n hx hb dX6_digest_47 rfl (lv_at hl 1 rfl) ?_
      refine h_getC (n := 18) (j := 218) (sh := (1, 9)) Z hS cls_14 hu0 (by decide) rfl rfl rfl fl_X6_55_14 dX6_digest_48 (fun hc11 => ?_)
      refine lv_iload_n hx hb dX6_digest_51 rfl (lv_at hl 2 rfl) ?_
      refine h_iald Z hS hc11 dX6_digest_52 h (fun x12 h => ?_)
      refine lv_iadd hx hb dX6_digest_53 ?_
      refine h_leti h (fun x13 h => ?_)
      refine lv_istore_n (lv' := [(1, .int x13), (0, .ref (ad 200)), (2, .int v2)]) hx hb dX6_digest_54 rfl hl (by decide) rfl (fun ls hl => ?_)
      refine lv_iconst (v := (0 : Int32)) hx hb dX6_digest_55 (by decide) ?_
      refine lv_istore_n (lv' := [(3, .int (0 : Int32)), (1, .int x13), (0, .ref (ad 200)), (2, .int v2)]) hx hb dX6_digest_56 rfl hl (by decide) rfl (fun ls hl => ?_)
      refine w_X6_digest_L57 Z hu0 (fun x18 H locs ls hS hl h => ?_) FU _ _ _ _ _ hS (lv_sub hl [2, 1, 3, 0] rfl) h
      refine lv_iconst (v := (0 : Int32)) hx hb dX6_digest_86 (by decide) ?_
      refine lv_istore_n (lv' := [(3, .int (0 : Int32)), (0, .ref (ad 200)), (1, .int x18), (2, .int v2)]) hx hb dX6_digest_87 rfl hl (by decide) rfl (fun ls hl => ?_)
      refine w_X6_digest_L88 Z hu0 (fun x34 H locs ls hS hl h => ?_) FU _ _ _ _ _ hS (lv_sub hl [1, 2, 3, 0] rfl) h
      refine lv_iinc (v := (v2 + (1 : Int32))) (lv' := [(2, .int (v2 + (1 : Int32))), (0, .ref (ad 200)), (1, .int x34)]) hx hb dX6_digest_177 hl (k := 2) rfl rfl (by decide) rfl (fun ls hl => ?_)
      refine lv_goto (tgt := 11) hx hb dX6_digest_180 (by decide) ?_
      exact ih _ _ _ _ _ hS (lv_sub hl [1, 2, 0] rfl) h
set_option maxRecDepth 100000 in
set_option maxHeartbeats 4000000 in
theorem w_X6_digest (hi0 : S 200 = (24, 0)) {r : Int32} (h : f_X6_digest σ = some r) : Met l yX6_digest (ws_ yX6_digest cX6_digest 6 (some .int)) rm_X6_digest (va_Pc [.ref (ad 200)] (PreG D (Ew D A) A ad S σ)) (QG D A ad S (some (.int r)) σ) 0 0 A := by
  refine y_met (by decide) (Nat.le_of_ble_eq_true rfl) (fun p e s m below meth c ls Z hS hl => ?_)
  have hx := Z.1
  have hb := Z.2.1
  have hown := Z.2.2.2.2.2.1
  have hts := Z.2.2.2.2.2.2.1
  unfold f_X6_digest at h
  refine lv_sipush (v := (217 : Int32)) hx hb dX6_digest_0 (by decide) ?_
  refine lv_aload_n hx hb dX6_digest_3 rfl (lv_at hl 0 rfl) ?_
  refine h_getI Z hS cls_14 hi0 (by decide) rfl fl_X6_330_14 dX6_digest_4 h (fun x1 h => ?_)
  refine lv_iadd hx hb dX6_digest_7 ?_
  refine h_leti h (fun x2 h => ?_)
  refine lv_istore_n (lv' := [(1, .int x2), (0, .ref (ad 200))]) hx hb dX6_digest_8 rfl hl (by decide) rfl (fun ls hl => ?_)
  refine lv_iconst (v := (0 : Int32)) hx hb dX6_digest_9 (by decide) ?_
  refine lv_istore_n (lv' := [(2, .int (0 : Int32)), (1, .int x2), (0, .ref (ad 200))]) hx hb dX6_digest_10 rfl hl (by decide) rfl (fun ls hl => ?_)
  refine w_X6_digest_L11 Z hi0 (fun x35 H locs ls hS hl h => ?_) FU _ _ _ _ _ hS (lv_sub hl [2, 1, 0] rfl) h
  refine lv_iload_n hx hb dX6_digest_183 rfl (lv_at hl 0 rfl) ?_
  exact h_iret Z hS dX6_digest_184 h
end
theorem dX6_choose_0 : decode cX6_choose 0 = .ok (.lconst 1, 1) := by decide +kernel
theorem dX6_choose_1 : decode cX6_choose 1 = .ok (.lstore_n 2, 1) := by decide +kernel
theorem dX6_choose_2 : decode cX6_choose 2 = .ok (.iconst 0, 1) := by decide +kernel
theorem dX6_choose_3 : decode cX6_choose 3 = .ok (.istore 4, 2) := by decide +kernel
theorem dX6_choose_5 : decode cX6_choose 5 = .ok (.iload 4, 2) := by decide +kernel
theorem dX6_choose_7 : decode cX6_choose 7 = .ok (.iload_n 1, 1) := by decide +kernel
theorem dX6_choose_8 : decode cX6_choose 8 = .ok (.if_icmp .ge 23, 3) := by decide +kernel
theorem dX6_choose_11 : decode cX6_choose 11 = .ok (.lload_n 2, 1) := by decide +kernel
theorem dX6_choose_12 : decode cX6_choose 12 = .ok (.iload_n 0, 1) := by decide +kernel
theorem dX6_choose_13 : decode cX6_choose 13 = .ok (.iload 4, 2) := by decide +kernel
theorem dX6_choose_15 : decode cX6_choose 15 = .ok (.isub, 1) := by decide +kernel
theorem dX6_choose_16 : decode cX6_choose 16 = .ok (.i2l, 1) := by decide +kernel
theorem dX6_choose_17 : decode cX6_choose 17 = .ok (.lmul, 1) := by decide +kernel
theorem dX6_choose_18 : decode cX6_choose 18 = .ok (.iload 4, 2) := by decide +kernel
theorem dX6_choose_20 : decode cX6_choose 20 = .ok (.i2l, 1) := by decide +kernel
theorem dX6_choose_21 : decode cX6_choose 21 = .ok (.lconst 1, 1) := by decide +kernel
theorem dX6_choose_22 : decode cX6_choose 22 = .ok (.ladd, 1) := by decide +kernel
theorem dX6_choose_23 : decode cX6_choose 23 = .ok (.ldiv, 1) := by decide +kernel
theorem dX6_choose_24 : decode cX6_choose 24 = .ok (.lstore_n 2, 1) := by decide +kernel
theorem dX6_choose_25 : decode cX6_choose 25 = .ok (.iinc 4 1, 3) := by decide +kernel
theorem dX6_choose_28 : decode cX6_choose 28 = .ok (.goto (-23), 3) := by decide +kernel
theorem dX6_choose_31 : decode cX6_choose 31 = .ok (.lload_n 2, 1) := by decide +kernel
theorem dX6_choose_32 : decode cX6_choose 32 = .ok (.lreturn, 1) := by decide +kernel
abbrev rm_X6_choose : Room := k2_rm 0 0
section
variable {p : Program} {l : Launch} {e : Env} {s : State} {m : MethodId} {args : Array Value} {below : List Frame} {meth : Method} {c : Code} {D : gD} {A : Nat → Prop} {ad : Nat → Nat} {S : Nat → Nat × Nat} {σ : Mem}
set_option maxRecDepth 100000 in
set_option maxHeartbeats 4000000 in
theorem w_X6_choose_L5 (Z : Cz D (Ew D A) A cX6_choose 5 (some .long) RX6 p s m args meth c) {u0 : Int32} {u1 : Int32} {r : Int64} {k31 : Int64 → Option Int64}
    (hk31 : ∀ (w2 : Int64) (H : Heap) (locs : List Loc) (ls : Array Slot), St D A ad S σ s.heap H locs → lv_has ls 5 [(2, .long w2)] → k31 w2 = some r → W p l e rm_X6_choose s m args below meth c H locs 0 0 (MQ below (QG D A ad S (some (.long r)) σ) args s 0 0 A) (F0 m 31 ls [])) :
    ∀ (n : Nat) (v2 : Int64) (v4 : Int32) (H : Heap) (locs : List Loc) (ls : Array Slot), St D A ad S σ s.heap H locs → lv_has ls 5 [(0, .int u0), (1, .int u1), (2, .long v2), (4, .int v4)] → f_X6_choose_L5 k31 σ u0 u1 n v2 v4 = some r → W p l e rm_X6_choose s m args below meth c H locs 0 0 (MQ below (QG D A ad S (some (.long r)) σ) args s 0 0 A) (F0 m 5 ls []) := by
  have hx := Z.1
  have hb := Z.2.1
  have hown := Z.2.2.2.2.2.1
  have hts := Z.2.2.2.2.2.2.1
  intro n
  induction n with
  | zero => intro v2 v4 H locs ls hS hl h; cases h
  | succ n ih =>
    intro v2 v4 H locs ls hS hl h
    unfold f_X6_choose_L5 at h
    refine lv_iload hx hb dX6_choose_5 (lv_at hl 3 rfl) ?_
    refine lv_iload_n hx hb dX6_choose_7 rfl (lv_at hl 1 rfl) ?_
    refine lv_icmp_ge (tgt := 31) hx hb dX6_choose_8 (by decide) (fun c1 => ?_) (fun c1 => ?_)
    · have h := if_t h c1
      exact hk31 _ _ _ _ hS (lv_sub hl [2] rfl) h
    · have h := if_f h c1
      refine lv_lload_n hx hb dX6_choose_11 rfl (lv_at hl 2 rfl) ?_
      refine lv_iload_n hx hb dX6_choose_12 rfl (lv_at hl 0 rfl) ?_
      refine lv_iload hx hb dX6_choose_13 (lv_at hl 3 rfl) ?_
      refine lv_isub hx hb dX6_choose_15 ?_
      refine lv_i2l hx hb dX6_choose_16 rfl ?_
      refine lv_lmul hx hb dX6_choose_17 ?_
      refine lv_iload hx hb dX6_choose_18 (lv_at hl 3 rfl) ?_
      refine lv_i2l hx hb dX6_choose_20 rfl ?_
      refine lv_lconst (v := (1 : Int64)) hx hb dX6_choose_21 (by decide) ?_
      refine lv_ladd hx hb dX6_choose_22 ?_
      refine h_ldiv Z dX6_choose_23 h (fun h => ?_)
      refine h_letl h (fun y2 h => ?_)
      refine lv_lstore_n (lv' := [(2, .long y2), (0, .int u0), (1, .int u1), (4, .int v4)]) hx hb dX6_choose_24 rfl hl (by decide) rfl (fun ls hl => ?_)
      refine lv_iinc (v := (v4 + (1 : Int32))) (lv' := [(4, .int (v4 + (1 : Int32))), (2, .long y2), (0, .int u0), (1, .int u1)]) hx hb dX6_choose_25 hl (k := 3) rfl rfl (by decide) rfl (fun ls hl => ?_)
      refine lv_goto (tgt := 5) hx hb dX6_choose_28 (by decide) ?_
      exact ih _ _ _ _ _ hS (lv_sub hl [2, 3, 1, 0] rfl) h
set_option maxRecDepth 100000 in
set_option maxHeartbeats 4000000 in
theorem w_X6_choose {a1 : Int32} {a2 : Int32} {r : Int64} (h : f_X6_choose σ a1 a2 = some r) : Met l yX6_choose (ws_ yX6_choose cX6_choose 5 (some .long)) rm_X6_choose (va_Pc [.int a1, .int a2] (PreG D (Ew D A) A ad S σ)) (QG D A ad S (some (.long r)) σ) 0 0 A := by
  refine y_met (by decide) (Nat.le_of_ble_eq_true rfl) (fun p e s m below meth c ls Z hS hl => ?_)
  have hx := Z.1
  have hb := Z.2.1
  have hown := Z.2.2.2.2.2.1
  have hts := Z.2.2.2.2.2.2.1
  unfold f_X6_choose at h
  refine lv_lconst (v := (1 : Int64)) hx hb dX6_choose_0 (by decide) ?_
  refine lv_lstore_n (lv' := [(2, .long (1 : Int64)), (0, .int a1), (1, .int a2)]) hx hb dX6_choose_1 rfl hl (by decide) rfl (fun ls hl => ?_)
  refine lv_iconst (v := (0 : Int32)) hx hb dX6_choose_2 (by decide) ?_
  refine lv_istore (lv' := [(4, .int (0 : Int32)), (2, .long (1 : Int64)), (0, .int a1), (1, .int a2)]) hx hb dX6_choose_3 hl (by decide) rfl (fun ls hl => ?_)
  refine w_X6_choose_L5 Z (fun y3 H locs ls hS hl h => ?_) FU _ _ _ _ _ hS (lv_sub hl [2, 3, 1, 0] rfl) h
  refine lv_lload_n hx hb dX6_choose_31 rfl (lv_at hl 0 rfl) ?_
  exact h_lret Z hS dX6_choose_32 h
end
theorem dX6_ways_0 : decode cX6_ways 0 = .ok (.iload_n 0, 1) := by decide +kernel
theorem dX6_ways_1 : decode cX6_ways 1 = .ok (.iload_n 1, 1) := by decide +kernel
theorem dX6_ways_2 : decode cX6_ways 2 = .ok (.iload_n 0, 1) := by decide +kernel
theorem dX6_ways_3 : decode cX6_ways 3 = .ok (.iload_n 1, 1) := by decide +kernel
theorem dX6_ways_4 : decode cX6_ways 4 = .ok (.isub, 1) := by decide +kernel
theorem dX6_ways_5 : decode cX6_ways 5 = .ok (.invokestatic 325, 3) := by decide +kernel
theorem dX6_ways_8 : decode cX6_ways 8 = .ok (.invokestatic 372, 3) := by decide +kernel
theorem dX6_ways_11 : decode cX6_ways 11 = .ok (.lreturn, 1) := by decide +kernel
abbrev rm_X6_ways : Room := k2_rm 1 24
section
variable {p : Program} {l : Launch} {e : Env} {s : State} {m : MethodId} {args : Array Value} {below : List Frame} {meth : Method} {c : Code} {D : gD} {A : Nat → Prop} {ad : Nat → Nat} {S : Nat → Nat × Nat} {σ : Mem}
set_option maxRecDepth 100000 in
set_option maxHeartbeats 4000000 in
theorem w_X6_ways {a1 : Int32} {a2 : Int32} {r : Int64} (h : f_X6_ways σ a1 a2 = some r) : Met l yX6_ways (ws_ yX6_ways cX6_ways 2 (some .long)) rm_X6_ways (va_Pc [.int a1, .int a2] (PreG D (Ew D A) A ad S σ)) (QG D A ad S (some (.long r)) σ) 0 0 A := by
  refine y_met (by decide) (Nat.le_of_ble_eq_true rfl) (fun p e s m below meth c ls Z hS hl => ?_)
  have hx := Z.1
  have hb := Z.2.1
  have hown := Z.2.2.2.2.2.1
  have hts := Z.2.2.2.2.2.2.1
  unfold f_X6_ways at h
  refine lv_iload_n hx hb dX6_ways_0 rfl (lv_at hl 0 rfl) ?_
  refine lv_iload_n hx hb dX6_ways_1 rfl (lv_at hl 1 rfl) ?_
  refine lv_iload_n hx hb dX6_ways_2 rfl (lv_at hl 0 rfl) ?_
  refine lv_iload_n hx hb dX6_ways_3 rfl (lv_at hl 1 rfl) ?_
  refine lv_isub hx hb dX6_ways_4 ?_
  refine y_imin hx hb (hl.1 ▸ Z.2.2.2.2.1) Z.2.2.2.2.2 q1593 (by decide) (Nat.le_of_ble_eq_true rfl) (Nat.zero_le _) (Nat.zero_le _) dX6_ways_5 ?_
  refine h_cl hS h (fun z hz => h_rS (rest := []) Z hS v_X6_372 (w_X6_choose hz) rfl rfl ⟨by decide, by decide⟩ rfl hl.1 rfl (Nat.le_of_ble_eq_true rfl) (Nat.zero_le _) (Nat.zero_le _) dX6_ways_8) (fun y1 H locs hS h => ?_)
  exact h_lret Z hS dX6_ways_11 h
end
theorem dX6_divisor_0 : decode cX6_divisor 0 = .ok (.lload_n 2, 1) := by decide +kernel
theorem dX6_divisor_1 : decode cX6_divisor 1 = .ok (.lconst 0, 1) := by decide +kernel
theorem dX6_divisor_2 : decode cX6_divisor 2 = .ok (.lcmp, 1) := by decide +kernel
theorem dX6_divisor_3 : decode cX6_divisor 3 = .ok (.ifCond .ne 7, 3) := by decide +kernel
theorem dX6_divisor_6 : decode cX6_divisor 6 = .ok (.lload_n 0, 1) := by decide +kernel
theorem dX6_divisor_7 : decode cX6_divisor 7 = .ok (.goto 10, 3) := by decide +kernel
theorem dX6_divisor_10 : decode cX6_divisor 10 = .ok (.lload_n 2, 1) := by decide +kernel
theorem dX6_divisor_11 : decode cX6_divisor 11 = .ok (.lload_n 0, 1) := by decide +kernel
theorem dX6_divisor_12 : decode cX6_divisor 12 = .ok (.lload_n 2, 1) := by decide +kernel
theorem dX6_divisor_13 : decode cX6_divisor 13 = .ok (.lrem, 1) := by decide +kernel
theorem dX6_divisor_14 : decode cX6_divisor 14 = .ok (.invokestatic 363, 3) := by decide +kernel
theorem dX6_divisor_17 : decode cX6_divisor 17 = .ok (.lreturn, 1) := by decide +kernel
abbrev rm_X6_divisor_b (qf ql : Nat) : Room := k2_rm (qf + 1) (ql + 23)
section
variable {p : Program} {l : Launch} {e : Env} {s : State} {m : MethodId} {args : Array Value} {below : List Frame} {meth : Method} {c : Code} {D : gD} {A : Nat → Prop} {ad : Nat → Nat} {S : Nat → Nat × Nat} {σ : Mem}
set_option maxRecDepth 100000 in
set_option maxHeartbeats 4000000 in
theorem w_X6_divisor_b {rec : Mem → Int64 → Int64 → Option Int64} {qf ql : Nat} (hrec : ∀ (σ : Mem) (a1 : Int64) (a2 : Int64) (r : Int64), rec σ a1 a2 = some r → Met l yX6_divisor (ws_ yX6_divisor cX6_divisor 4 (some .long)) (k2_rm qf ql) (va_Pc [.long a1, .long a2] (PreG D (Ew D A) A ad S σ)) (QG D A ad S (some (.long r)) σ) 0 0 A) {a1 : Int64} {a2 : Int64} {r : Int64} (h : f_X6_divisor_b rec σ a1 a2 = some r) : Met l yX6_divisor (ws_ yX6_divisor cX6_divisor 4 (some .long)) (rm_X6_divisor_b qf ql) (va_Pc [.long a1, .long a2] (PreG D (Ew D A) A ad S σ)) (QG D A ad S (some (.long r)) σ) 0 0 A := by
  refine y_met (by decide) (Nat.le_of_ble_eq_true rfl) (fun p e s m below meth c ls Z hS hl => ?_)
  have hx := Z.1
  have hb := Z.2.1
  have hown := Z.2.2.2.2.2.1
  have hts := Z.2.2.2.2.2.2.1
  unfold f_X6_divisor_b at h
  refine lv_lload_n hx hb dX6_divisor_0 rfl (lv_at hl 1 rfl) ?_
  refine lv_lconst (v := (0 : Int64)) hx hb dX6_divisor_1 (by decide) ?_
  refine y_lcmp_ne (tgt := 10) hx hb dX6_divisor_2 dX6_divisor_3 (by decide) (fun c1 => ?_) (fun c1 => ?_)
  · have h := if_f h c1
    refine lv_lload_n hx hb dX6_divisor_10 rfl (lv_at hl 1 rfl) ?_
    refine lv_lload_n hx hb dX6_divisor_11 rfl (lv_at hl 0 rfl) ?_
    refine lv_lload_n hx hb dX6_divisor_12 rfl (lv_at hl 1 rfl) ?_
    refine h_lrem Z dX6_divisor_13 h (fun h => ?_)
    refine h_cl hS h (fun z hz => h_rS (rest := []) Z hS v_X6_363 (hrec _ _ _ _ hz) rfl rfl ⟨by show qf + 0 + 1 ≤ qf + 1; omega, by show 8 + (4 + 11) + (ql + 0) ≤ ql + 23; omega⟩ rfl hl.1 rfl (Nat.le_of_ble_eq_true rfl) (Nat.zero_le _) (Nat.zero_le _) dX6_divisor_14) (fun y2 H locs hS h => ?_)
    exact h_lret Z hS dX6_divisor_17 h
  · have h := if_t h c1
    refine lv_lload_n hx hb dX6_divisor_6 rfl (lv_at hl 0 rfl) ?_
    refine lv_goto (tgt := 17) hx hb dX6_divisor_7 (by decide) ?_
    exact h_lret Z hS dX6_divisor_17 h
def rmr_X6_divisor : Nat → Nat × Nat
 | 0 => (0, 0)
 | d + 1 => ((rmr_X6_divisor d).1 + 1, (rmr_X6_divisor d).2 + 23)
theorem w_X6_divisor : ∀ (d : Nat) (σ : Mem) (a1 : Int64) (a2 : Int64) (r : Int64), f_X6_divisor d σ a1 a2 = some r → Met l yX6_divisor (ws_ yX6_divisor cX6_divisor 4 (some .long)) (k2_rm (rmr_X6_divisor d).1 (rmr_X6_divisor d).2) (va_Pc [.long a1, .long a2] (PreG D (Ew D A) A ad S σ)) (QG D A ad S (some (.long r)) σ) 0 0 A := by
  intro d
  induction d with
  | zero => intro σ a1 a2 r h; cases h
  | succ d ih => intro σ a1 a2 r h; exact w_X6_divisor_b (qf := (rmr_X6_divisor d).1) (ql := (rmr_X6_divisor d).2) ih h
end
theorem dX6_share_0 : decode cX6_share 0 = .ok (.iload_n 1, 1) := by decide +kernel
theorem dX6_share_1 : decode cX6_share 1 = .ok (.iconst 1, 1) := by decide +kernel
theorem dX6_share_2 : decode cX6_share 2 = .ok (.bipush 60, 2) := by decide +kernel
theorem dX6_share_4 : decode cX6_share 4 = .ok (.invokestatic 161, 3) := by decide +kernel
theorem dX6_share_7 : decode cX6_share 7 = .ok (.ifCond .eq 31, 3) := by decide +kernel
theorem dX6_share_10 : decode cX6_share 10 = .ok (.iload_n 2, 1) := by decide +kernel
theorem dX6_share_11 : decode cX6_share 11 = .ok (.iconst 0, 1) := by decide +kernel
theorem dX6_share_12 : decode cX6_share 12 = .ok (.iload_n 1, 1) := by decide +kernel
theorem dX6_share_13 : decode cX6_share 13 = .ok (.invokestatic 161, 3) := by decide +kernel
theorem dX6_share_16 : decode cX6_share 16 = .ok (.ifCond .eq 22, 3) := by decide +kernel
theorem dX6_share_19 : decode cX6_share 19 = .ok (.iload_n 3, 1) := by decide +kernel
theorem dX6_share_20 : decode cX6_share 20 = .ok (.iconst 0, 1) := by decide +kernel
theorem dX6_share_21 : decode cX6_share 21 = .ok (.iload_n 1, 1) := by decide +kernel
theorem dX6_share_22 : decode cX6_share 22 = .ok (.invokestatic 161, 3) := by decide +kernel
theorem dX6_share_25 : decode cX6_share 25 = .ok (.ifCond .eq 13, 3) := by decide +kernel
theorem dX6_share_28 : decode cX6_share 28 = .ok (.iload 4, 2) := by decide +kernel
theorem dX6_share_30 : decode cX6_share 30 = .ok (.iconst 0, 1) := by decide +kernel
theorem dX6_share_31 : decode cX6_share 31 = .ok (.iconst 1, 1) := by decide +kernel
theorem dX6_share_32 : decode cX6_share 32 = .ok (.invokestatic 161, 3) := by decide +kernel
theorem dX6_share_35 : decode cX6_share 35 = .ok (.ifCond .ne 7, 3) := by decide +kernel
theorem dX6_share_38 : decode cX6_share 38 = .ok (.ldc2_w 366, 3) := by decide +kernel
theorem dX6_share_41 : decode cX6_share 41 = .ok (.lreturn, 1) := by decide +kernel
theorem dX6_share_42 : decode cX6_share 42 = .ok (.iload_n 3, 1) := by decide +kernel
theorem dX6_share_43 : decode cX6_share 43 = .ok (.iload_n 1, 1) := by decide +kernel
theorem dX6_share_44 : decode cX6_share 44 = .ok (.iload_n 2, 1) := by decide +kernel
theorem dX6_share_45 : decode cX6_share 45 = .ok (.isub, 1) := by decide +kernel
theorem dX6_share_46 : decode cX6_share 46 = .ok (.if_icmp .le 7, 3) := by decide +kernel
theorem dX6_share_49 : decode cX6_share 49 = .ok (.lconst 0, 1) := by decide +kernel
theorem dX6_share_50 : decode cX6_share 50 = .ok (.goto 10, 3) := by decide +kernel
theorem dX6_share_53 : decode cX6_share 53 = .ok (.iload_n 1, 1) := by decide +kernel
theorem dX6_share_54 : decode cX6_share 54 = .ok (.iload_n 2, 1) := by decide +kernel
theorem dX6_share_55 : decode cX6_share 55 = .ok (.isub, 1) := by decide +kernel
theorem dX6_share_56 : decode cX6_share 56 = .ok (.iload_n 3, 1) := by decide +kernel
theorem dX6_share_57 : decode cX6_share 57 = .ok (.invokestatic 368, 3) := by decide +kernel
theorem dX6_share_60 : decode cX6_share 60 = .ok (.lstore 5, 2) := by decide +kernel
theorem dX6_share_62 : decode cX6_share 62 = .ok (.iload_n 1, 1) := by decide +kernel
theorem dX6_share_63 : decode cX6_share 63 = .ok (.iload_n 3, 1) := by decide +kernel
theorem dX6_share_64 : decode cX6_share 64 = .ok (.invokestatic 368, 3) := by decide +kernel
theorem dX6_share_67 : decode cX6_share 67 = .ok (.lstore 7, 2) := by decide +kernel
theorem dX6_share_69 : decode cX6_share 69 = .ok (.lload 5, 2) := by decide +kernel
theorem dX6_share_71 : decode cX6_share 71 = .ok (.lload 7, 2) := by decide +kernel
theorem dX6_share_73 : decode cX6_share 73 = .ok (.invokestatic 363, 3) := by decide +kernel
theorem dX6_share_76 : decode cX6_share 76 = .ok (.lstore 9, 2) := by decide +kernel
theorem dX6_share_78 : decode cX6_share 78 = .ok (.iload 4, 2) := by decide +kernel
theorem dX6_share_80 : decode cX6_share 80 = .ok (.ifCond .ne 11, 3) := by decide +kernel
theorem dX6_share_83 : decode cX6_share 83 = .ok (.lload 5, 2) := by decide +kernel
theorem dX6_share_85 : decode cX6_share 85 = .ok (.lload 9, 2) := by decide +kernel
theorem dX6_share_87 : decode cX6_share 87 = .ok (.ldiv, 1) := by decide +kernel
theorem dX6_share_88 : decode cX6_share 88 = .ok (.goto 8, 3) := by decide +kernel
theorem dX6_share_91 : decode cX6_share 91 = .ok (.lload 7, 2) := by decide +kernel
theorem dX6_share_93 : decode cX6_share 93 = .ok (.lload 9, 2) := by decide +kernel
theorem dX6_share_95 : decode cX6_share 95 = .ok (.ldiv, 1) := by decide +kernel
theorem dX6_share_96 : decode cX6_share 96 = .ok (.lreturn, 1) := by decide +kernel
abbrev rm_X6_share : Room := k2_rm 121 2783
section
variable {p : Program} {l : Launch} {e : Env} {s : State} {m : MethodId} {args : Array Value} {below : List Frame} {meth : Method} {c : Code} {D : gD} {A : Nat → Prop} {ad : Nat → Nat} {S : Nat → Nat × Nat} {σ : Mem}
set_option maxRecDepth 100000 in
set_option maxHeartbeats 4000000 in
theorem w_X6_share {a1 : Int32} {a2 : Int32} {a3 : Int32} {a4 : Int32} (hi0 : S 200 = (24, 0)) {r : Int64} (h : f_X6_share σ a1 a2 a3 a4 = some r) : Met l yX6_share (ws_ yX6_share cX6_share 11 (some .long)) rm_X6_share (va_Pc [.ref (ad 200), .int a1, .int a2, .int a3, .int a4] (PreG D (Ew D A) A ad S σ)) (QG D A ad S (some (.long r)) σ) 0 0 A := by
  refine y_met (by decide) (Nat.le_of_ble_eq_true rfl) (fun p e s m below meth c ls Z hS hl => ?_)
  have hx := Z.1
  have hb := Z.2.1
  have hown := Z.2.2.2.2.2.1
  have hts := Z.2.2.2.2.2.2.1
  unfold f_X6_share at h
  refine lv_iload_n hx hb dX6_share_0 rfl (lv_at hl 1 rfl) ?_
  refine lv_iconst (v := (1 : Int32)) hx hb dX6_share_1 (by decide) ?_
  refine lv_bipush (v := (60 : Int32)) hx hb dX6_share_2 (by decide) ?_
  refine h_ci hS h (fun z hz => h_rS (rest := []) Z hS v_X6_161 (w_X6_in hz) rfl rfl ⟨by decide, by decide⟩ rfl hl.1 rfl (Nat.le_of_ble_eq_true rfl) (Nat.zero_le _) (Nat.zero_le _) dX6_share_4) (fun x1 H locs hS h => ?_)
  refine lv_if_eq (tgt := 38) hx hb dX6_share_7 (by decide) (fun c2 => ?_) (fun c2 => ?_)
  · have h := if_t h c2
    refine lv_ldc2 (v := (-1 : Int64)) hx hb hown (hts _ q1656) dX6_share_38 ?_
    exact h_lret Z hS dX6_share_41 h
  · have h := if_f h c2
    refine lv_iload_n hx hb dX6_share_10 rfl (lv_at hl 2 rfl) ?_
    refine lv_iconst (v := (0 : Int32)) hx hb dX6_share_11 (by decide) ?_
    refine lv_iload_n hx hb dX6_share_12 rfl (lv_at hl 1 rfl) ?_
    refine h_ci hS h (fun z hz => h_rS (rest := []) Z hS v_X6_161 (w_X6_in hz) rfl rfl ⟨by decide, by decide⟩ rfl hl.1 rfl (Nat.le_of_ble_eq_true rfl) (Nat.zero_le _) (Nat.zero_le _) dX6_share_13) (fun x3 H locs hS h => ?_)
    refine lv_if_eq (tgt := 38) hx hb dX6_share_16 (by decide) (fun c4 => ?_) (fun c4 => ?_)
    · have h := if_t h c4
      refine lv_ldc2 (v := (-1 : Int64)) hx hb hown (hts _ q1656) dX6_share_38 ?_
      exact h_lret Z hS dX6_share_41 h
    · have h := if_f h c4
      refine lv_iload_n hx hb dX6_share_19 rfl (lv_at hl 3 rfl) ?_
      refine lv_iconst (v := (0 : Int32)) hx hb dX6_share_20 (by decide) ?_
      refine lv_iload_n hx hb dX6_share_21 rfl (lv_at hl 1 rfl) ?_
      refine h_ci hS h (fun z hz => h_rS (rest := []) Z hS v_X6_161 (w_X6_in hz) rfl rfl ⟨by decide, by decide⟩ rfl hl.1 rfl (Nat.le_of_ble_eq_true rfl) (Nat.zero_le _) (Nat.zero_le _) dX6_share_22) (fun x5 H locs hS h => ?_)
      refine lv_if_eq (tgt := 38) hx hb dX6_share_25 (by decide) (fun c6 => ?_) (fun c6 => ?_)
      · have h := if_t h c6
        refine lv_ldc2 (v := (-1 : Int64)) hx hb hown (hts _ q1656) dX6_share_38 ?_
        exact h_lret Z hS dX6_share_41 h
      · have h := if_f h c6
        refine lv_iload hx hb dX6_share_28 (lv_at hl 4 rfl) ?_
        refine lv_iconst (v := (0 : Int32)) hx hb dX6_share_30 (by decide) ?_
        refine lv_iconst (v := (1 : Int32)) hx hb dX6_share_31 (by decide) ?_
        refine h_ci hS h (fun z hz => h_rS (rest := []) Z hS v_X6_161 (w_X6_in hz) rfl rfl ⟨by decide, by decide⟩ rfl hl.1 rfl (Nat.le_of_ble_eq_true rfl) (Nat.zero_le _) (Nat.zero_le _) dX6_share_32) (fun x7 H locs hS h => ?_)
        refine lv_if_ne (tgt := 42) hx hb dX6_share_35 (by decide) (fun c8 => ?_) (fun c8 => ?_)
        · have h := if_f h c8
          refine lv_iload_n hx hb dX6_share_42 rfl (lv_at hl 3 rfl) ?_
          refine lv_iload_n hx hb dX6_share_43 rfl (lv_at hl 1 rfl) ?_
          refine lv_iload_n hx hb dX6_share_44 rfl (lv_at hl 2 rfl) ?_
          refine lv_isub hx hb dX6_share_45 ?_
          obtain ⟨y10, hp11, h⟩ := bnd_el h
          have K11 : ∀ (H : Heap) (locs : List Loc) (ls : Array Slot), St D A ad S σ s.heap H locs → lv_has ls 11 [(1, .int a1), (3, .int a3), (4, .int a4)] → W p l e rm_X6_share s m ([.ref (ad 200), .int a1, .int a2, .int a3, .int a4] : List Value).toArray below meth c H locs 0 0 (MQ below (QG D A ad S (some (.long r)) σ) ([.ref (ad 200), .int a1, .int a2, .int a3, .int a4] : List Value).toArray s 0 0 A) (F0 m 60 ls [.long y10]) := by
            intro H locs ls hS hl
            refine lv_lstore (lv' := [(5, .long y10), (1, .int a1), (3, .int a3), (4, .int a4)]) hx hb dX6_share_60 hl (by decide) rfl (fun ls hl => ?_)
            refine lv_iload_n hx hb dX6_share_62 rfl (lv_at hl 1 rfl) ?_
            refine lv_iload_n hx hb dX6_share_63 rfl (lv_at hl 2 rfl) ?_
            refine h_cl hS h (fun z hz => h_rS (rest := []) Z hS v_X6_368 (w_X6_ways hz) rfl rfl ⟨by decide, by decide⟩ rfl hl.1 rfl (Nat.le_of_ble_eq_true rfl) (Nat.zero_le _) (Nat.zero_le _) dX6_share_64) (fun y12 H locs hS h => ?_)
            refine lv_lstore (lv' := [(7, .long y12), (5, .long y10), (1, .int a1), (3, .int a3), (4, .int a4)]) hx hb dX6_share_67 hl (by decide) rfl (fun ls hl => ?_)
            refine lv_lload hx hb dX6_share_69 (lv_at hl 1 rfl) ?_
            refine lv_lload hx hb dX6_share_71 (lv_at hl 0 rfl) ?_
            refine h_cl hS h (fun z hz => h_rS (rest := []) Z hS v_X6_363 (w_X6_divisor 120 _ _ _ _ hz) rfl rfl ⟨by decide, by decide⟩ rfl hl.1 rfl (Nat.le_of_ble_eq_true rfl) (Nat.zero_le _) (Nat.zero_le _) dX6_share_73) (fun y13 H locs hS h => ?_)
            refine lv_lstore (lv' := [(9, .long y13), (7, .long y12), (5, .long y10), (1, .int a1), (3, .int a3), (4, .int a4)]) hx hb dX6_share_76 hl (by decide) rfl (fun ls hl => ?_)
            refine lv_iload hx hb dX6_share_78 (lv_at hl 5 rfl) ?_
            refine lv_if_ne (tgt := 91) hx hb dX6_share_80 (by decide) (fun c14 => ?_) (fun c14 => ?_)
            · have h := if_f h c14
              refine lv_lload hx hb dX6_share_91 (lv_at hl 1 rfl) ?_
              refine lv_lload hx hb dX6_share_93 (lv_at hl 0 rfl) ?_
              refine h_ldiv Z dX6_share_95 h (fun h => ?_)
              exact h_lret Z hS dX6_share_96 h
            · have h := if_t h c14
              refine lv_lload hx hb dX6_share_83 (lv_at hl 2 rfl) ?_
              refine lv_lload hx hb dX6_share_85 (lv_at hl 0 rfl) ?_
              refine h_ldiv Z dX6_share_87 h (fun h => ?_)
              refine lv_goto (tgt := 96) hx hb dX6_share_88 (by decide) ?_
              exact h_lret Z hS dX6_share_96 h
          clear h
          have h := hp11
          clear hp11
          refine lv_icmp_le (tgt := 53) hx hb dX6_share_46 (by decide) (fun c9 => ?_) (fun c9 => ?_)
          · have h := if_t h c9
            refine lv_iload_n hx hb dX6_share_53 rfl (lv_at hl 1 rfl) ?_
            refine lv_iload_n hx hb dX6_share_54 rfl (lv_at hl 2 rfl) ?_
            refine lv_isub hx hb dX6_share_55 ?_
            refine lv_iload_n hx hb dX6_share_56 rfl (lv_at hl 3 rfl) ?_
            refine h_cl hS h (fun z hz => h_rS (rest := []) Z hS v_X6_368 (w_X6_ways hz) rfl rfl ⟨by decide, by decide⟩ rfl hl.1 rfl (Nat.le_of_ble_eq_true rfl) (Nat.zero_le _) (Nat.zero_le _) dX6_share_57) (fun y15 H locs hS h => ?_)
            cases h
            exact K11 _ _ _ hS (lv_sub hl [1, 3, 4] rfl)
          · have h := if_f h c9
            refine lv_lconst (v := (0 : Int64)) hx hb dX6_share_49 (by decide) ?_
            refine lv_goto (tgt := 60) hx hb dX6_share_50 (by decide) ?_
            cases h
            exact K11 _ _ _ hS (lv_sub hl [1, 3, 4] rfl)
        · have h := if_t h c8
          refine lv_ldc2 (v := (-1 : Int64)) hx hb hown (hts _ q1656) dX6_share_38 ?_
          exact h_lret Z hS dX6_share_41 h
end
theorem dX6_drops_0 : decode cX6_drops 0 = .ok (.iload_n 1, 1) := by decide +kernel
theorem dX6_drops_1 : decode cX6_drops 1 = .ok (.iconst 1, 1) := by decide +kernel
theorem dX6_drops_2 : decode cX6_drops 2 = .ok (.bipush 60, 2) := by decide +kernel
theorem dX6_drops_4 : decode cX6_drops 4 = .ok (.invokestatic 161, 3) := by decide +kernel
theorem dX6_drops_7 : decode cX6_drops 7 = .ok (.ifCond .eq 23, 3) := by decide +kernel
theorem dX6_drops_10 : decode cX6_drops 10 = .ok (.iload_n 2, 1) := by decide +kernel
theorem dX6_drops_11 : decode cX6_drops 11 = .ok (.iconst 0, 1) := by decide +kernel
theorem dX6_drops_12 : decode cX6_drops 12 = .ok (.iload_n 1, 1) := by decide +kernel
theorem dX6_drops_13 : decode cX6_drops 13 = .ok (.invokestatic 161, 3) := by decide +kernel
theorem dX6_drops_16 : decode cX6_drops 16 = .ok (.ifCond .eq 14, 3) := by decide +kernel
theorem dX6_drops_19 : decode cX6_drops 19 = .ok (.iload_n 3, 1) := by decide +kernel
theorem dX6_drops_20 : decode cX6_drops 20 = .ok (.iconst 1, 1) := by decide +kernel
theorem dX6_drops_21 : decode cX6_drops 21 = .ok (.ldc_w 329, 3) := by decide +kernel
theorem dX6_drops_24 : decode cX6_drops 24 = .ok (.invokestatic 161, 3) := by decide +kernel
theorem dX6_drops_27 : decode cX6_drops 27 = .ok (.ifCond .ne 5, 3) := by decide +kernel
theorem dX6_drops_30 : decode cX6_drops 30 = .ok (.iconst (-1), 1) := by decide +kernel
theorem dX6_drops_31 : decode cX6_drops 31 = .ok (.ireturn, 1) := by decide +kernel
theorem dX6_drops_32 : decode cX6_drops 32 = .ok (.iconst 0, 1) := by decide +kernel
theorem dX6_drops_33 : decode cX6_drops 33 = .ok (.istore 4, 2) := by decide +kernel
theorem dX6_drops_35 : decode cX6_drops 35 = .ok (.iload 4, 2) := by decide +kernel
theorem dX6_drops_37 : decode cX6_drops 37 = .ok (.iload_n 1, 1) := by decide +kernel
theorem dX6_drops_38 : decode cX6_drops 38 = .ok (.if_icmp .gt 49, 3) := by decide +kernel
theorem dX6_drops_41 : decode cX6_drops 41 = .ok (.iload 4, 2) := by decide +kernel
theorem dX6_drops_43 : decode cX6_drops 43 = .ok (.iload_n 1, 1) := by decide +kernel
theorem dX6_drops_44 : decode cX6_drops 44 = .ok (.iload_n 2, 1) := by decide +kernel
theorem dX6_drops_45 : decode cX6_drops 45 = .ok (.isub, 1) := by decide +kernel
theorem dX6_drops_46 : decode cX6_drops 46 = .ok (.if_icmp .le 7, 3) := by decide +kernel
theorem dX6_drops_49 : decode cX6_drops 49 = .ok (.lconst 0, 1) := by decide +kernel
theorem dX6_drops_50 : decode cX6_drops 50 = .ok (.goto 11, 3) := by decide +kernel
theorem dX6_drops_53 : decode cX6_drops 53 = .ok (.iload_n 1, 1) := by decide +kernel
theorem dX6_drops_54 : decode cX6_drops 54 = .ok (.iload_n 2, 1) := by decide +kernel
theorem dX6_drops_55 : decode cX6_drops 55 = .ok (.isub, 1) := by decide +kernel
theorem dX6_drops_56 : decode cX6_drops 56 = .ok (.iload 4, 2) := by decide +kernel
theorem dX6_drops_58 : decode cX6_drops 58 = .ok (.invokestatic 368, 3) := by decide +kernel
theorem dX6_drops_61 : decode cX6_drops 61 = .ok (.lstore 5, 2) := by decide +kernel
theorem dX6_drops_63 : decode cX6_drops 63 = .ok (.lload 5, 2) := by decide +kernel
theorem dX6_drops_65 : decode cX6_drops 65 = .ok (.iload_n 1, 1) := by decide +kernel
theorem dX6_drops_66 : decode cX6_drops 66 = .ok (.iload 4, 2) := by decide +kernel
theorem dX6_drops_68 : decode cX6_drops 68 = .ok (.invokestatic 368, 3) := by decide +kernel
theorem dX6_drops_71 : decode cX6_drops 71 = .ok (.iload_n 3, 1) := by decide +kernel
theorem dX6_drops_72 : decode cX6_drops 72 = .ok (.i2l, 1) := by decide +kernel
theorem dX6_drops_73 : decode cX6_drops 73 = .ok (.ldiv, 1) := by decide +kernel
theorem dX6_drops_74 : decode cX6_drops 74 = .ok (.lcmp, 1) := by decide +kernel
theorem dX6_drops_75 : decode cX6_drops 75 = .ok (.ifCond .gt 6, 3) := by decide +kernel
theorem dX6_drops_78 : decode cX6_drops 78 = .ok (.iload 4, 2) := by decide +kernel
theorem dX6_drops_80 : decode cX6_drops 80 = .ok (.ireturn, 1) := by decide +kernel
theorem dX6_drops_81 : decode cX6_drops 81 = .ok (.iinc 4 1, 3) := by decide +kernel
theorem dX6_drops_84 : decode cX6_drops 84 = .ok (.goto (-49), 3) := by decide +kernel
theorem dX6_drops_87 : decode cX6_drops 87 = .ok (.iconst (-1), 1) := by decide +kernel
theorem dX6_drops_88 : decode cX6_drops 88 = .ok (.ireturn, 1) := by decide +kernel
abbrev rm_X6_drops : Room := k2_rm 2 45
section
variable {p : Program} {l : Launch} {e : Env} {s : State} {m : MethodId} {args : Array Value} {below : List Frame} {meth : Method} {c : Code} {D : gD} {A : Nat → Prop} {ad : Nat → Nat} {S : Nat → Nat × Nat} {σ : Mem}
set_option maxRecDepth 100000 in
set_option maxHeartbeats 4000000 in
theorem w_X6_drops_L35 (Z : Cz D (Ew D A) A cX6_drops 7 (some .int) RX6 p s m args meth c) {u1 : Int32} {u2 : Int32} {u3 : Int32} {r : Int32} {k78 : Int32 → Option Int32} {k87 : Option Int32}
    (hk78 : ∀ (w4 : Int32) (H : Heap) (locs : List Loc) (ls : Array Slot), St D A ad S σ s.heap H locs → lv_has ls 7 [(4, .int w4)] → k78 w4 = some r → W p l e rm_X6_drops s m args below meth c H locs 0 0 (MQ below (QG D A ad S (some (.int r)) σ) args s 0 0 A) (F0 m 78 ls []))
    (hk87 : ∀  (H : Heap) (locs : List Loc) (ls : Array Slot), St D A ad S σ s.heap H locs → lv_has ls 7 [] → k87 = some r → W p l e rm_X6_drops s m args below meth c H locs 0 0 (MQ below (QG D A ad S (some (.int r)) σ) args s 0 0 A) (F0 m 87 ls [])) :
    ∀ (n : Nat) (v4 : Int32) (H : Heap) (locs : List Loc) (ls : Array Slot), St D A ad S σ s.heap H locs → lv_has ls 7 [(1, .int u1), (2, .int u2), (3, .int u3), (4, .int v4)] → f_X6_drops_L35 k78 k87 σ u1 u2 u3 n v4 = some r → W p l e rm_X6_drops s m args below meth c H locs 0 0 (MQ below (QG D A ad S (some (.int r)) σ) args s 0 0 A) (F0 m 35 ls []) := by
  have hx := Z.1
  have hb := Z.2.1
  have hown := Z.2.2.2.2.2.1
  have hts := Z.2.2.2.2.2.2.1
  intro n
  induction n with
  | zero => intro v4 H locs ls hS hl h; cases h
  | succ n ih =>
    intro v4 H locs ls hS hl h
    unfold f_X6_drops_L35 at h
    refine lv_iload hx hb dX6_drops_35 (lv_at hl 3 rfl) ?_
    refine lv_iload_n hx hb dX6_drops_37 rfl (lv_at hl 0 rfl) ?_
    refine lv_icmp_gt (tgt := 87) hx hb dX6_drops_38 (by decide) (fun c7 => ?_) (fun c7 => ?_)
    · have h := if_t h c7
      exact hk87  _ _ _ hS (lv_sub hl [] rfl) h
    · have h := if_f h c7
      refine lv_iload hx hb dX6_drops_41 (lv_at hl 3 rfl) ?_
      refine lv_iload_n hx hb dX6_drops_43 rfl (lv_at hl 0 rfl) ?_
      refine lv_iload_n hx hb dX6_drops_44 rfl (lv_at hl 1 rfl) ?_
      refine lv_isub hx hb dX6_drops_45 ?_
      obtain ⟨y9, hp10, h⟩ := bnd_el h
      have K10 : ∀ (H : Heap) (locs : List Loc) (ls : Array Slot), St D A ad S σ s.heap H locs → lv_has ls 7 [(1, .int u1), (2, .int u2), (3, .int u3), (4, .int v4)] → W p l e rm_X6_drops s m args below meth c H locs 0 0 (MQ below (QG D A ad S (some (.int r)) σ) args s 0 0 A) (F0 m 61 ls [.long y9]) := by
        intro H locs ls hS hl
        refine lv_lstore (lv' := [(5, .long y9), (1, .int u1), (2, .int u2), (3, .int u3), (4, .int v4)]) hx hb dX6_drops_61 hl (by decide) rfl (fun ls hl => ?_)
        refine lv_lload hx hb dX6_drops_63 (lv_at hl 0 rfl) ?_
        refine lv_iload_n hx hb dX6_drops_65 rfl (lv_at hl 1 rfl) ?_
        refine lv_iload hx hb dX6_drops_66 (lv_at hl 4 rfl) ?_
        refine h_cl hS h (fun z hz => h_rS (rest := [.long y9]) Z hS v_X6_368 (w_X6_ways hz) rfl rfl ⟨by decide, by decide⟩ rfl hl.1 rfl (Nat.le_of_ble_eq_true rfl) (Nat.zero_le _) (Nat.zero_le _) dX6_drops_68) (fun y11 H locs hS h => ?_)
        refine lv_iload_n hx hb dX6_drops_71 rfl (lv_at hl 3 rfl) ?_
        refine lv_i2l hx hb dX6_drops_72 rfl ?_
        refine h_ldiv Z dX6_drops_73 h (fun h => ?_)
        refine y_lcmp_gt (tgt := 81) hx hb dX6_drops_74 dX6_drops_75 (by decide) (fun c12 => ?_) (fun c12 => ?_)
        · have h := if_t h c12
          refine lv_iinc (v := (v4 + (1 : Int32))) (lv' := [(4, .int (v4 + (1 : Int32))), (5, .long y9), (1, .int u1), (2, .int u2), (3, .int u3)]) hx hb dX6_drops_81 hl (k := 4) rfl rfl (by decide) rfl (fun ls hl => ?_)
          refine lv_goto (tgt := 35) hx hb dX6_drops_84 (by decide) ?_
          exact ih _ _ _ _ hS (lv_sub hl [2, 3, 4, 0] rfl) h
        · have h := if_f h c12
          exact hk78 _ _ _ _ hS (lv_sub hl [4] rfl) h
      clear h
      have h := hp10
      clear hp10
      refine lv_icmp_le (tgt := 53) hx hb dX6_drops_46 (by decide) (fun c8 => ?_) (fun c8 => ?_)
      · have h := if_t h c8
        refine lv_iload_n hx hb dX6_drops_53 rfl (lv_at hl 0 rfl) ?_
        refine lv_iload_n hx hb dX6_drops_54 rfl (lv_at hl 1 rfl) ?_
        refine lv_isub hx hb dX6_drops_55 ?_
        refine lv_iload hx hb dX6_drops_56 (lv_at hl 3 rfl) ?_
        refine h_cl hS h (fun z hz => h_rS (rest := []) Z hS v_X6_368 (w_X6_ways hz) rfl rfl ⟨by decide, by decide⟩ rfl hl.1 rfl (Nat.le_of_ble_eq_true rfl) (Nat.zero_le _) (Nat.zero_le _) dX6_drops_58) (fun y13 H locs hS h => ?_)
        cases h
        exact K10 _ _ _ hS (lv_sub hl [0, 1, 2, 3] rfl)
      · have h := if_f h c8
        refine lv_lconst (v := (0 : Int64)) hx hb dX6_drops_49 (by decide) ?_
        refine lv_goto (tgt := 61) hx hb dX6_drops_50 (by decide) ?_
        cases h
        exact K10 _ _ _ hS (lv_sub hl [0, 1, 2, 3] rfl)
set_option maxRecDepth 100000 in
set_option maxHeartbeats 4000000 in
theorem w_X6_drops {a1 : Int32} {a2 : Int32} {a3 : Int32} (hi0 : S 200 = (24, 0)) {r : Int32} (h : f_X6_drops σ a1 a2 a3 = some r) : Met l yX6_drops (ws_ yX6_drops cX6_drops 7 (some .int)) rm_X6_drops (va_Pc [.ref (ad 200), .int a1, .int a2, .int a3] (PreG D (Ew D A) A ad S σ)) (QG D A ad S (some (.int r)) σ) 0 0 A := by
  refine y_met (by decide) (Nat.le_of_ble_eq_true rfl) (fun p e s m below meth c ls Z hS hl => ?_)
  have hx := Z.1
  have hb := Z.2.1
  have hown := Z.2.2.2.2.2.1
  have hts := Z.2.2.2.2.2.2.1
  unfold f_X6_drops at h
  refine lv_iload_n hx hb dX6_drops_0 rfl (lv_at hl 1 rfl) ?_
  refine lv_iconst (v := (1 : Int32)) hx hb dX6_drops_1 (by decide) ?_
  refine lv_bipush (v := (60 : Int32)) hx hb dX6_drops_2 (by decide) ?_
  refine h_ci hS h (fun z hz => h_rS (rest := []) Z hS v_X6_161 (w_X6_in hz) rfl rfl ⟨by decide, by decide⟩ rfl hl.1 rfl (Nat.le_of_ble_eq_true rfl) (Nat.zero_le _) (Nat.zero_le _) dX6_drops_4) (fun x1 H locs hS h => ?_)
  refine lv_if_eq (tgt := 30) hx hb dX6_drops_7 (by decide) (fun c2 => ?_) (fun c2 => ?_)
  · have h := if_t h c2
    refine lv_iconst (v := (-1 : Int32)) hx hb dX6_drops_30 (by decide) ?_
    exact h_iret Z hS dX6_drops_31 h
  · have h := if_f h c2
    refine lv_iload_n hx hb dX6_drops_10 rfl (lv_at hl 2 rfl) ?_
    refine lv_iconst (v := (0 : Int32)) hx hb dX6_drops_11 (by decide) ?_
    refine lv_iload_n hx hb dX6_drops_12 rfl (lv_at hl 1 rfl) ?_
    refine h_ci hS h (fun z hz => h_rS (rest := []) Z hS v_X6_161 (w_X6_in hz) rfl rfl ⟨by decide, by decide⟩ rfl hl.1 rfl (Nat.le_of_ble_eq_true rfl) (Nat.zero_le _) (Nat.zero_le _) dX6_drops_13) (fun x3 H locs hS h => ?_)
    refine lv_if_eq (tgt := 30) hx hb dX6_drops_16 (by decide) (fun c4 => ?_) (fun c4 => ?_)
    · have h := if_t h c4
      refine lv_iconst (v := (-1 : Int32)) hx hb dX6_drops_30 (by decide) ?_
      exact h_iret Z hS dX6_drops_31 h
    · have h := if_f h c4
      refine lv_iload_n hx hb dX6_drops_19 rfl (lv_at hl 3 rfl) ?_
      refine lv_iconst (v := (1 : Int32)) hx hb dX6_drops_20 (by decide) ?_
      refine lv_ldcw (v := (1000000 : Int32)) hx hb hown (hts _ q1607) dX6_drops_21 ?_
      refine h_ci hS h (fun z hz => h_rS (rest := []) Z hS v_X6_161 (w_X6_in hz) rfl rfl ⟨by decide, by decide⟩ rfl hl.1 rfl (Nat.le_of_ble_eq_true rfl) (Nat.zero_le _) (Nat.zero_le _) dX6_drops_24) (fun x5 H locs hS h => ?_)
      refine lv_if_ne (tgt := 32) hx hb dX6_drops_27 (by decide) (fun c6 => ?_) (fun c6 => ?_)
      · have h := if_f h c6
        refine lv_iconst (v := (0 : Int32)) hx hb dX6_drops_32 (by decide) ?_
        refine lv_istore (lv' := [(4, .int (0 : Int32)), (0, .ref (ad 200)), (1, .int a1), (2, .int a2), (3, .int a3)]) hx hb dX6_drops_33 hl (by decide) rfl (fun ls hl => ?_)
        refine w_X6_drops_L35 Z (fun x14 H locs ls hS hl h => ?_) (fun  H locs ls hS hl h => ?_) FU _ _ _ _ hS (lv_sub hl [2, 3, 4, 0] rfl) h
        · refine lv_iload hx hb dX6_drops_78 (lv_at hl 0 rfl) ?_
          exact h_iret Z hS dX6_drops_80 h
        · refine lv_iconst (v := (-1 : Int32)) hx hb dX6_drops_87 (by decide) ?_
          exact h_iret Z hS dX6_drops_88 h
      · have h := if_t h c6
        refine lv_iconst (v := (-1 : Int32)) hx hb dX6_drops_30 (by decide) ?_
        exact h_iret Z hS dX6_drops_31 h
end
theorem dX6_layer_0 : decode cX6_layer 0 = .ok (.iload_n 1, 1) := by decide +kernel
theorem dX6_layer_1 : decode cX6_layer 1 = .ok (.iconst 1, 1) := by decide +kernel
theorem dX6_layer_2 : decode cX6_layer 2 = .ok (.bipush 20, 2) := by decide +kernel
theorem dX6_layer_4 : decode cX6_layer 4 = .ok (.invokestatic 161, 3) := by decide +kernel
theorem dX6_layer_7 : decode cX6_layer 7 = .ok (.ifCond .eq 23, 3) := by decide +kernel
theorem dX6_layer_10 : decode cX6_layer 10 = .ok (.iload_n 2, 1) := by decide +kernel
theorem dX6_layer_11 : decode cX6_layer 11 = .ok (.iconst 1, 1) := by decide +kernel
theorem dX6_layer_12 : decode cX6_layer 12 = .ok (.sipush 1000, 3) := by decide +kernel
theorem dX6_layer_15 : decode cX6_layer 15 = .ok (.invokestatic 161, 3) := by decide +kernel
theorem dX6_layer_18 : decode cX6_layer 18 = .ok (.ifCond .eq 12, 3) := by decide +kernel
theorem dX6_layer_21 : decode cX6_layer 21 = .ok (.aload_n 0, 1) := by decide +kernel
theorem dX6_layer_22 : decode cX6_layer 22 = .ok (.getfield 375, 3) := by decide +kernel
theorem dX6_layer_25 : decode cX6_layer 25 = .ok (.bipush 6, 2) := by decide +kernel
theorem dX6_layer_27 : decode cX6_layer 27 = .ok (.if_icmp .ne 5, 3) := by decide +kernel
theorem dX6_layer_30 : decode cX6_layer 30 = .ok (.iconst (-1), 1) := by decide +kernel
theorem dX6_layer_31 : decode cX6_layer 31 = .ok (.ireturn, 1) := by decide +kernel
theorem dX6_layer_32 : decode cX6_layer 32 = .ok (.aload_n 0, 1) := by decide +kernel
theorem dX6_layer_33 : decode cX6_layer 33 = .ok (.getfield 126, 3) := by decide +kernel
theorem dX6_layer_36 : decode cX6_layer 36 = .ok (.aload_n 0, 1) := by decide +kernel
theorem dX6_layer_37 : decode cX6_layer 37 = .ok (.getfield 375, 3) := by decide +kernel
theorem dX6_layer_40 : decode cX6_layer 40 = .ok (.iload_n 1, 1) := by decide +kernel
theorem dX6_layer_41 : decode cX6_layer 41 = .ok (.iastore, 1) := by decide +kernel
theorem dX6_layer_42 : decode cX6_layer 42 = .ok (.aload_n 0, 1) := by decide +kernel
theorem dX6_layer_43 : decode cX6_layer 43 = .ok (.getfield 129, 3) := by decide +kernel
theorem dX6_layer_46 : decode cX6_layer 46 = .ok (.aload_n 0, 1) := by decide +kernel
theorem dX6_layer_47 : decode cX6_layer 47 = .ok (.getfield 375, 3) := by decide +kernel
theorem dX6_layer_50 : decode cX6_layer 50 = .ok (.iload_n 2, 1) := by decide +kernel
theorem dX6_layer_51 : decode cX6_layer 51 = .ok (.iastore, 1) := by decide +kernel
theorem dX6_layer_52 : decode cX6_layer 52 = .ok (.aload_n 0, 1) := by decide +kernel
theorem dX6_layer_53 : decode cX6_layer 53 = .ok (.dup, 1) := by decide +kernel
theorem dX6_layer_54 : decode cX6_layer 54 = .ok (.getfield 375, 3) := by decide +kernel
theorem dX6_layer_57 : decode cX6_layer 57 = .ok (.iconst 1, 1) := by decide +kernel
theorem dX6_layer_58 : decode cX6_layer 58 = .ok (.iadd, 1) := by decide +kernel
theorem dX6_layer_59 : decode cX6_layer 59 = .ok (.putfield 375, 3) := by decide +kernel
theorem dX6_layer_62 : decode cX6_layer 62 = .ok (.aload_n 0, 1) := by decide +kernel
theorem dX6_layer_63 : decode cX6_layer 63 = .ok (.getfield 375, 3) := by decide +kernel
theorem dX6_layer_66 : decode cX6_layer 66 = .ok (.iconst 1, 1) := by decide +kernel
theorem dX6_layer_67 : decode cX6_layer 67 = .ok (.isub, 1) := by decide +kernel
theorem dX6_layer_68 : decode cX6_layer 68 = .ok (.ireturn, 1) := by decide +kernel
abbrev rm_X6_layer : Room := k2_rm 1 22
section
variable {p : Program} {l : Launch} {e : Env} {s : State} {m : MethodId} {args : Array Value} {below : List Frame} {meth : Method} {c : Code} {D : gD} {A : Nat → Prop} {ad : Nat → Nat} {S : Nat → Nat × Nat} {σ : Mem}
set_option maxRecDepth 100000 in
set_option maxHeartbeats 4000000 in
theorem w_X6_layer {a1 : Int32} {a2 : Int32} (hi0 : S 200 = (24, 0)) {r : (Mem × Int32)} (h : f_X6_layer σ a1 a2 = some r) : Met l yX6_layer (ws_ yX6_layer cX6_layer 3 (some .int)) rm_X6_layer (va_Pc [.ref (ad 200), .int a1, .int a2] (PreG D (Ew D A) A ad S σ)) (QG D A ad S (some (.int r.2)) r.1) 0 0 A := by
  refine y_met (by decide) (Nat.le_of_ble_eq_true rfl) (fun p e s m below meth c ls Z hS hl => ?_)
  have hx := Z.1
  have hb := Z.2.1
  have hown := Z.2.2.2.2.2.1
  have hts := Z.2.2.2.2.2.2.1
  unfold f_X6_layer at h
  refine lv_iload_n hx hb dX6_layer_0 rfl (lv_at hl 1 rfl) ?_
  refine lv_iconst (v := (1 : Int32)) hx hb dX6_layer_1 (by decide) ?_
  refine lv_bipush (v := (20 : Int32)) hx hb dX6_layer_2 (by decide) ?_
  refine h_ci hS h (fun z hz => h_rS (rest := []) Z hS v_X6_161 (w_X6_in hz) rfl rfl ⟨by decide, by decide⟩ rfl hl.1 rfl (Nat.le_of_ble_eq_true rfl) (Nat.zero_le _) (Nat.zero_le _) dX6_layer_4) (fun x1 H locs hS h => ?_)
  refine lv_if_eq (tgt := 30) hx hb dX6_layer_7 (by decide) (fun c2 => ?_) (fun c2 => ?_)
  · have h := if_t h c2
    refine lv_iconst (v := (-1 : Int32)) hx hb dX6_layer_30 (by decide) ?_
    exact h_iretm Z hS dX6_layer_31 h
  · have h := if_f h c2
    refine lv_iload_n hx hb dX6_layer_10 rfl (lv_at hl 2 rfl) ?_
    refine lv_iconst (v := (1 : Int32)) hx hb dX6_layer_11 (by decide) ?_
    refine lv_sipush (v := (1000 : Int32)) hx hb dX6_layer_12 (by decide) ?_
    refine h_ci hS h (fun z hz => h_rS (rest := []) Z hS v_X6_161 (w_X6_in hz) rfl rfl ⟨by decide, by decide⟩ rfl hl.1 rfl (Nat.le_of_ble_eq_true rfl) (Nat.zero_le _) (Nat.zero_le _) dX6_layer_15) (fun x3 H locs hS h => ?_)
    refine lv_if_eq (tgt := 30) hx hb dX6_layer_18 (by decide) (fun c4 => ?_) (fun c4 => ?_)
    · have h := if_t h c4
      refine lv_iconst (v := (-1 : Int32)) hx hb dX6_layer_30 (by decide) ?_
      exact h_iretm Z hS dX6_layer_31 h
    · have h := if_f h c4
      refine lv_aload_n hx hb dX6_layer_21 rfl (lv_at hl 0 rfl) ?_
      refine h_getI Z hS cls_14 hi0 (by decide) rfl fl_X6_375_14 dX6_layer_22 h (fun x5 h => ?_)
      refine lv_bipush (v := (6 : Int32)) hx hb dX6_layer_25 (by decide) ?_
      refine lv_icmp_ne (tgt := 32) hx hb dX6_layer_27 (by decide) (fun c6 => ?_) (fun c6 => ?_)
      · have h := if_f h c6
        refine lv_aload_n hx hb dX6_layer_32 rfl (lv_at hl 0 rfl) ?_
        refine h_getC (n := 50) (j := 250) (sh := (1, 6)) Z hS cls_14 hi0 (by decide) rfl rfl rfl fl_X6_126_14 dX6_layer_33 (fun hc7 => ?_)
        refine lv_aload_n hx hb dX6_layer_36 rfl (lv_at hl 0 rfl) ?_
        refine h_getI Z hS cls_14 hi0 (by decide) rfl fl_X6_375_14 dX6_layer_37 h (fun x8 h => ?_)
        refine lv_iload_n hx hb dX6_layer_40 rfl (lv_at hl 1 rfl) ?_
        refine h_iast Z hS hc7 dX6_layer_41 h (fun σ9 H locs hS h => ?_)
        refine lv_aload_n hx hb dX6_layer_42 rfl (lv_at hl 0 rfl) ?_
        refine h_getC (n := 51) (j := 251) (sh := (1, 6)) Z hS cls_14 hi0 (by decide) rfl rfl rfl fl_X6_129_14 dX6_layer_43 (fun hc10 => ?_)
        refine lv_aload_n hx hb dX6_layer_46 rfl (lv_at hl 0 rfl) ?_
        refine h_getI Z hS cls_14 hi0 (by decide) rfl fl_X6_375_14 dX6_layer_47 h (fun x11 h => ?_)
        refine lv_iload_n hx hb dX6_layer_50 rfl (lv_at hl 2 rfl) ?_
        refine h_iast Z hS hc10 dX6_layer_51 h (fun σ12 H locs hS h => ?_)
        refine lv_aload_n hx hb dX6_layer_52 rfl (lv_at hl 0 rfl) ?_
        refine lv_dup hx hb dX6_layer_53 rfl ?_
        refine h_getI Z hS cls_14 hi0 (by decide) rfl fl_X6_375_14 dX6_layer_54 h (fun x13 h => ?_)
        refine lv_iconst (v := (1 : Int32)) hx hb dX6_layer_57 (by decide) ?_
        refine lv_iadd hx hb dX6_layer_58 ?_
        refine h_putI Z hS cls_14 hi0 (by decide) rfl rfl rfl fl_X6_375_14 dX6_layer_59 h (fun σ14 H locs hS h => ?_)
        refine lv_aload_n hx hb dX6_layer_62 rfl (lv_at hl 0 rfl) ?_
        refine h_getI Z hS cls_14 hi0 (by decide) rfl fl_X6_375_14 dX6_layer_63 h (fun x15 h => ?_)
        refine lv_iconst (v := (1 : Int32)) hx hb dX6_layer_66 (by decide) ?_
        refine lv_isub hx hb dX6_layer_67 ?_
        exact h_iretm Z hS dX6_layer_68 h
      · have h := if_t h c6
        refine lv_iconst (v := (-1 : Int32)) hx hb dX6_layer_30 (by decide) ?_
        exact h_iretm Z hS dX6_layer_31 h
end
theorem dX6_lasts_0 : decode cX6_lasts 0 = .ok (.aload_n 0, 1) := by decide +kernel
theorem dX6_lasts_1 : decode cX6_lasts 1 = .ok (.getfield 19, 3) := by decide +kernel
theorem dX6_lasts_4 : decode cX6_lasts 4 = .ok (.bipush 8, 2) := by decide +kernel
theorem dX6_lasts_6 : decode cX6_lasts 6 = .ok (.aload_n 0, 1) := by decide +kernel
theorem dX6_lasts_7 : decode cX6_lasts 7 = .ok (.getfield 375, 3) := by decide +kernel
theorem dX6_lasts_10 : decode cX6_lasts 10 = .ok (.iastore, 1) := by decide +kernel
theorem dX6_lasts_11 : decode cX6_lasts 11 = .ok (.iconst 0, 1) := by decide +kernel
theorem dX6_lasts_12 : decode cX6_lasts 12 = .ok (.istore_n 2, 1) := by decide +kernel
theorem dX6_lasts_13 : decode cX6_lasts 13 = .ok (.iload_n 2, 1) := by decide +kernel
theorem dX6_lasts_14 : decode cX6_lasts 14 = .ok (.aload_n 0, 1) := by decide +kernel
theorem dX6_lasts_15 : decode cX6_lasts 15 = .ok (.getfield 375, 3) := by decide +kernel
theorem dX6_lasts_18 : decode cX6_lasts 18 = .ok (.if_icmp .ge 49, 3) := by decide +kernel
theorem dX6_lasts_21 : decode cX6_lasts 21 = .ok (.aload_n 0, 1) := by decide +kernel
theorem dX6_lasts_22 : decode cX6_lasts 22 = .ok (.getfield 22, 3) := by decide +kernel
theorem dX6_lasts_25 : decode cX6_lasts 25 = .ok (.bipush 80, 2) := by decide +kernel
theorem dX6_lasts_27 : decode cX6_lasts 27 = .ok (.iload_n 2, 1) := by decide +kernel
theorem dX6_lasts_28 : decode cX6_lasts 28 = .ok (.iadd, 1) := by decide +kernel
theorem dX6_lasts_29 : decode cX6_lasts 29 = .ok (.aload_n 0, 1) := by decide +kernel
theorem dX6_lasts_30 : decode cX6_lasts 30 = .ok (.getfield 126, 3) := by decide +kernel
theorem dX6_lasts_33 : decode cX6_lasts 33 = .ok (.aload_n 0, 1) := by decide +kernel
theorem dX6_lasts_34 : decode cX6_lasts 34 = .ok (.getfield 132, 3) := by decide +kernel
theorem dX6_lasts_37 : decode cX6_lasts 37 = .ok (.iload_n 2, 1) := by decide +kernel
theorem dX6_lasts_38 : decode cX6_lasts 38 = .ok (.iaload, 1) := by decide +kernel
theorem dX6_lasts_39 : decode cX6_lasts 39 = .ok (.iaload, 1) := by decide +kernel
theorem dX6_lasts_40 : decode cX6_lasts 40 = .ok (.iastore, 1) := by decide +kernel
theorem dX6_lasts_41 : decode cX6_lasts 41 = .ok (.aload_n 0, 1) := by decide +kernel
theorem dX6_lasts_42 : decode cX6_lasts 42 = .ok (.getfield 28, 3) := by decide +kernel
theorem dX6_lasts_45 : decode cX6_lasts 45 = .ok (.bipush 80, 2) := by decide +kernel
theorem dX6_lasts_47 : decode cX6_lasts 47 = .ok (.iload_n 2, 1) := by decide +kernel
theorem dX6_lasts_48 : decode cX6_lasts 48 = .ok (.iadd, 1) := by decide +kernel
theorem dX6_lasts_49 : decode cX6_lasts 49 = .ok (.aload_n 0, 1) := by decide +kernel
theorem dX6_lasts_50 : decode cX6_lasts 50 = .ok (.getfield 129, 3) := by decide +kernel
theorem dX6_lasts_53 : decode cX6_lasts 53 = .ok (.aload_n 0, 1) := by decide +kernel
theorem dX6_lasts_54 : decode cX6_lasts 54 = .ok (.getfield 132, 3) := by decide +kernel
theorem dX6_lasts_57 : decode cX6_lasts 57 = .ok (.iload_n 2, 1) := by decide +kernel
theorem dX6_lasts_58 : decode cX6_lasts 58 = .ok (.iaload, 1) := by decide +kernel
theorem dX6_lasts_59 : decode cX6_lasts 59 = .ok (.iaload, 1) := by decide +kernel
theorem dX6_lasts_60 : decode cX6_lasts 60 = .ok (.iastore, 1) := by decide +kernel
theorem dX6_lasts_61 : decode cX6_lasts 61 = .ok (.iinc 2 1, 3) := by decide +kernel
theorem dX6_lasts_64 : decode cX6_lasts 64 = .ok (.goto (-51), 3) := by decide +kernel
theorem dX6_lasts_67 : decode cX6_lasts 67 = .ok (.iconst 0, 1) := by decide +kernel
theorem dX6_lasts_68 : decode cX6_lasts 68 = .ok (.istore_n 2, 1) := by decide +kernel
theorem dX6_lasts_69 : decode cX6_lasts 69 = .ok (.iload_n 2, 1) := by decide +kernel
theorem dX6_lasts_70 : decode cX6_lasts 70 = .ok (.bipush 80, 2) := by decide +kernel
theorem dX6_lasts_72 : decode cX6_lasts 72 = .ok (.if_icmp .ge 20, 3) := by decide +kernel
theorem dX6_lasts_75 : decode cX6_lasts 75 = .ok (.aload_n 0, 1) := by decide +kernel
theorem dX6_lasts_76 : decode cX6_lasts 76 = .ok (.getfield 31, 3) := by decide +kernel
theorem dX6_lasts_79 : decode cX6_lasts 79 = .ok (.sipush 640, 3) := by decide +kernel
theorem dX6_lasts_82 : decode cX6_lasts 82 = .ok (.iload_n 2, 1) := by decide +kernel
theorem dX6_lasts_83 : decode cX6_lasts 83 = .ok (.iadd, 1) := by decide +kernel
theorem dX6_lasts_84 : decode cX6_lasts 84 = .ok (.iconst 0, 1) := by decide +kernel
theorem dX6_lasts_85 : decode cX6_lasts 85 = .ok (.iastore, 1) := by decide +kernel
theorem dX6_lasts_86 : decode cX6_lasts 86 = .ok (.iinc 2 1, 3) := by decide +kernel
theorem dX6_lasts_89 : decode cX6_lasts 89 = .ok (.goto (-20), 3) := by decide +kernel
theorem dX6_lasts_92 : decode cX6_lasts 92 = .ok (.iconst 0, 1) := by decide +kernel
theorem dX6_lasts_93 : decode cX6_lasts 93 = .ok (.istore_n 2, 1) := by decide +kernel
theorem dX6_lasts_94 : decode cX6_lasts 94 = .ok (.iload_n 2, 1) := by decide +kernel
theorem dX6_lasts_95 : decode cX6_lasts 95 = .ok (.bipush 8, 2) := by decide +kernel
theorem dX6_lasts_97 : decode cX6_lasts 97 = .ok (.if_icmp .ge 19, 3) := by decide +kernel
theorem dX6_lasts_100 : decode cX6_lasts 100 = .ok (.aload_n 0, 1) := by decide +kernel
theorem dX6_lasts_101 : decode cX6_lasts 101 = .ok (.getfield 37, 3) := by decide +kernel
theorem dX6_lasts_104 : decode cX6_lasts 104 = .ok (.bipush 64, 2) := by decide +kernel
theorem dX6_lasts_106 : decode cX6_lasts 106 = .ok (.iload_n 2, 1) := by decide +kernel
theorem dX6_lasts_107 : decode cX6_lasts 107 = .ok (.iadd, 1) := by decide +kernel
theorem dX6_lasts_108 : decode cX6_lasts 108 = .ok (.iconst 0, 1) := by decide +kernel
theorem dX6_lasts_109 : decode cX6_lasts 109 = .ok (.iastore, 1) := by decide +kernel
theorem dX6_lasts_110 : decode cX6_lasts 110 = .ok (.iinc 2 1, 3) := by decide +kernel
theorem dX6_lasts_113 : decode cX6_lasts 113 = .ok (.goto (-19), 3) := by decide +kernel
theorem dX6_lasts_116 : decode cX6_lasts 116 = .ok (.iconst 0, 1) := by decide +kernel
theorem dX6_lasts_117 : decode cX6_lasts 117 = .ok (.istore_n 2, 1) := by decide +kernel
theorem dX6_lasts_118 : decode cX6_lasts 118 = .ok (.iconst 0, 1) := by decide +kernel
theorem dX6_lasts_119 : decode cX6_lasts 119 = .ok (.istore_n 3, 1) := by decide +kernel
theorem dX6_lasts_120 : decode cX6_lasts 120 = .ok (.iload_n 3, 1) := by decide +kernel
theorem dX6_lasts_121 : decode cX6_lasts 121 = .ok (.bipush 100, 2) := by decide +kernel
theorem dX6_lasts_123 : decode cX6_lasts 123 = .ok (.if_icmp .ge 140, 3) := by decide +kernel
theorem dX6_lasts_126 : decode cX6_lasts 126 = .ok (.iload_n 2, 1) := by decide +kernel
theorem dX6_lasts_127 : decode cX6_lasts 127 = .ok (.ifCond .ne 16, 3) := by decide +kernel
theorem dX6_lasts_130 : decode cX6_lasts 130 = .ok (.aload_n 0, 1) := by decide +kernel
theorem dX6_lasts_131 : decode cX6_lasts 131 = .ok (.bipush 8, 2) := by decide +kernel
theorem dX6_lasts_133 : decode cX6_lasts 133 = .ok (.invokevirtual 333, 3) := by decide +kernel
theorem dX6_lasts_136 : decode cX6_lasts 136 = .ok (.ifCond .le 7, 3) := by decide +kernel
theorem dX6_lasts_139 : decode cX6_lasts 139 = .ok (.iconst 1, 1) := by decide +kernel
theorem dX6_lasts_140 : decode cX6_lasts 140 = .ok (.goto 4, 3) := by decide +kernel
theorem dX6_lasts_143 : decode cX6_lasts 143 = .ok (.iconst 0, 1) := by decide +kernel
theorem dX6_lasts_144 : decode cX6_lasts 144 = .ok (.istore 4, 2) := by decide +kernel
theorem dX6_lasts_146 : decode cX6_lasts 146 = .ok (.iload_n 2, 1) := by decide +kernel
theorem dX6_lasts_147 : decode cX6_lasts 147 = .ok (.ifCond .ne 13, 3) := by decide +kernel
theorem dX6_lasts_150 : decode cX6_lasts 150 = .ok (.aload_n 0, 1) := by decide +kernel
theorem dX6_lasts_151 : decode cX6_lasts 151 = .ok (.bipush 8, 2) := by decide +kernel
theorem dX6_lasts_153 : decode cX6_lasts 153 = .ok (.invokevirtual 192, 3) := by decide +kernel
theorem dX6_lasts_156 : decode cX6_lasts 156 = .ok (.iconst (-1), 1) := by decide +kernel
theorem dX6_lasts_157 : decode cX6_lasts 157 = .ok (.if_icmp .ne 7, 3) := by decide +kernel
theorem dX6_lasts_160 : decode cX6_lasts 160 = .ok (.iconst 1, 1) := by decide +kernel
theorem dX6_lasts_161 : decode cX6_lasts 161 = .ok (.goto 4, 3) := by decide +kernel
theorem dX6_lasts_164 : decode cX6_lasts 164 = .ok (.iconst 0, 1) := by decide +kernel
theorem dX6_lasts_165 : decode cX6_lasts 165 = .ok (.istore_n 2, 1) := by decide +kernel
theorem dX6_lasts_166 : decode cX6_lasts 166 = .ok (.iload 4, 2) := by decide +kernel
theorem dX6_lasts_168 : decode cX6_lasts 168 = .ok (.ifCond .eq 22, 3) := by decide +kernel
theorem dX6_lasts_171 : decode cX6_lasts 171 = .ok (.aload_n 0, 1) := by decide +kernel
theorem dX6_lasts_172 : decode cX6_lasts 172 = .ok (.bipush 8, 2) := by decide +kernel
theorem dX6_lasts_174 : decode cX6_lasts 174 = .ok (.aload_n 0, 1) := by decide +kernel
theorem dX6_lasts_175 : decode cX6_lasts 175 = .ok (.getfield 319, 3) := by decide +kernel
theorem dX6_lasts_178 : decode cX6_lasts 178 = .ok (.invokevirtual 206, 3) := by decide +kernel
theorem dX6_lasts_181 : decode cX6_lasts 181 = .ok (.iconst (-1), 1) := by decide +kernel
theorem dX6_lasts_182 : decode cX6_lasts 182 = .ok (.if_icmp .ne 8, 3) := by decide +kernel
theorem dX6_lasts_185 : decode cX6_lasts 185 = .ok (.iconst 0, 1) := by decide +kernel
theorem dX6_lasts_186 : decode cX6_lasts 186 = .ok (.istore 4, 2) := by decide +kernel
theorem dX6_lasts_188 : decode cX6_lasts 188 = .ok (.iconst 1, 1) := by decide +kernel
theorem dX6_lasts_189 : decode cX6_lasts 189 = .ok (.istore_n 2, 1) := by decide +kernel
theorem dX6_lasts_190 : decode cX6_lasts 190 = .ok (.aload_n 0, 1) := by decide +kernel
theorem dX6_lasts_191 : decode cX6_lasts 191 = .ok (.bipush 8, 2) := by decide +kernel
theorem dX6_lasts_193 : decode cX6_lasts 193 = .ok (.invokevirtual 336, 3) := by decide +kernel
theorem dX6_lasts_196 : decode cX6_lasts 196 = .ok (.iconst 0, 1) := by decide +kernel
theorem dX6_lasts_197 : decode cX6_lasts 197 = .ok (.istore 5, 2) := by decide +kernel
theorem dX6_lasts_199 : decode cX6_lasts 199 = .ok (.bipush 7, 2) := by decide +kernel
theorem dX6_lasts_201 : decode cX6_lasts 201 = .ok (.istore 6, 2) := by decide +kernel
theorem dX6_lasts_203 : decode cX6_lasts 203 = .ok (.iload 6, 2) := by decide +kernel
theorem dX6_lasts_205 : decode cX6_lasts 205 = .ok (.ifCond .lt 44, 3) := by decide +kernel
theorem dX6_lasts_208 : decode cX6_lasts 208 = .ok (.iload 5, 2) := by decide +kernel
theorem dX6_lasts_210 : decode cX6_lasts 210 = .ok (.iload 4, 2) := by decide +kernel
theorem dX6_lasts_212 : decode cX6_lasts 212 = .ok (.ifCond .eq 21, 3) := by decide +kernel
theorem dX6_lasts_215 : decode cX6_lasts 215 = .ok (.aload_n 0, 1) := by decide +kernel
theorem dX6_lasts_216 : decode cX6_lasts 216 = .ok (.bipush 8, 2) := by decide +kernel
theorem dX6_lasts_218 : decode cX6_lasts 218 = .ok (.iload 6, 2) := by decide +kernel
theorem dX6_lasts_220 : decode cX6_lasts 220 = .ok (.aload_n 0, 1) := by decide +kernel
theorem dX6_lasts_221 : decode cX6_lasts 221 = .ok (.getfield 95, 3) := by decide +kernel
theorem dX6_lasts_224 : decode cX6_lasts 224 = .ok (.iload 6, 2) := by decide +kernel
theorem dX6_lasts_226 : decode cX6_lasts 226 = .ok (.iaload, 1) := by decide +kernel
theorem dX6_lasts_227 : decode cX6_lasts 227 = .ok (.invokevirtual 348, 3) := by decide +kernel
theorem dX6_lasts_230 : decode cX6_lasts 230 = .ok (.goto 10, 3) := by decide +kernel
theorem dX6_lasts_233 : decode cX6_lasts 233 = .ok (.aload_n 0, 1) := by decide +kernel
theorem dX6_lasts_234 : decode cX6_lasts 234 = .ok (.getfield 95, 3) := by decide +kernel
theorem dX6_lasts_237 : decode cX6_lasts 237 = .ok (.iload 6, 2) := by decide +kernel
theorem dX6_lasts_239 : decode cX6_lasts 239 = .ok (.iaload, 1) := by decide +kernel
theorem dX6_lasts_240 : decode cX6_lasts 240 = .ok (.iadd, 1) := by decide +kernel
theorem dX6_lasts_241 : decode cX6_lasts 241 = .ok (.istore 5, 2) := by decide +kernel
theorem dX6_lasts_243 : decode cX6_lasts 243 = .ok (.iinc 6 (-1), 3) := by decide +kernel
theorem dX6_lasts_246 : decode cX6_lasts 246 = .ok (.goto (-43), 3) := by decide +kernel
theorem dX6_lasts_249 : decode cX6_lasts 249 = .ok (.iload 5, 2) := by decide +kernel
theorem dX6_lasts_251 : decode cX6_lasts 251 = .ok (.iload_n 1, 1) := by decide +kernel
theorem dX6_lasts_252 : decode cX6_lasts 252 = .ok (.if_icmp .le 5, 3) := by decide +kernel
theorem dX6_lasts_255 : decode cX6_lasts 255 = .ok (.iload_n 3, 1) := by decide +kernel
theorem dX6_lasts_256 : decode cX6_lasts 256 = .ok (.ireturn, 1) := by decide +kernel
theorem dX6_lasts_257 : decode cX6_lasts 257 = .ok (.iinc 3 1, 3) := by decide +kernel
theorem dX6_lasts_260 : decode cX6_lasts 260 = .ok (.goto (-140), 3) := by decide +kernel
theorem dX6_lasts_263 : decode cX6_lasts 263 = .ok (.bipush 100, 2) := by decide +kernel
theorem dX6_lasts_265 : decode cX6_lasts 265 = .ok (.ireturn, 1) := by decide +kernel
abbrev rm_X6_lasts : Room := k2_rm 5 111
section
variable {p : Program} {l : Launch} {e : Env} {s : State} {m : MethodId} {args : Array Value} {below : List Frame} {meth : Method} {c : Code} {D : gD} {A : Nat → Prop} {ad : Nat → Nat} {S : Nat → Nat × Nat} {σ : Mem}
set_option maxRecDepth 100000 in
set_option maxHeartbeats 4000000 in
theorem w_X6_lasts_L13 (Z : Cz D (Ew D A) A cX6_lasts 7 (some .int) RX6 p s m args meth c) {u1 : Int32} (hu0 : S 200 = (24, 0)) {r : (Mem × Int32)} {k67 : Mem → Option (Mem × Int32)}
    (hk67 : ∀ (σ : Mem)  (H : Heap) (locs : List Loc) (ls : Array Slot), St D A ad S σ s.heap H locs → lv_has ls 7 [(0, .ref (ad 200)), (1, .int u1)] → k67 σ = some r → W p l e rm_X6_lasts s m args below meth c H locs 0 0 (MQ below (QG D A ad S (some (.int r.2)) r.1) args s 0 0 A) (F0 m 67 ls [])) :
    ∀ (n : Nat) (σ : Mem) (v2 : Int32) (H : Heap) (locs : List Loc) (ls : Array Slot), St D A ad S σ s.heap H locs → lv_has ls 7 [(0, .ref (ad 200)), (1, .int u1), (2, .int v2)] → f_X6_lasts_L13 k67 u1 n σ v2 = some r → W p l e rm_X6_lasts s m args below meth c H locs 0 0 (MQ below (QG D A ad S (some (.int r.2)) r.1) args s 0 0 A) (F0 m 13 ls []) := by
  have hx := Z.1
  have hb := Z.2.1
  have hown := Z.2.2.2.2.2.1
  have hts := Z.2.2.2.2.2.2.1
  intro n
  induction n with
  | zero => intro σ v2 H locs ls hS hl h; cases h
  | succ n ih =>
    intro σ v2 H locs ls hS hl h
    unfold f_X6_lasts_L13 at h
    refine lv_iload_n hx hb dX6_lasts_13 rfl (lv_at hl 2 rfl) ?_
    refine lv_aload_n hx hb dX6_lasts_14 rfl (lv_at hl 0 rfl) ?_
    refine h_getI Z hS cls_14 hu0 (by decide) rfl fl_X6_375_14 dX6_lasts_15 h (fun x4 h => ?_)
    refine lv_icmp_ge (tgt := 67) hx hb dX6_lasts_18 (by decide) (fun c5 => ?_) (fun c5 => ?_)
    · have h := if_t h c5
      exact hk67 _ _ _ _ hS (lv_sub hl [0, 1] rfl) h
    · have h := if_f h c5
      refine lv_aload_n hx hb dX6_lasts_21 rfl (lv_at hl 0 rfl) ?_
      refine h_getC (n := 7) (j := 207) (sh := (1, 90)) Z hS cls_14 hu0 (by decide) rfl rfl rfl fl_X6_22_14 dX6_lasts_22 (fun hc6 => ?_)
      refine lv_bipush (v := (80 : Int32)) hx hb dX6_lasts_25 (by decide) ?_
      refine lv_iload_n hx hb dX6_lasts_27 rfl (lv_at hl 2 rfl) ?_
      refine lv_iadd hx hb dX6_lasts_28 ?_
      refine lv_aload_n hx hb dX6_lasts_29 rfl (lv_at hl 0 rfl) ?_
      refine h_getC (n := 50) (j := 250) (sh := (1, 6)) Z hS cls_14 hu0 (by decide) rfl rfl rfl fl_X6_126_14 dX6_lasts_30 (fun hc7 => ?_)
      refine lv_aload_n hx hb dX6_lasts_33 rfl (lv_at hl 0 rfl) ?_
      refine h_getC (n := 52) (j := 252) (sh := (1, 6)) Z hS cls_14 hu0 (by decide) rfl rfl rfl fl_X6_132_14 dX6_lasts_34 (fun hc8 => ?_)
      refine lv_iload_n hx hb dX6_lasts_37 rfl (lv_at hl 2 rfl) ?_
      refine h_iald Z hS hc8 dX6_lasts_38 h (fun x9 h => ?_)
      refine h_iald Z hS hc7 dX6_lasts_39 h (fun x10 h => ?_)
      refine h_iast Z hS hc6 dX6_lasts_40 h (fun σ11 H locs hS h => ?_)
      refine lv_aload_n hx hb dX6_lasts_41 rfl (lv_at hl 0 rfl) ?_
      refine h_getC (n := 9) (j := 209) (sh := (1, 90)) Z hS cls_14 hu0 (by decide) rfl rfl rfl fl_X6_28_14 dX6_lasts_42 (fun hc12 => ?_)
      refine lv_bipush (v := (80 : Int32)) hx hb dX6_lasts_45 (by decide) ?_
      refine lv_iload_n hx hb dX6_lasts_47 rfl (lv_at hl 2 rfl) ?_
      refine lv_iadd hx hb dX6_lasts_48 ?_
      refine lv_aload_n hx hb dX6_lasts_49 rfl (lv_at hl 0 rfl) ?_
      refine h_getC (n := 51) (j := 251) (sh := (1, 6)) Z hS cls_14 hu0 (by decide) rfl rfl rfl fl_X6_129_14 dX6_lasts_50 (fun hc13 => ?_)
      refine lv_aload_n hx hb dX6_lasts_53 rfl (lv_at hl 0 rfl) ?_
      refine h_getC (n := 52) (j := 252) (sh := (1, 6)) Z hS cls_14 hu0 (by decide) rfl rfl rfl fl_X6_132_14 dX6_lasts_54 (fun hc14 => ?_)
      refine lv_iload_n hx hb dX6_lasts_57 rfl (lv_at hl 2 rfl) ?_
      refine h_iald Z hS hc14 dX6_lasts_58 h (fun x15 h => ?_)
      refine h_iald Z hS hc13 dX6_lasts_59 h (fun x16 h => ?_)
      refine h_iast Z hS hc12 dX6_lasts_60 h (fun σ17 H locs hS h => ?_)
      refine lv_iinc (v := (v2 + (1 : Int32))) (lv' := [(2, .int (v2 + (1 : Int32))), (0, .ref (ad 200)), (1, .int u1)]) hx hb dX6_lasts_61 hl (k := 2) rfl rfl (by decide) rfl (fun ls hl => ?_)
      refine lv_goto (tgt := 13) hx hb dX6_lasts_64 (by decide) ?_
      exact ih _ _ _ _ _ hS (lv_sub hl [1, 2, 0] rfl) h
set_option maxRecDepth 100000 in
set_option maxHeartbeats 4000000 in
theorem w_X6_lasts_L69 (Z : Cz D (Ew D A) A cX6_lasts 7 (some .int) RX6 p s m args meth c) {u1 : Int32} (hu0 : S 200 = (24, 0)) {r : (Mem × Int32)} {k92 : Mem → Option (Mem × Int32)}
    (hk92 : ∀ (σ : Mem)  (H : Heap) (locs : List Loc) (ls : Array Slot), St D A ad S σ s.heap H locs → lv_has ls 7 [(0, .ref (ad 200)), (1, .int u1)] → k92 σ = some r → W p l e rm_X6_lasts s m args below meth c H locs 0 0 (MQ below (QG D A ad S (some (.int r.2)) r.1) args s 0 0 A) (F0 m 92 ls [])) :
    ∀ (n : Nat) (σ : Mem) (v2 : Int32) (H : Heap) (locs : List Loc) (ls : Array Slot), St D A ad S σ s.heap H locs → lv_has ls 7 [(0, .ref (ad 200)), (1, .int u1), (2, .int v2)] → f_X6_lasts_L69 k92 u1 n σ v2 = some r → W p l e rm_X6_lasts s m args below meth c H locs 0 0 (MQ below (QG D A ad S (some (.int r.2)) r.1) args s 0 0 A) (F0 m 69 ls []) := by
  have hx := Z.1
  have hb := Z.2.1
  have hown := Z.2.2.2.2.2.1
  have hts := Z.2.2.2.2.2.2.1
  intro n
  induction n with
  | zero => intro σ v2 H locs ls hS hl h; cases h
  | succ n ih =>
    intro σ v2 H locs ls hS hl h
    unfold f_X6_lasts_L69 at h
    refine lv_iload_n hx hb dX6_lasts_69 rfl (lv_at hl 2 rfl) ?_
    refine lv_bipush (v := (80 : Int32)) hx hb dX6_lasts_70 (by decide) ?_
    refine lv_icmp_ge (tgt := 92) hx hb dX6_lasts_72 (by decide) (fun c19 => ?_) (fun c19 => ?_)
    · have h := if_t h c19
      exact hk92 _ _ _ _ hS (lv_sub hl [0, 1] rfl) h
    · have h := if_f h c19
      refine lv_aload_n hx hb dX6_lasts_75 rfl (lv_at hl 0 rfl) ?_
      refine h_getC (n := 10) (j := 210) (sh := (1, 720)) Z hS cls_14 hu0 (by decide) rfl rfl rfl fl_X6_31_14 dX6_lasts_76 (fun hc20 => ?_)
      refine lv_sipush (v := (640 : Int32)) hx hb dX6_lasts_79 (by decide) ?_
      refine lv_iload_n hx hb dX6_lasts_82 rfl (lv_at hl 2 rfl) ?_
      refine lv_iadd hx hb dX6_lasts_83 ?_
      refine lv_iconst (v := (0 : Int32)) hx hb dX6_lasts_84 (by decide) ?_
      refine h_iast Z hS hc20 dX6_lasts_85 h (fun σ21 H locs hS h => ?_)
      refine lv_iinc (v := (v2 + (1 : Int32))) (lv' := [(2, .int (v2 + (1 : Int32))), (0, .ref (ad 200)), (1, .int u1)]) hx hb dX6_lasts_86 hl (k := 2) rfl rfl (by decide) rfl (fun ls hl => ?_)
      refine lv_goto (tgt := 69) hx hb dX6_lasts_89 (by decide) ?_
      exact ih _ _ _ _ _ hS (lv_sub hl [1, 2, 0] rfl) h
set_option maxRecDepth 100000 in
set_option maxHeartbeats 4000000 in
theorem w_X6_lasts_L94 (Z : Cz D (Ew D A) A cX6_lasts 7 (some .int) RX6 p s m args meth c) {u1 : Int32} (hu0 : S 200 = (24, 0)) {r : (Mem × Int32)} {k116 : Mem → Option (Mem × Int32)}
    (hk116 : ∀ (σ : Mem)  (H : Heap) (locs : List Loc) (ls : Array Slot), St D A ad S σ s.heap H locs → lv_has ls 7 [(0, .ref (ad 200)), (1, .int u1)] → k116 σ = some r → W p l e rm_X6_lasts s m args below meth c H locs 0 0 (MQ below (QG D A ad S (some (.int r.2)) r.1) args s 0 0 A) (F0 m 116 ls [])) :
    ∀ (n : Nat) (σ : Mem) (v2 : Int32) (H : Heap) (locs : List Loc) (ls : Array Slot), St D A ad S σ s.heap H locs → lv_has ls 7 [(0, .ref (ad 200)), (1, .int u1), (2, .int v2)] → f_X6_lasts_L94 k116 u1 n σ v2 = some r → W p l e rm_X6_lasts s m args below meth c H locs 0 0 (MQ below (QG D A ad S (some (.int r.2)) r.1) args s 0 0 A) (F0 m 94 ls []) := by
  have hx := Z.1
  have hb := Z.2.1
  have hown := Z.2.2.2.2.2.1
  have hts := Z.2.2.2.2.2.2.1
  intro n
  induction n with
  | zero => intro σ v2 H locs ls hS hl h; cases h
  | succ n ih =>
    intro σ v2 H locs ls hS hl h
    unfold f_X6_lasts_L94 at h
    refine lv_iload_n hx hb dX6_lasts_94 rfl (lv_at hl 2 rfl) ?_
    refine lv_bipush (v := (8 : Int32)) hx hb dX6_lasts_95 (by decide) ?_
    refine lv_icmp_ge (tgt := 116) hx hb dX6_lasts_97 (by decide) (fun c23 => ?_) (fun c23 => ?_)
    · have h := if_t h c23
      exact hk116 _ _ _ _ hS (lv_sub hl [0, 1] rfl) h
    · have h := if_f h c23
      refine lv_aload_n hx hb dX6_lasts_100 rfl (lv_at hl 0 rfl) ?_
      refine h_getC (n := 12) (j := 212) (sh := (1, 72)) Z hS cls_14 hu0 (by decide) rfl rfl rfl fl_X6_37_14 dX6_lasts_101 (fun hc24 => ?_)
      refine lv_bipush (v := (64 : Int32)) hx hb dX6_lasts_104 (by decide) ?_
      refine lv_iload_n hx hb dX6_lasts_106 rfl (lv_at hl 2 rfl) ?_
      refine lv_iadd hx hb dX6_lasts_107 ?_
      refine lv_iconst (v := (0 : Int32)) hx hb dX6_lasts_108 (by decide) ?_
      refine h_iast Z hS hc24 dX6_lasts_109 h (fun σ25 H locs hS h => ?_)
      refine lv_iinc (v := (v2 + (1 : Int32))) (lv' := [(2, .int (v2 + (1 : Int32))), (0, .ref (ad 200)), (1, .int u1)]) hx hb dX6_lasts_110 hl (k := 2) rfl rfl (by decide) rfl (fun ls hl => ?_)
      refine lv_goto (tgt := 94) hx hb dX6_lasts_113 (by decide) ?_
      exact ih _ _ _ _ _ hS (lv_sub hl [1, 2, 0] rfl) h
set_option maxRecDepth 100000 in
set_option maxHeartbeats 4000000 in
theorem w_X6_lasts_L203 (Z : Cz D (Ew D A) A cX6_lasts 7 (some .int) RX6 p s m args meth c) {u1 : Int32} {u2 : Int32} {u3 : Int32} {u4 : Int32} (hu0 : S 200 = (24, 0)) {r : (Mem × Int32)} {k249 : Mem → Int32 → Option (Mem × Int32)}
    (hk249 : ∀ (σ : Mem) (w5 : Int32) (H : Heap) (locs : List Loc) (ls : Array Slot), St D A ad S σ s.heap H locs → lv_has ls 7 [(0, .ref (ad 200)), (1, .int u1), (2, .int u2), (3, .int u3), (5, .int w5)] → k249 σ w5 = some r → W p l e rm_X6_lasts s m args below meth c H locs 0 0 (MQ below (QG D A ad S (some (.int r.2)) r.1) args s 0 0 A) (F0 m 249 ls [])) :
    ∀ (n : Nat) (σ : Mem) (v5 : Int32) (v6 : Int32) (H : Heap) (locs : List Loc) (ls : Array Slot), St D A ad S σ s.heap H locs → lv_has ls 7 [(0, .ref (ad 200)), (1, .int u1), (2, .int u2), (3, .int u3), (4, .int u4), (5, .int v5), (6, .int v6)] → f_X6_lasts_L203 k249 u1 u2 u3 u4 n σ v5 v6 = some r → W p l e rm_X6_lasts s m args below meth c H locs 0 0 (MQ below (QG D A ad S (some (.int r.2)) r.1) args s 0 0 A) (F0 m 203 ls []) := by
  have hx := Z.1
  have hb := Z.2.1
  have hown := Z.2.2.2.2.2.1
  have hts := Z.2.2.2.2.2.2.1
  intro n
  induction n with
  | zero => intro σ v5 v6 H locs ls hS hl h; cases h
  | succ n ih =>
    intro σ v5 v6 H locs ls hS hl h
    unfold f_X6_lasts_L203 at h
    refine lv_iload hx hb dX6_lasts_203 (lv_at hl 6 rfl) ?_
    refine lv_if_lt (tgt := 249) hx hb dX6_lasts_205 (by decide) (fun c39 => ?_) (fun c39 => ?_)
    · have h := if_t h c39
      exact hk249 _ _ _ _ _ hS (lv_sub hl [0, 1, 2, 3, 5] rfl) h
    · have h := if_f h c39
      refine lv_iload hx hb dX6_lasts_208 (lv_at hl 5 rfl) ?_
      refine lv_iload hx hb dX6_lasts_210 (lv_at hl 4 rfl) ?_
      obtain ⟨σ41, x42, hp43, h⟩ := bnd2_el h
      have K43 : ∀ (H : Heap) (locs : List Loc) (ls : Array Slot), St D A ad S σ41 s.heap H locs → lv_has ls 7 [(0, .ref (ad 200)), (1, .int u1), (2, .int u2), (3, .int u3), (4, .int u4), (6, .int v6)] → W p l e rm_X6_lasts s m args below meth c H locs 0 0 (MQ below (QG D A ad S (some (.int r.2)) r.1) args s 0 0 A) (F0 m 240 ls [.int x42, .int v5]) := by
        intro H locs ls hS hl
        refine lv_iadd hx hb dX6_lasts_240 ?_
        refine h_leti h (fun x44 h => ?_)
        refine lv_istore (lv' := [(5, .int x44), (0, .ref (ad 200)), (1, .int u1), (2, .int u2), (3, .int u3), (4, .int u4), (6, .int v6)]) hx hb dX6_lasts_241 hl (by decide) rfl (fun ls hl => ?_)
        refine lv_iinc (v := (v6 + (-1 : Int32))) (lv' := [(6, .int (v6 + (-1 : Int32))), (5, .int x44), (0, .ref (ad 200)), (1, .int u1), (2, .int u2), (3, .int u3), (4, .int u4)]) hx hb dX6_lasts_243 hl (k := 6) rfl rfl (by decide) rfl (fun ls hl => ?_)
        refine lv_goto (tgt := 203) hx hb dX6_lasts_246 (by decide) ?_
        exact ih _ _ _ _ _ _ hS (lv_sub hl [2, 3, 4, 5, 6, 1, 0] rfl) h
      clear h
      have h := hp43
      clear hp43
      refine lv_if_eq (tgt := 233) hx hb dX6_lasts_212 (by decide) (fun c40 => ?_) (fun c40 => ?_)
      · have h := if_t h c40
        refine lv_aload_n hx hb dX6_lasts_233 rfl (lv_at hl 0 rfl) ?_
        refine h_getC (n := 39) (j := 239) (sh := (1, 8)) Z hS cls_14 hu0 (by decide) rfl rfl rfl fl_X6_95_14 dX6_lasts_234 (fun hc45 => ?_)
        refine lv_iload hx hb dX6_lasts_237 (lv_at hl 6 rfl) ?_
        refine h_iald Z hS hc45 dX6_lasts_239 h (fun x46 h => ?_)
        cases h
        exact K43 _ _ _ hS (lv_sub hl [0, 1, 2, 3, 4, 6] rfl)
      · have h := if_f h c40
        refine lv_aload_n hx hb dX6_lasts_215 rfl (lv_at hl 0 rfl) ?_
        refine lv_bipush (v := (8 : Int32)) hx hb dX6_lasts_216 (by decide) ?_
        refine lv_iload hx hb dX6_lasts_218 (lv_at hl 6 rfl) ?_
        refine lv_aload_n hx hb dX6_lasts_220 rfl (lv_at hl 0 rfl) ?_
        refine h_getC (n := 39) (j := 239) (sh := (1, 8)) Z hS cls_14 hu0 (by decide) rfl rfl rfl fl_X6_95_14 dX6_lasts_221 (fun hc47 => ?_)
        refine lv_iload hx hb dX6_lasts_224 (lv_at hl 6 rfl) ?_
        refine h_iald Z hS hc47 dX6_lasts_226 h (fun x48 h => ?_)
        refine h_cim hS h (fun z hz => h_rV (rest := [.int v5]) Z hS hu0 rfl v_X6_348 (w_X6_lead hu0 hz) rfl rfl ⟨by decide, by decide⟩ rfl hl.1 rfl (Nat.le_of_ble_eq_true rfl) (Nat.zero_le _) (Nat.zero_le _) dX6_lasts_227) (fun σ49 x50 H locs hS h => ?_)
        refine lv_goto (tgt := 240) hx hb dX6_lasts_230 (by decide) ?_
        cases h
        exact K43 _ _ _ hS (lv_sub hl [0, 1, 2, 3, 4, 6] rfl)
set_option maxRecDepth 100000 in
set_option maxHeartbeats 4000000 in
theorem w_X6_lasts_L120 (Z : Cz D (Ew D A) A cX6_lasts 7 (some .int) RX6 p s m args meth c) {u1 : Int32} (hu0 : S 200 = (24, 0)) {r : (Mem × Int32)} {k255 : Mem → Int32 → Option (Mem × Int32)} {k263 : Mem → Option (Mem × Int32)}
    (hk255 : ∀ (σ : Mem) (w3 : Int32) (H : Heap) (locs : List Loc) (ls : Array Slot), St D A ad S σ s.heap H locs → lv_has ls 7 [(3, .int w3)] → k255 σ w3 = some r → W p l e rm_X6_lasts s m args below meth c H locs 0 0 (MQ below (QG D A ad S (some (.int r.2)) r.1) args s 0 0 A) (F0 m 255 ls []))
    (hk263 : ∀ (σ : Mem)  (H : Heap) (locs : List Loc) (ls : Array Slot), St D A ad S σ s.heap H locs → lv_has ls 7 [] → k263 σ = some r → W p l e rm_X6_lasts s m args below meth c H locs 0 0 (MQ below (QG D A ad S (some (.int r.2)) r.1) args s 0 0 A) (F0 m 263 ls [])) :
    ∀ (n : Nat) (σ : Mem) (v2 : Int32) (v3 : Int32) (H : Heap) (locs : List Loc) (ls : Array Slot), St D A ad S σ s.heap H locs → lv_has ls 7 [(0, .ref (ad 200)), (1, .int u1), (2, .int v2), (3, .int v3)] → f_X6_lasts_L120 k255 k263 u1 n σ v2 v3 = some r → W p l e rm_X6_lasts s m args below meth c H locs 0 0 (MQ below (QG D A ad S (some (.int r.2)) r.1) args s 0 0 A) (F0 m 120 ls []) := by
  have hx := Z.1
  have hb := Z.2.1
  have hown := Z.2.2.2.2.2.1
  have hts := Z.2.2.2.2.2.2.1
  intro n
  induction n with
  | zero => intro σ v2 v3 H locs ls hS hl h; cases h
  | succ n ih =>
    intro σ v2 v3 H locs ls hS hl h
    unfold f_X6_lasts_L120 at h
    refine lv_iload_n hx hb dX6_lasts_120 rfl (lv_at hl 3 rfl) ?_
    refine lv_bipush (v := (100 : Int32)) hx hb dX6_lasts_121 (by decide) ?_
    refine lv_icmp_ge (tgt := 263) hx hb dX6_lasts_123 (by decide) (fun c27 => ?_) (fun c27 => ?_)
    · have h := if_t h c27
      exact hk263 _ _ _ _ hS (lv_sub hl [] rfl) h
    · have h := if_f h c27
      refine lv_iload_n hx hb dX6_lasts_126 rfl (lv_at hl 2 rfl) ?_
      obtain ⟨x29, hp30, h⟩ := bnd_el h
      have K30 : ∀ (H : Heap) (locs : List Loc) (ls : Array Slot), St D A ad S σ s.heap H locs → lv_has ls 7 [(0, .ref (ad 200)), (1, .int u1), (2, .int v2), (3, .int v3)] → W p l e rm_X6_lasts s m args below meth c H locs 0 0 (MQ below (QG D A ad S (some (.int r.2)) r.1) args s 0 0 A) (F0 m 144 ls [.int x29]) := by
        intro H locs ls hS hl
        refine lv_istore (lv' := [(4, .int x29), (0, .ref (ad 200)), (1, .int u1), (2, .int v2), (3, .int v3)]) hx hb dX6_lasts_144 hl (by decide) rfl (fun ls hl => ?_)
        refine lv_iload_n hx hb dX6_lasts_146 rfl (lv_at hl 3 rfl) ?_
        obtain ⟨x32, hp33, h⟩ := bnd_el h
        have K33 : ∀ (H : Heap) (locs : List Loc) (ls : Array Slot), St D A ad S σ s.heap H locs → lv_has ls 7 [(0, .ref (ad 200)), (1, .int u1), (3, .int v3), (4, .int x29)] → W p l e rm_X6_lasts s m args below meth c H locs 0 0 (MQ below (QG D A ad S (some (.int r.2)) r.1) args s 0 0 A) (F0 m 165 ls [.int x32]) := by
          intro H locs ls hS hl
          refine lv_istore_n (lv' := [(2, .int x32), (0, .ref (ad 200)), (1, .int u1), (3, .int v3), (4, .int x29)]) hx hb dX6_lasts_165 rfl hl (by decide) rfl (fun ls hl => ?_)
          refine lv_iload hx hb dX6_lasts_166 (lv_at hl 4 rfl) ?_
          obtain ⟨x35, x36, hp37, h⟩ := bnd2_el h
          have K37 : ∀ (H : Heap) (locs : List Loc) (ls : Array Slot), St D A ad S σ s.heap H locs → lv_has ls 7 [(0, .ref (ad 200)), (1, .int u1), (2, .int x35), (3, .int v3), (4, .int x36)] → W p l e rm_X6_lasts s m args below meth c H locs 0 0 (MQ below (QG D A ad S (some (.int r.2)) r.1) args s 0 0 A) (F0 m 190 ls []) := by
            intro H locs ls hS hl
            refine lv_aload_n hx hb dX6_lasts_190 rfl (lv_at hl 0 rfl) ?_
            refine lv_bipush (v := (8 : Int32)) hx hb dX6_lasts_191 (by decide) ?_
            refine h_cm hS h (fun z hz => h_rV (rest := []) Z hS hu0 rfl v_X6_336 (w_X6_look_2 hu0 hz) rfl rfl ⟨by decide, by decide⟩ rfl hl.1 rfl (Nat.le_of_ble_eq_true rfl) (Nat.zero_le _) (Nat.zero_le _) dX6_lasts_193) (fun σ38 H locs hS h => ?_)
            refine lv_iconst (v := (0 : Int32)) hx hb dX6_lasts_196 (by decide) ?_
            refine lv_istore (lv' := [(5, .int (0 : Int32)), (0, .ref (ad 200)), (1, .int u1), (2, .int x35), (3, .int v3), (4, .int x36)]) hx hb dX6_lasts_197 hl (by decide) rfl (fun ls hl => ?_)
            refine lv_bipush (v := (7 : Int32)) hx hb dX6_lasts_199 (by decide) ?_
            refine lv_istore (lv' := [(6, .int (7 : Int32)), (5, .int (0 : Int32)), (0, .ref (ad 200)), (1, .int u1), (2, .int x35), (3, .int v3), (4, .int x36)]) hx hb dX6_lasts_201 hl (by decide) rfl (fun ls hl => ?_)
            refine w_X6_lasts_L203 Z hu0 (fun σ51 x52 H locs ls hS hl h => ?_) FU _ _ _ _ _ _ hS (lv_sub hl [2, 3, 4, 5, 6, 1, 0] rfl) h
            refine lv_iload hx hb dX6_lasts_249 (lv_at hl 4 rfl) ?_
            refine lv_iload_n hx hb dX6_lasts_251 rfl (lv_at hl 1 rfl) ?_
            refine lv_icmp_le (tgt := 257) hx hb dX6_lasts_252 (by decide) (fun c53 => ?_) (fun c53 => ?_)
            · have h := if_t h c53
              refine lv_iinc (v := (v3 + (1 : Int32))) (lv' := [(3, .int (v3 + (1 : Int32))), (0, .ref (ad 200)), (1, .int u1), (2, .int x35), (5, .int x52)]) hx hb dX6_lasts_257 hl (k := 3) rfl rfl (by decide) rfl (fun ls hl => ?_)
              refine lv_goto (tgt := 120) hx hb dX6_lasts_260 (by decide) ?_
              exact ih _ _ _ _ _ _ hS (lv_sub hl [1, 2, 3, 0] rfl) h
            · have h := if_f h c53
              exact hk255 _ _ _ _ _ hS (lv_sub hl [3] rfl) h
          clear h
          have h := hp37
          clear hp37
          refine lv_if_eq (tgt := 190) hx hb dX6_lasts_168 (by decide) (fun c34 => ?_) (fun c34 => ?_)
          · have h := if_t h c34
            cases h
            exact K37 _ _ _ hS (lv_sub hl [1, 2, 0, 3, 4] rfl)
          · have h := if_f h c34
            refine lv_aload_n hx hb dX6_lasts_171 rfl (lv_at hl 1 rfl) ?_
            refine lv_bipush (v := (8 : Int32)) hx hb dX6_lasts_172 (by decide) ?_
            refine lv_aload_n hx hb dX6_lasts_174 rfl (lv_at hl 1 rfl) ?_
            refine h_getI Z hS cls_14 hu0 (by decide) rfl fl_X6_319_14 dX6_lasts_175 h (fun x54 h => ?_)
            refine h_ci hS h (fun z hz => h_rV (rest := []) Z hS hu0 rfl v_X6_206 (w_X6_pushFor hu0 hz) rfl rfl ⟨by decide, by decide⟩ rfl hl.1 rfl (Nat.le_of_ble_eq_true rfl) (Nat.zero_le _) (Nat.zero_le _) dX6_lasts_178) (fun x55 H locs hS h => ?_)
            refine lv_iconst (v := (-1 : Int32)) hx hb dX6_lasts_181 (by decide) ?_
            refine lv_icmp_ne (tgt := 190) hx hb dX6_lasts_182 (by decide) (fun c56 => ?_) (fun c56 => ?_)
            · have h := if_f h c56
              cases h
              exact K37 _ _ _ hS (lv_sub hl [1, 2, 0, 3, 4] rfl)
            · have h := if_t h c56
              refine lv_iconst (v := (0 : Int32)) hx hb dX6_lasts_185 (by decide) ?_
              refine lv_istore (lv' := [(4, .int (0 : Int32)), (2, .int x32), (0, .ref (ad 200)), (1, .int u1), (3, .int v3)]) hx hb dX6_lasts_186 hl (by decide) rfl (fun ls hl => ?_)
              refine lv_iconst (v := (1 : Int32)) hx hb dX6_lasts_188 (by decide) ?_
              refine lv_istore_n (lv' := [(2, .int (1 : Int32)), (4, .int (0 : Int32)), (0, .ref (ad 200)), (1, .int u1), (3, .int v3)]) hx hb dX6_lasts_189 rfl hl (by decide) rfl (fun ls hl => ?_)
              cases h
              exact K37 _ _ _ hS (lv_sub hl [2, 3, 0, 4, 1] rfl)
        clear h
        have h := hp33
        clear hp33
        refine lv_if_ne (tgt := 160) hx hb dX6_lasts_147 (by decide) (fun c31 => ?_) (fun c31 => ?_)
        · have h := if_f h c31
          refine lv_iconst (v := (1 : Int32)) hx hb dX6_lasts_160 (by decide) ?_
          refine lv_goto (tgt := 165) hx hb dX6_lasts_161 (by decide) ?_
          cases h
          exact K33 _ _ _ hS (lv_sub hl [1, 2, 4, 0] rfl)
        · have h := if_t h c31
          refine lv_aload_n hx hb dX6_lasts_150 rfl (lv_at hl 1 rfl) ?_
          refine lv_bipush (v := (8 : Int32)) hx hb dX6_lasts_151 (by decide) ?_
          refine h_ci hS h (fun z hz => h_rV (rest := []) Z hS hu0 rfl v_X6_192 (w_X6_bed hu0 hz) rfl rfl ⟨by decide, by decide⟩ rfl hl.1 rfl (Nat.le_of_ble_eq_true rfl) (Nat.zero_le _) (Nat.zero_le _) dX6_lasts_153) (fun x57 H locs hS h => ?_)
          refine lv_iconst (v := (-1 : Int32)) hx hb dX6_lasts_156 (by decide) ?_
          refine lv_icmp_ne (tgt := 164) hx hb dX6_lasts_157 (by decide) (fun c58 => ?_) (fun c58 => ?_)
          · have h := if_f h c58
            refine lv_iconst (v := (0 : Int32)) hx hb dX6_lasts_164 (by decide) ?_
            cases h
            exact K33 _ _ _ hS (lv_sub hl [1, 2, 4, 0] rfl)
          · have h := if_t h c58
            refine lv_iconst (v := (1 : Int32)) hx hb dX6_lasts_160 (by decide) ?_
            refine lv_goto (tgt := 165) hx hb dX6_lasts_161 (by decide) ?_
            cases h
            exact K33 _ _ _ hS (lv_sub hl [1, 2, 4, 0] rfl)
      clear h
      have h := hp30
      clear hp30
      refine lv_if_ne (tgt := 143) hx hb dX6_lasts_127 (by decide) (fun c28 => ?_) (fun c28 => ?_)
      · have h := if_f h c28
        refine lv_iconst (v := (0 : Int32)) hx hb dX6_lasts_143 (by decide) ?_
        cases h
        exact K30 _ _ _ hS (lv_sub hl [0, 1, 2, 3] rfl)
      · have h := if_t h c28
        refine lv_aload_n hx hb dX6_lasts_130 rfl (lv_at hl 0 rfl) ?_
        refine lv_bipush (v := (8 : Int32)) hx hb dX6_lasts_131 (by decide) ?_
        refine h_ci hS h (fun z hz => h_rV (rest := []) Z hS hu0 rfl v_X6_333 (w_X6_weightOf hu0 hz) rfl rfl ⟨by decide, by decide⟩ rfl hl.1 rfl (Nat.le_of_ble_eq_true rfl) (Nat.zero_le _) (Nat.zero_le _) dX6_lasts_133) (fun x59 H locs hS h => ?_)
        refine lv_if_le (tgt := 143) hx hb dX6_lasts_136 (by decide) (fun c60 => ?_) (fun c60 => ?_)
        · have h := if_t h c60
          refine lv_iconst (v := (0 : Int32)) hx hb dX6_lasts_143 (by decide) ?_
          cases h
          exact K30 _ _ _ hS (lv_sub hl [0, 1, 2, 3] rfl)
        · have h := if_f h c60
          refine lv_iconst (v := (1 : Int32)) hx hb dX6_lasts_139 (by decide) ?_
          refine lv_goto (tgt := 144) hx hb dX6_lasts_140 (by decide) ?_
          cases h
          exact K30 _ _ _ hS (lv_sub hl [0, 1, 2, 3] rfl)
set_option maxRecDepth 100000 in
set_option maxHeartbeats 4000000 in
theorem w_X6_lasts {a1 : Int32} (hi0 : S 200 = (24, 0)) {r : (Mem × Int32)} (h : f_X6_lasts σ a1 = some r) : Met l yX6_lasts (ws_ yX6_lasts cX6_lasts 7 (some .int)) rm_X6_lasts (va_Pc [.ref (ad 200), .int a1] (PreG D (Ew D A) A ad S σ)) (QG D A ad S (some (.int r.2)) r.1) 0 0 A := by
  refine y_met (by decide) (Nat.le_of_ble_eq_true rfl) (fun p e s m below meth c ls Z hS hl => ?_)
  have hx := Z.1
  have hb := Z.2.1
  have hown := Z.2.2.2.2.2.1
  have hts := Z.2.2.2.2.2.2.1
  unfold f_X6_lasts at h
  refine lv_aload_n hx hb dX6_lasts_0 rfl (lv_at hl 0 rfl) ?_
  refine h_getC (n := 6) (j := 206) (sh := (1, 9)) Z hS cls_14 hi0 (by decide) rfl rfl rfl fl_X6_19_14 dX6_lasts_1 (fun hc1 => ?_)
  refine lv_bipush (v := (8 : Int32)) hx hb dX6_lasts_4 (by decide) ?_
  refine lv_aload_n hx hb dX6_lasts_6 rfl (lv_at hl 0 rfl) ?_
  refine h_getI Z hS cls_14 hi0 (by decide) rfl fl_X6_375_14 dX6_lasts_7 h (fun x2 h => ?_)
  refine h_iast Z hS hc1 dX6_lasts_10 h (fun σ3 H locs hS h => ?_)
  refine lv_iconst (v := (0 : Int32)) hx hb dX6_lasts_11 (by decide) ?_
  refine lv_istore_n (lv' := [(2, .int (0 : Int32)), (0, .ref (ad 200)), (1, .int a1)]) hx hb dX6_lasts_12 rfl hl (by decide) rfl (fun ls hl => ?_)
  refine w_X6_lasts_L13 Z hi0 (fun σ18 H locs ls hS hl h => ?_) FU _ _ _ _ _ hS (lv_sub hl [1, 2, 0] rfl) h
  refine lv_iconst (v := (0 : Int32)) hx hb dX6_lasts_67 (by decide) ?_
  refine lv_istore_n (lv' := [(2, .int (0 : Int32)), (0, .ref (ad 200)), (1, .int a1)]) hx hb dX6_lasts_68 rfl hl (by decide) rfl (fun ls hl => ?_)
  refine w_X6_lasts_L69 Z hi0 (fun σ22 H locs ls hS hl h => ?_) FU _ _ _ _ _ hS (lv_sub hl [1, 2, 0] rfl) h
  refine lv_iconst (v := (0 : Int32)) hx hb dX6_lasts_92 (by decide) ?_
  refine lv_istore_n (lv' := [(2, .int (0 : Int32)), (0, .ref (ad 200)), (1, .int a1)]) hx hb dX6_lasts_93 rfl hl (by decide) rfl (fun ls hl => ?_)
  refine w_X6_lasts_L94 Z hi0 (fun σ26 H locs ls hS hl h => ?_) FU _ _ _ _ _ hS (lv_sub hl [1, 2, 0] rfl) h
  refine lv_iconst (v := (0 : Int32)) hx hb dX6_lasts_116 (by decide) ?_
  refine lv_istore_n (lv' := [(2, .int (0 : Int32)), (0, .ref (ad 200)), (1, .int a1)]) hx hb dX6_lasts_117 rfl hl (by decide) rfl (fun ls hl => ?_)
  refine lv_iconst (v := (0 : Int32)) hx hb dX6_lasts_118 (by decide) ?_
  refine lv_istore_n (lv' := [(3, .int (0 : Int32)), (2, .int (0 : Int32)), (0, .ref (ad 200)), (1, .int a1)]) hx hb dX6_lasts_119 rfl hl (by decide) rfl (fun ls hl => ?_)
  refine w_X6_lasts_L120 Z hi0 (fun σ61 x62 H locs ls hS hl h => ?_) (fun σ63 H locs ls hS hl h => ?_) FU _ _ _ _ _ _ hS (lv_sub hl [2, 3, 1, 0] rfl) h
  · refine lv_iload_n hx hb dX6_lasts_255 rfl (lv_at hl 0 rfl) ?_
    exact h_iretm Z hS dX6_lasts_256 h
  · refine lv_bipush (v := (100 : Int32)) hx hb dX6_lasts_263 (by decide) ?_
    exact h_iretm Z hS dX6_lasts_265 h
end
