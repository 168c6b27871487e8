set_option maxRecDepth 100000
theorem dX1_led_0 : decode cX1_led 0 = .ok (.iload_n 1, 1) := by decide +kernel
theorem dX1_led_1 : decode cX1_led 1 = .ok (.invokestatic 132, 3) := by decide +kernel
theorem dX1_led_4 : decode cX1_led 4 = .ok (.ifCond .eq 15, 3) := by decide +kernel
theorem dX1_led_7 : decode cX1_led 7 = .ok (.iload_n 2, 1) := by decide +kernel
theorem dX1_led_8 : decode cX1_led 8 = .ok (.i2l, 1) := by decide +kernel
theorem dX1_led_9 : decode cX1_led 9 = .ok (.lconst 0, 1) := by decide +kernel
theorem dX1_led_10 : decode cX1_led 10 = .ok (.ldc2_w 421, 3) := by decide +kernel
theorem dX1_led_13 : decode cX1_led 13 = .ok (.invokestatic 5, 3) := by decide +kernel
theorem dX1_led_16 : decode cX1_led 16 = .ok (.ifCond .ne 5, 3) := by decide +kernel
theorem dX1_led_19 : decode cX1_led 19 = .ok (.iconst (-1), 1) := by decide +kernel
theorem dX1_led_20 : decode cX1_led 20 = .ok (.ireturn, 1) := by decide +kernel
theorem dX1_led_21 : decode cX1_led 21 = .ok (.iload_n 2, 1) := by decide +kernel
theorem dX1_led_22 : decode cX1_led 22 = .ok (.tableswitch 145 0 4 #[34, 41, 124, 131, 138], 34) := by decide +kernel
theorem dX1_led_56 : decode cX1_led 56 = .ok (.aload_n 0, 1) := by decide +kernel
theorem dX1_led_57 : decode cX1_led 57 = .ok (.getfield 48, 3) := by decide +kernel
theorem dX1_led_60 : decode cX1_led 60 = .ok (.iload_n 1, 1) := by decide +kernel
theorem dX1_led_61 : decode cX1_led 61 = .ok (.iaload, 1) := by decide +kernel
theorem dX1_led_62 : decode cX1_led 62 = .ok (.ireturn, 1) := by decide +kernel
theorem dX1_led_63 : decode cX1_led 63 = .ok (.iconst 0, 1) := by decide +kernel
theorem dX1_led_64 : decode cX1_led 64 = .ok (.istore_n 3, 1) := by decide +kernel
theorem dX1_led_65 : decode cX1_led 65 = .ok (.iconst 0, 1) := by decide +kernel
theorem dX1_led_66 : decode cX1_led 66 = .ok (.istore 4, 2) := by decide +kernel
theorem dX1_led_68 : decode cX1_led 68 = .ok (.iload 4, 2) := by decide +kernel
theorem dX1_led_70 : decode cX1_led 70 = .ok (.aload_n 0, 1) := by decide +kernel
theorem dX1_led_71 : decode cX1_led 71 = .ok (.getfield 140, 3) := by decide +kernel
theorem dX1_led_74 : decode cX1_led 74 = .ok (.if_icmp .ge 70, 3) := by decide +kernel
theorem dX1_led_77 : decode cX1_led 77 = .ok (.iload_n 3, 1) := by decide +kernel
theorem dX1_led_78 : decode cX1_led 78 = .ok (.aload_n 0, 1) := by decide +kernel
theorem dX1_led_79 : decode cX1_led 79 = .ok (.getfield 24, 3) := by decide +kernel
theorem dX1_led_82 : decode cX1_led 82 = .ok (.iload 4, 2) := by decide +kernel
theorem dX1_led_84 : decode cX1_led 84 = .ok (.aaload, 1) := by decide +kernel
theorem dX1_led_85 : decode cX1_led 85 = .ok (.getfield 202, 3) := by decide +kernel
theorem dX1_led_88 : decode cX1_led 88 = .ok (.iload_n 1, 1) := by decide +kernel
theorem dX1_led_89 : decode cX1_led 89 = .ok (.invokevirtual 423, 3) := by decide +kernel
theorem dX1_led_92 : decode cX1_led 92 = .ok (.iadd, 1) := by decide +kernel
theorem dX1_led_93 : decode cX1_led 93 = .ok (.istore_n 3, 1) := by decide +kernel
theorem dX1_led_94 : decode cX1_led 94 = .ok (.iconst 0, 1) := by decide +kernel
theorem dX1_led_95 : decode cX1_led 95 = .ok (.istore 5, 2) := by decide +kernel
theorem dX1_led_97 : decode cX1_led 97 = .ok (.iload 5, 2) := by decide +kernel
theorem dX1_led_99 : decode cX1_led 99 = .ok (.aload_n 0, 1) := by decide +kernel
theorem dX1_led_100 : decode cX1_led 100 = .ok (.getfield 24, 3) := by decide +kernel
theorem dX1_led_103 : decode cX1_led 103 = .ok (.iload 4, 2) := by decide +kernel
theorem dX1_led_105 : decode cX1_led 105 = .ok (.aaload, 1) := by decide +kernel
theorem dX1_led_106 : decode cX1_led 106 = .ok (.getfield 147, 3) := by decide +kernel
theorem dX1_led_109 : decode cX1_led 109 = .ok (.if_icmp .ge 29, 3) := by decide +kernel
theorem dX1_led_112 : decode cX1_led 112 = .ok (.iload_n 3, 1) := by decide +kernel
theorem dX1_led_113 : decode cX1_led 113 = .ok (.aload_n 0, 1) := by decide +kernel
theorem dX1_led_114 : decode cX1_led 114 = .ok (.getfield 24, 3) := by decide +kernel
theorem dX1_led_117 : decode cX1_led 117 = .ok (.iload 4, 2) := by decide +kernel
theorem dX1_led_119 : decode cX1_led 119 = .ok (.aaload, 1) := by decide +kernel
theorem dX1_led_120 : decode cX1_led 120 = .ok (.getfield 156, 3) := by decide +kernel
theorem dX1_led_123 : decode cX1_led 123 = .ok (.iload 5, 2) := by decide +kernel
theorem dX1_led_125 : decode cX1_led 125 = .ok (.aaload, 1) := by decide +kernel
theorem dX1_led_126 : decode cX1_led 126 = .ok (.iload_n 1, 1) := by decide +kernel
theorem dX1_led_127 : decode cX1_led 127 = .ok (.invokevirtual 426, 3) := by decide +kernel
theorem dX1_led_130 : decode cX1_led 130 = .ok (.iadd, 1) := by decide +kernel
theorem dX1_led_131 : decode cX1_led 131 = .ok (.istore_n 3, 1) := by decide +kernel
theorem dX1_led_132 : decode cX1_led 132 = .ok (.iinc 5 1, 3) := by decide +kernel
theorem dX1_led_135 : decode cX1_led 135 = .ok (.goto (-38), 3) := by decide +kernel
theorem dX1_led_138 : decode cX1_led 138 = .ok (.iinc 4 1, 3) := by decide +kernel
theorem dX1_led_141 : decode cX1_led 141 = .ok (.goto (-73), 3) := by decide +kernel
theorem dX1_led_144 : decode cX1_led 144 = .ok (.iload_n 3, 1) := by decide +kernel
theorem dX1_led_145 : decode cX1_led 145 = .ok (.ireturn, 1) := by decide +kernel
theorem dX1_led_146 : decode cX1_led 146 = .ok (.aload_n 0, 1) := by decide +kernel
theorem dX1_led_147 : decode cX1_led 147 = .ok (.getfield 51, 3) := by decide +kernel
theorem dX1_led_150 : decode cX1_led 150 = .ok (.iload_n 1, 1) := by decide +kernel
theorem dX1_led_151 : decode cX1_led 151 = .ok (.iaload, 1) := by decide +kernel
theorem dX1_led_152 : decode cX1_led 152 = .ok (.ireturn, 1) := by decide +kernel
theorem dX1_led_153 : decode cX1_led 153 = .ok (.aload_n 0, 1) := by decide +kernel
theorem dX1_led_154 : decode cX1_led 154 = .ok (.getfield 54, 3) := by decide +kernel
theorem dX1_led_157 : decode cX1_led 157 = .ok (.iload_n 1, 1) := by decide +kernel
theorem dX1_led_158 : decode cX1_led 158 = .ok (.iaload, 1) := by decide +kernel
theorem dX1_led_159 : decode cX1_led 159 = .ok (.ireturn, 1) := by decide +kernel
theorem dX1_led_160 : decode cX1_led 160 = .ok (.aload_n 0, 1) := by decide +kernel
theorem dX1_led_161 : decode cX1_led 161 = .ok (.getfield 57, 3) := by decide +kernel
theorem dX1_led_164 : decode cX1_led 164 = .ok (.iload_n 1, 1) := by decide +kernel
theorem dX1_led_165 : decode cX1_led 165 = .ok (.iaload, 1) := by decide +kernel
theorem dX1_led_166 : decode cX1_led 166 = .ok (.ireturn, 1) := by decide +kernel
theorem dX1_led_167 : decode cX1_led 167 = .ok (.aload_n 0, 1) := by decide +kernel
theorem dX1_led_168 : decode cX1_led 168 = .ok (.getfield 60, 3) := by decide +kernel
theorem dX1_led_171 : decode cX1_led 171 = .ok (.iload_n 1, 1) := by decide +kernel
theorem dX1_led_172 : decode cX1_led 172 = .ok (.iaload, 1) := by decide +kernel
theorem dX1_led_173 : decode cX1_led 173 = .ok (.ireturn, 1) := by decide +kernel
abbrev rm_X1_led : Room := k2_rm 2 45
section
variable {p : Program} {l : Launch} {e : Env} {s : State} {m : MethodId} {args : Array Value} {below : List Frame} {meth : Method} {c : Code} {D : gD} {A : Nat → Prop} {ad : Nat → Nat} {S : Nat → Nat × Nat} {σ : Mem}
set_option maxRecDepth 100000 in
set_option maxHeartbeats 4000000 in
theorem w_X1_led_L97 (Z : Cz D (Ew D A) A cX1_led 6 (some .int) RX1 p s m args meth c) {u1 : Int32} {u4 : Int32} (hu0 : S 0 = (10, 0)) {r : Int32} {k138 : Int32 → Option Int32}
    (hk138 : ∀ (w3 : Int32) (H : Heap) (locs : List Loc) (ls : Array Slot), St D A ad S σ s.heap H locs → lv_has ls 6 [(0, .ref (ad 0)), (1, .int u1), (3, .int w3), (4, .int u4)] → k138 w3 = some r → W p l e rm_X1_led s m args below meth c H locs 0 0 (MQ below (QG D A ad S (some (.int r)) σ) args s 0 0 A) (F0 m 138 ls [])) :
    ∀ (n : Nat) (v3 : Int32) (v5 : Int32) (H : Heap) (locs : List Loc) (ls : Array Slot), St D A ad S σ s.heap H locs → lv_has ls 6 [(0, .ref (ad 0)), (1, .int u1), (3, .int v3), (4, .int u4), (5, .int v5)] → f_X1_led_L97 k138 σ u1 u4 n v3 v5 = some r → W p l e rm_X1_led s m args below meth c H locs 0 0 (MQ below (QG D A ad S (some (.int r)) σ) args s 0 0 A) (F0 m 97 ls []) := by
  have hx := Z.1
  have hb := Z.2.1
  have hown := Z.2.2.2.2.2.1
  have hts := Z.2.2.2.2.2.2.1
  intro n
  induction n with
  | zero => intro v3 v5 H locs ls hS hl h; cases h
  | succ n ih =>
    intro v3 v5 H locs ls hS hl h
    unfold f_X1_led_L97 at h
    refine lv_iload hx hb dX1_led_97 (lv_at hl 4 rfl) ?_
    refine lv_aload_n hx hb dX1_led_99 rfl (lv_at hl 0 rfl) ?_
    refine h_getC (n := 3) (j := 3) (sh := (5, 8)) Z hS cls_0 hu0 (by decide) rfl rfl rfl fl_X1_24_0 dX1_led_100 (fun hc15 => ?_)
    refine lv_iload hx hb dX1_led_103 (lv_at hl 3 rfl) ?_
    refine h_aldN (sh := (12, 0)) Z hS hc15 (by decide) (by decide) rfl dX1_led_105 h (fun j16 hj16 h => ?_)
    refine h_getI Z hS cls_2 hj16 (by decide) rfl fl_X1_147_2 dX1_led_106 h (fun x17 h => ?_)
    refine lv_icmp_ge (tgt := 138) hx hb dX1_led_109 (by decide) (fun c18 => ?_) (fun c18 => ?_)
    · have h := if_t h c18
      exact hk138 _ _ _ _ hS (lv_sub hl [0, 1, 2, 3] rfl) h
    · have h := if_f h c18
      refine lv_iload_n hx hb dX1_led_112 rfl (lv_at hl 2 rfl) ?_
      refine lv_aload_n hx hb dX1_led_113 rfl (lv_at hl 0 rfl) ?_
      refine h_getC (n := 3) (j := 3) (sh := (5, 8)) Z hS cls_0 hu0 (by decide) rfl rfl rfl fl_X1_24_0 dX1_led_114 (fun hc19 => ?_)
      refine lv_iload hx hb dX1_led_117 (lv_at hl 3 rfl) ?_
      refine h_aldN (sh := (12, 0)) Z hS hc19 (by decide) (by decide) rfl dX1_led_119 h (fun j20 hj20 h => ?_)
      refine h_getC (n := 1) (j := (j20 + 1)) (sh := (6, 10)) Z hS cls_2 hj20 (by decide) rfl rfl rfl fl_X1_156_2 dX1_led_120 (fun hc21 => ?_)
      refine lv_iload hx hb dX1_led_123 (lv_at hl 4 rfl) ?_
      refine h_aldN (sh := (14, 0)) Z hS hc21 (by decide) (by decide) rfl dX1_led_125 h (fun j22 hj22 h => ?_)
      refine lv_iload_n hx hb dX1_led_126 rfl (lv_at hl 1 rfl) ?_
      refine h_ci hS h (fun z hz => h_rU (rest := [.int v3]) Z hS hj22 rfl vu_X1_426 (w_X4_of_4 hj22 hz) rfl rfl ⟨by decide, by decide⟩ rfl hl.1 rfl (Nat.le_of_ble_eq_true rfl) (Nat.zero_le _) (Nat.zero_le _) dX1_led_127) (fun x23 H locs hS h => ?_)
      refine lv_iadd hx hb dX1_led_130 ?_
      refine h_leti h (fun x24 h => ?_)
      refine lv_istore_n (lv' := [(3, .int x24), (0, .ref (ad 0)), (1, .int u1), (4, .int u4), (5, .int v5)]) hx hb dX1_led_131 rfl hl (by decide) rfl (fun ls hl => ?_)
      refine lv_iinc (v := (v5 + (1 : Int32))) (lv' := [(5, .int (v5 + (1 : Int32))), (3, .int x24), (0, .ref (ad 0)), (1, .int u1), (4, .int u4)]) hx hb dX1_led_132 hl (k := 4) rfl rfl (by decide) rfl (fun ls hl => ?_)
      refine lv_goto (tgt := 97) hx hb dX1_led_135 (by decide) ?_
      exact ih _ _ _ _ _ hS (lv_sub hl [2, 3, 1, 4, 0] rfl) h
set_option maxRecDepth 100000 in
set_option maxHeartbeats 4000000 in
theorem w_X1_led_L68 (Z : Cz D (Ew D A) A cX1_led 6 (some .int) RX1 p s m args meth c) {u1 : Int32} (hu0 : S 0 = (10, 0)) {r : Int32} {k144 : Int32 → Option Int32}
    (hk144 : ∀ (w3 : Int32) (H : Heap) (locs : List Loc) (ls : Array Slot), St D A ad S σ s.heap H locs → lv_has ls 6 [(3, .int w3)] → k144 w3 = some r → W p l e rm_X1_led s m args below meth c H locs 0 0 (MQ below (QG D A ad S (some (.int r)) σ) args s 0 0 A) (F0 m 144 ls [])) :
    ∀ (n : Nat) (v3 : Int32) (v4 : Int32) (H : Heap) (locs : List Loc) (ls : Array Slot), St D A ad S σ s.heap H locs → lv_has ls 6 [(0, .ref (ad 0)), (1, .int u1), (3, .int v3), (4, .int v4)] → f_X1_led_L68 k144 σ u1 n v3 v4 = some r → W p l e rm_X1_led s m args below meth c H locs 0 0 (MQ below (QG D A ad S (some (.int r)) σ) args s 0 0 A) (F0 m 68 ls []) := by
  have hx := Z.1
  have hb := Z.2.1
  have hown := Z.2.2.2.2.2.1
  have hts := Z.2.2.2.2.2.2.1
  intro n
  induction n with
  | zero => intro v3 v4 H locs ls hS hl h; cases h
  | succ n ih =>
    intro v3 v4 H locs ls hS hl h
    unfold f_X1_led_L68 at h
    refine lv_iload hx hb dX1_led_68 (lv_at hl 3 rfl) ?_
    refine lv_aload_n hx hb dX1_led_70 rfl (lv_at hl 0 rfl) ?_
    refine h_getI Z hS cls_0 hu0 (by decide) rfl fl_X1_140_0 dX1_led_71 h (fun x8 h => ?_)
    refine lv_icmp_ge (tgt := 144) hx hb dX1_led_74 (by decide) (fun c9 => ?_) (fun c9 => ?_)
    · have h := if_t h c9
      exact hk144 _ _ _ _ hS (lv_sub hl [2] rfl) h
    · have h := if_f h c9
      refine lv_iload_n hx hb dX1_led_77 rfl (lv_at hl 2 rfl) ?_
      refine lv_aload_n hx hb dX1_led_78 rfl (lv_at hl 0 rfl) ?_
      refine h_getC (n := 3) (j := 3) (sh := (5, 8)) Z hS cls_0 hu0 (by decide) rfl rfl rfl fl_X1_24_0 dX1_led_79 (fun hc10 => ?_)
      refine lv_iload hx hb dX1_led_82 (lv_at hl 3 rfl) ?_
      refine h_aldN (sh := (12, 0)) Z hS hc10 (by decide) (by decide) rfl dX1_led_84 h (fun j11 hj11 h => ?_)
      refine h_getC (n := 2) (j := (j11 + 2)) (sh := (13, 0)) Z hS cls_2 hj11 (by decide) rfl rfl rfl fl_X1_202_2 dX1_led_85 (fun hc12 => ?_)
      refine lv_iload_n hx hb dX1_led_88 rfl (lv_at hl 1 rfl) ?_
      refine h_ci hS h (fun z hz => h_rU (rest := [.int v3]) Z hS hc12 rfl vu_X1_423 (w_X4_of_3 hc12 hz) rfl rfl ⟨by decide, by decide⟩ rfl hl.1 rfl (Nat.le_of_ble_eq_true rfl) (Nat.zero_le _) (Nat.zero_le _) dX1_led_89) (fun x13 H locs hS h => ?_)
      refine lv_iadd hx hb dX1_led_92 ?_
      refine h_leti h (fun x14 h => ?_)
      refine lv_istore_n (lv' := [(3, .int x14), (0, .ref (ad 0)), (1, .int u1), (4, .int v4)]) hx hb dX1_led_93 rfl hl (by decide) rfl (fun ls hl => ?_)
      refine lv_iconst (v := (0 : Int32)) hx hb dX1_led_94 (by decide) ?_
      refine lv_istore (lv' := [(5, .int (0 : Int32)), (3, .int x14), (0, .ref (ad 0)), (1, .int u1), (4, .int v4)]) hx hb dX1_led_95 hl (by decide) rfl (fun ls hl => ?_)
      refine w_X1_led_L97 Z hu0 (fun x25 H locs ls hS hl h => ?_) FU _ _ _ _ _ hS (lv_sub hl [2, 3, 1, 4, 0] rfl) h
      refine lv_iinc (v := (v4 + (1 : Int32))) (lv' := [(4, .int (v4 + (1 : Int32))), (0, .ref (ad 0)), (1, .int u1), (3, .int x25)]) hx hb dX1_led_138 hl (k := 3) rfl rfl (by decide) rfl (fun ls hl => ?_)
      refine lv_goto (tgt := 68) hx hb dX1_led_141 (by decide) ?_
      exact ih _ _ _ _ _ hS (lv_sub hl [1, 2, 3, 0] rfl) h
set_option maxRecDepth 100000 in
set_option maxHeartbeats 4000000 in
theorem w_X1_led {a1 : Int32} {a2 : Int32} (hi0 : S 0 = (10, 0)) {r : Int32} (h : f_X1_led σ a1 a2 = some r) : Met l yX1_led (ws_ yX1_led cX1_led 6 (some .int)) rm_X1_led (va_Pc [.ref (ad 0), .int a1, .int a2] (PreG D (Ew D A) A ad S σ)) (QG D A ad S (some (.int r)) σ) 0 0 A := by
  refine y_met (by decide) (Nat.le_of_ble_eq_true rfl) (fun p e s m below meth c ls Z hS hl => ?_)
  have hx := Z.1
  have hb := Z.2.1
  have hown := Z.2.2.2.2.2.1
  have hts := Z.2.2.2.2.2.2.1
  unfold f_X1_led at h
  refine lv_iload_n hx hb dX1_led_0 rfl (lv_at hl 1 rfl) ?_
  refine h_ci hS h (fun z hz => h_rS (rest := []) Z hS v_X1_132 (w_X1_isSize hz) rfl rfl ⟨by decide, by decide⟩ rfl hl.1 rfl (Nat.le_of_ble_eq_true rfl) (Nat.zero_le _) (Nat.zero_le _) dX1_led_1) (fun x1 H locs hS h => ?_)
  refine lv_if_eq (tgt := 19) hx hb dX1_led_4 (by decide) (fun c2 => ?_) (fun c2 => ?_)
  · have h := if_t h c2
    refine lv_iconst (v := (-1 : Int32)) hx hb dX1_led_19 (by decide) ?_
    exact h_iret Z hS dX1_led_20 h
  · have h := if_f h c2
    refine lv_iload_n hx hb dX1_led_7 rfl (lv_at hl 2 rfl) ?_
    refine lv_i2l hx hb dX1_led_8 rfl ?_
    refine lv_lconst (v := (0 : Int64)) hx hb dX1_led_9 (by decide) ?_
    refine lv_ldc2 (v := (5 : Int64)) hx hb hown (hts _ q1128) dX1_led_10 ?_
    refine h_ci hS h (fun z hz => h_rS (rest := []) Z hS v_X1_5 (w_X1_isIn hz) rfl rfl ⟨by decide, by decide⟩ rfl hl.1 rfl (Nat.le_of_ble_eq_true rfl) (Nat.zero_le _) (Nat.zero_le _) dX1_led_13) (fun x3 H locs hS h => ?_)
    refine lv_if_ne (tgt := 21) hx hb dX1_led_16 (by decide) (fun c4 => ?_) (fun c4 => ?_)
    · have h := if_f h c4
      refine lv_iload_n hx hb dX1_led_21 rfl (lv_at hl 2 rfl) ?_
      by_cases c5_0 : a2 = (0 : Int32)
      · refine h_tsw (k := (0 : Int32)) (off := 34) (tgt := 56) Z dX1_led_22 c5_0 (by decide) (by decide) rfl (by decide) ?_
        have h := if_t h c5_0
        refine lv_aload_n hx hb dX1_led_56 rfl (lv_at hl 0 rfl) ?_
        refine h_getC (n := 12) (j := 12) (sh := (1, 8)) Z hS cls_0 hi0 (by decide) rfl rfl rfl fl_X1_48_0 dX1_led_57 (fun hc6 => ?_)
        refine lv_iload_n hx hb dX1_led_60 rfl (lv_at hl 1 rfl) ?_
        refine h_iald Z hS hc6 dX1_led_61 h (fun x7 h => ?_)
        exact h_iret Z hS dX1_led_62 h
      replace h := if_f h c5_0
      by_cases c5_1 : a2 = (1 : Int32)
      · refine h_tsw (k := (1 : Int32)) (off := 41) (tgt := 63) Z dX1_led_22 c5_1 (by decide) (by decide) rfl (by decide) ?_
        have h := if_t h c5_1
        refine lv_iconst (v := (0 : Int32)) hx hb dX1_led_63 (by decide) ?_
        refine lv_istore_n (lv' := [(3, .int (0 : Int32)), (0, .ref (ad 0)), (1, .int a1), (2, .int a2)]) hx hb dX1_led_64 rfl hl (by decide) rfl (fun ls hl => ?_)
        refine lv_iconst (v := (0 : Int32)) hx hb dX1_led_65 (by decide) ?_
        refine lv_istore (lv' := [(4, .int (0 : Int32)), (3, .int (0 : Int32)), (0, .ref (ad 0)), (1, .int a1), (2, .int a2)]) hx hb dX1_led_66 hl (by decide) rfl (fun ls hl => ?_)
        refine w_X1_led_L68 Z hi0 (fun x26 H locs ls hS hl h => ?_) FU _ _ _ _ _ hS (lv_sub hl [2, 3, 1, 0] rfl) h
        refine lv_iload_n hx hb dX1_led_144 rfl (lv_at hl 0 rfl) ?_
        exact h_iret Z hS dX1_led_145 h
      replace h := if_f h c5_1
      by_cases c5_2 : a2 = (2 : Int32)
      · refine h_tsw (k := (2 : Int32)) (off := 124) (tgt := 146) Z dX1_led_22 c5_2 (by decide) (by decide) rfl (by decide) ?_
        have h := if_t h c5_2
        refine lv_aload_n hx hb dX1_led_146 rfl (lv_at hl 0 rfl) ?_
        refine h_getC (n := 13) (j := 13) (sh := (1, 8)) Z hS cls_0 hi0 (by decide) rfl rfl rfl fl_X1_51_0 dX1_led_147 (fun hc27 => ?_)
        refine lv_iload_n hx hb dX1_led_150 rfl (lv_at hl 1 rfl) ?_
        refine h_iald Z hS hc27 dX1_led_151 h (fun x28 h => ?_)
        exact h_iret Z hS dX1_led_152 h
      replace h := if_f h c5_2
      by_cases c5_3 : a2 = (3 : Int32)
      · refine h_tsw (k := (3 : Int32)) (off := 131) (tgt := 153) Z dX1_led_22 c5_3 (by decide) (by decide) rfl (by decide) ?_
        have h := if_t h c5_3
        refine lv_aload_n hx hb dX1_led_153 rfl (lv_at hl 0 rfl) ?_
        refine h_getC (n := 14) (j := 14) (sh := (1, 8)) Z hS cls_0 hi0 (by decide) rfl rfl rfl fl_X1_54_0 dX1_led_154 (fun hc29 => ?_)
        refine lv_iload_n hx hb dX1_led_157 rfl (lv_at hl 1 rfl) ?_
        refine h_iald Z hS hc29 dX1_led_158 h (fun x30 h => ?_)
        exact h_iret Z hS dX1_led_159 h
      replace h := if_f h c5_3
      by_cases c5_4 : a2 = (4 : Int32)
      · refine h_tsw (k := (4 : Int32)) (off := 138) (tgt := 160) Z dX1_led_22 c5_4 (by decide) (by decide) rfl (by decide) ?_
        have h := if_t h c5_4
        refine lv_aload_n hx hb dX1_led_160 rfl (lv_at hl 0 rfl) ?_
        refine h_getC (n := 15) (j := 15) (sh := (1, 8)) Z hS cls_0 hi0 (by decide) rfl rfl rfl fl_X1_57_0 dX1_led_161 (fun hc31 => ?_)
        refine lv_iload_n hx hb dX1_led_164 rfl (lv_at hl 1 rfl) ?_
        refine h_iald Z hS hc31 dX1_led_165 h (fun x32 h => ?_)
        exact h_iret Z hS dX1_led_166 h
      replace h := if_f h c5_4
      refine h_tswd (n := 4) (tgt := 167) Z dX1_led_22 (by decide) (fun t ht => ?_) (by decide) ?_
      · rcases (show t = 0 ∨ t = 1 ∨ t = 2 ∨ t = 3 ∨ t = 4 by omega) with rfl | rfl | rfl | rfl | rfl
        · exact Or.inr (ne_int c5_0 (by decide))
        · exact Or.inr (ne_int c5_1 (by decide))
        · exact Or.inr (ne_int c5_2 (by decide))
        · exact Or.inr (ne_int c5_3 (by decide))
        · exact Or.inr (ne_int c5_4 (by decide))
      refine lv_aload_n hx hb dX1_led_167 rfl (lv_at hl 0 rfl) ?_
      refine h_getC (n := 16) (j := 16) (sh := (1, 8)) Z hS cls_0 hi0 (by decide) rfl rfl rfl fl_X1_60_0 dX1_led_168 (fun hc33 => ?_)
      refine lv_iload_n hx hb dX1_led_171 rfl (lv_at hl 1 rfl) ?_
      refine h_iald Z hS hc33 dX1_led_172 h (fun x34 h => ?_)
      exact h_iret Z hS dX1_led_173 h
    · have h := if_t h c4
      refine lv_iconst (v := (-1 : Int32)) hx hb dX1_led_19 (by decide) ?_
      exact h_iret Z hS dX1_led_20 h
end
theorem dX1_digest_0 : decode cX1_digest 0 = .ok (.sipush 217, 3) := by decide +kernel
theorem dX1_digest_3 : decode cX1_digest 3 = .ok (.aload_n 0, 1) := by decide +kernel
theorem dX1_digest_4 : decode cX1_digest 4 = .ok (.getfield 299, 3) := by decide +kernel
theorem dX1_digest_7 : decode cX1_digest 7 = .ok (.iadd, 1) := by decide +kernel
theorem dX1_digest_8 : decode cX1_digest 8 = .ok (.istore_n 1, 1) := by decide +kernel
theorem dX1_digest_9 : decode cX1_digest 9 = .ok (.iconst 0, 1) := by decide +kernel
theorem dX1_digest_10 : decode cX1_digest 10 = .ok (.istore_n 2, 1) := by decide +kernel
theorem dX1_digest_11 : decode cX1_digest 11 = .ok (.iload_n 2, 1) := by decide +kernel
theorem dX1_digest_12 : decode cX1_digest 12 = .ok (.aload_n 0, 1) := by decide +kernel
theorem dX1_digest_13 : decode cX1_digest 13 = .ok (.getfield 140, 3) := by decide +kernel
theorem dX1_digest_16 : decode cX1_digest 16 = .ok (.if_icmp .ge 165, 3) := by decide +kernel
theorem dX1_digest_19 : decode cX1_digest 19 = .ok (.aload_n 0, 1) := by decide +kernel
theorem dX1_digest_20 : decode cX1_digest 20 = .ok (.getfield 24, 3) := by decide +kernel
theorem dX1_digest_23 : decode cX1_digest 23 = .ok (.iload_n 2, 1) := by decide +kernel
theorem dX1_digest_24 : decode cX1_digest 24 = .ok (.aaload, 1) := by decide +kernel
theorem dX1_digest_25 : decode cX1_digest 25 = .ok (.astore_n 3, 1) := by decide +kernel
theorem dX1_digest_26 : decode cX1_digest 26 = .ok (.bipush 31, 2) := by decide +kernel
theorem dX1_digest_28 : decode cX1_digest 28 = .ok (.iload_n 1, 1) := by decide +kernel
theorem dX1_digest_29 : decode cX1_digest 29 = .ok (.imul, 1) := by decide +kernel
theorem dX1_digest_30 : decode cX1_digest 30 = .ok (.aload_n 3, 1) := by decide +kernel
theorem dX1_digest_31 : decode cX1_digest 31 = .ok (.getfield 193, 3) := by decide +kernel
theorem dX1_digest_34 : decode cX1_digest 34 = .ok (.iadd, 1) := by decide +kernel
theorem dX1_digest_35 : decode cX1_digest 35 = .ok (.istore_n 1, 1) := by decide +kernel
theorem dX1_digest_36 : decode cX1_digest 36 = .ok (.bipush 31, 2) := by decide +kernel
theorem dX1_digest_38 : decode cX1_digest 38 = .ok (.iload_n 1, 1) := by decide +kernel
theorem dX1_digest_39 : decode cX1_digest 39 = .ok (.imul, 1) := by decide +kernel
theorem dX1_digest_40 : decode cX1_digest 40 = .ok (.aload_n 3, 1) := by decide +kernel
theorem dX1_digest_41 : decode cX1_digest 41 = .ok (.getfield 196, 3) := by decide +kernel
theorem dX1_digest_44 : decode cX1_digest 44 = .ok (.iadd, 1) := by decide +kernel
theorem dX1_digest_45 : decode cX1_digest 45 = .ok (.istore_n 1, 1) := by decide +kernel
theorem dX1_digest_46 : decode cX1_digest 46 = .ok (.bipush 31, 2) := by decide +kernel
theorem dX1_digest_48 : decode cX1_digest 48 = .ok (.iload_n 1, 1) := by decide +kernel
theorem dX1_digest_49 : decode cX1_digest 49 = .ok (.imul, 1) := by decide +kernel
theorem dX1_digest_50 : decode cX1_digest 50 = .ok (.aload_n 3, 1) := by decide +kernel
theorem dX1_digest_51 : decode cX1_digest 51 = .ok (.getfield 199, 3) := by decide +kernel
theorem dX1_digest_54 : decode cX1_digest 54 = .ok (.iadd, 1) := by decide +kernel
theorem dX1_digest_55 : decode cX1_digest 55 = .ok (.istore_n 1, 1) := by decide +kernel
theorem dX1_digest_56 : decode cX1_digest 56 = .ok (.iconst 0, 1) := by decide +kernel
theorem dX1_digest_57 : decode cX1_digest 57 = .ok (.istore 4, 2) := by decide +kernel
theorem dX1_digest_59 : decode cX1_digest 59 = .ok (.iload 4, 2) := by decide +kernel
theorem dX1_digest_61 : decode cX1_digest 61 = .ok (.bipush 8, 2) := by decide +kernel
theorem dX1_digest_63 : decode cX1_digest 63 = .ok (.if_icmp .ge 24, 3) := by decide +kernel
theorem dX1_digest_66 : decode cX1_digest 66 = .ok (.bipush 31, 2) := by decide +kernel
theorem dX1_digest_68 : decode cX1_digest 68 = .ok (.iload_n 1, 1) := by decide +kernel
theorem dX1_digest_69 : decode cX1_digest 69 = .ok (.imul, 1) := by decide +kernel
theorem dX1_digest_70 : decode cX1_digest 70 = .ok (.aload_n 3, 1) := by decide +kernel
theorem dX1_digest_71 : decode cX1_digest 71 = .ok (.getfield 202, 3) := by decide +kernel
theorem dX1_digest_74 : decode cX1_digest 74 = .ok (.iload 4, 2) := by decide +kernel
theorem dX1_digest_76 : decode cX1_digest 76 = .ok (.invokevirtual 423, 3) := by decide +kernel
theorem dX1_digest_79 : decode cX1_digest 79 = .ok (.iadd, 1) := by decide +kernel
theorem dX1_digest_80 : decode cX1_digest 80 = .ok (.istore_n 1, 1) := by decide +kernel
theorem dX1_digest_81 : decode cX1_digest 81 = .ok (.iinc 4 1, 3) := by decide +kernel
theorem dX1_digest_84 : decode cX1_digest 84 = .ok (.goto (-25), 3) := by decide +kernel
theorem dX1_digest_87 : decode cX1_digest 87 = .ok (.iconst 0, 1) := by decide +kernel
theorem dX1_digest_88 : decode cX1_digest 88 = .ok (.istore 4, 2) := by decide +kernel
theorem dX1_digest_90 : decode cX1_digest 90 = .ok (.iload 4, 2) := by decide +kernel
theorem dX1_digest_92 : decode cX1_digest 92 = .ok (.aload_n 3, 1) := by decide +kernel
theorem dX1_digest_93 : decode cX1_digest 93 = .ok (.getfield 147, 3) := by decide +kernel
theorem dX1_digest_96 : decode cX1_digest 96 = .ok (.if_icmp .ge 79, 3) := by decide +kernel
theorem dX1_digest_99 : decode cX1_digest 99 = .ok (.bipush 31, 2) := by decide +kernel
theorem dX1_digest_101 : decode cX1_digest 101 = .ok (.iload_n 1, 1) := by decide +kernel
theorem dX1_digest_102 : decode cX1_digest 102 = .ok (.imul, 1) := by decide +kernel
theorem dX1_digest_103 : decode cX1_digest 103 = .ok (.aload_n 3, 1) := by decide +kernel
theorem dX1_digest_104 : decode cX1_digest 104 = .ok (.getfield 156, 3) := by decide +kernel
theorem dX1_digest_107 : decode cX1_digest 107 = .ok (.iload 4, 2) := by decide +kernel
theorem dX1_digest_109 : decode cX1_digest 109 = .ok (.aaload, 1) := by decide +kernel
theorem dX1_digest_110 : decode cX1_digest 110 = .ok (.getfield 171, 3) := by decide +kernel
theorem dX1_digest_113 : decode cX1_digest 113 = .ok (.iadd, 1) := by decide +kernel
theorem dX1_digest_114 : decode cX1_digest 114 = .ok (.istore_n 1, 1) := by decide +kernel
theorem dX1_digest_115 : decode cX1_digest 115 = .ok (.iconst 0, 1) := by decide +kernel
theorem dX1_digest_116 : decode cX1_digest 116 = .ok (.istore 5, 2) := by decide +kernel
theorem dX1_digest_118 : decode cX1_digest 118 = .ok (.iload 5, 2) := by decide +kernel
theorem dX1_digest_120 : decode cX1_digest 120 = .ok (.bipush 8, 2) := by decide +kernel
theorem dX1_digest_122 : decode cX1_digest 122 = .ok (.if_icmp .ge 47, 3) := by decide +kernel
theorem dX1_digest_125 : decode cX1_digest 125 = .ok (.bipush 31, 2) := by decide +kernel
theorem dX1_digest_127 : decode cX1_digest 127 = .ok (.iload_n 1, 1) := by decide +kernel
theorem dX1_digest_128 : decode cX1_digest 128 = .ok (.imul, 1) := by decide +kernel
theorem dX1_digest_129 : decode cX1_digest 129 = .ok (.aload_n 3, 1) := by decide +kernel
theorem dX1_digest_130 : decode cX1_digest 130 = .ok (.getfield 156, 3) := by decide +kernel
theorem dX1_digest_133 : decode cX1_digest 133 = .ok (.iload 4, 2) := by decide +kernel
theorem dX1_digest_135 : decode cX1_digest 135 = .ok (.aaload, 1) := by decide +kernel
theorem dX1_digest_136 : decode cX1_digest 136 = .ok (.getfield 187, 3) := by decide +kernel
theorem dX1_digest_139 : decode cX1_digest 139 = .ok (.iload 5, 2) := by decide +kernel
theorem dX1_digest_141 : decode cX1_digest 141 = .ok (.iaload, 1) := by decide +kernel
theorem dX1_digest_142 : decode cX1_digest 142 = .ok (.iadd, 1) := by decide +kernel
theorem dX1_digest_143 : decode cX1_digest 143 = .ok (.istore_n 1, 1) := by decide +kernel
theorem dX1_digest_144 : decode cX1_digest 144 = .ok (.bipush 31, 2) := by decide +kernel
theorem dX1_digest_146 : decode cX1_digest 146 = .ok (.iload_n 1, 1) := by decide +kernel
theorem dX1_digest_147 : decode cX1_digest 147 = .ok (.imul, 1) := by decide +kernel
theorem dX1_digest_148 : decode cX1_digest 148 = .ok (.aload_n 3, 1) := by decide +kernel
theorem dX1_digest_149 : decode cX1_digest 149 = .ok (.getfield 156, 3) := by decide +kernel
theorem dX1_digest_152 : decode cX1_digest 152 = .ok (.iload 4, 2) := by decide +kernel
theorem dX1_digest_154 : decode cX1_digest 154 = .ok (.aaload, 1) := by decide +kernel
theorem dX1_digest_155 : decode cX1_digest 155 = .ok (.getfield 190, 3) := by decide +kernel
theorem dX1_digest_158 : decode cX1_digest 158 = .ok (.iload 5, 2) := by decide +kernel
theorem dX1_digest_160 : decode cX1_digest 160 = .ok (.iaload, 1) := by decide +kernel
theorem dX1_digest_161 : decode cX1_digest 161 = .ok (.iadd, 1) := by decide +kernel
theorem dX1_digest_162 : decode cX1_digest 162 = .ok (.istore_n 1, 1) := by decide +kernel
theorem dX1_digest_163 : decode cX1_digest 163 = .ok (.iinc 5 1, 3) := by decide +kernel
theorem dX1_digest_166 : decode cX1_digest 166 = .ok (.goto (-48), 3) := by decide +kernel
theorem dX1_digest_169 : decode cX1_digest 169 = .ok (.iinc 4 1, 3) := by decide +kernel
theorem dX1_digest_172 : decode cX1_digest 172 = .ok (.goto (-82), 3) := by decide +kernel
theorem dX1_digest_175 : decode cX1_digest 175 = .ok (.iinc 2 1, 3) := by decide +kernel
theorem dX1_digest_178 : decode cX1_digest 178 = .ok (.goto (-167), 3) := by decide +kernel
theorem dX1_digest_181 : decode cX1_digest 181 = .ok (.iload_n 1, 1) := by decide +kernel
theorem dX1_digest_182 : decode cX1_digest 182 = .ok (.ireturn, 1) := by decide +kernel
abbrev rm_X1_digest : Room := k2_rm 1 21
section
variable {p : Program} {l : Launch} {e : Env} {s : State} {m : MethodId} {args : Array Value} {below : List Frame} {meth : Method} {c : Code} {D : gD} {A : Nat → Prop} {ad : Nat → Nat} {S : Nat → Nat × Nat} {σ : Mem}
set_option maxRecDepth 100000 in
set_option maxHeartbeats 4000000 in
theorem w_X1_digest_L59 (Z : Cz D (Ew D A) A cX1_digest 6 (some .int) RX1 p s m args meth c) {u2 : Int32} {u3 : Nat} (hu0 : S 0 = (10, 0)) (hu3 : S u3 = (12, 0)) {r : Int32} {k87 : Int32 → Option Int32}
    (hk87 : ∀ (w1 : Int32) (H : Heap) (locs : List Loc) (ls : Array Slot), St D A ad S σ s.heap H locs → lv_has ls 6 [(0, .ref (ad 0)), (1, .int w1), (2, .int u2), (3, .ref (ad u3))] → k87 w1 = some r → W p l e rm_X1_digest s m args below meth c H locs 0 0 (MQ below (QG D A ad S (some (.int r)) σ) args s 0 0 A) (F0 m 87 ls [])) :
    ∀ (n : Nat) (v1 : Int32) (v4 : Int32) (H : Heap) (locs : List Loc) (ls : Array Slot), St D A ad S σ s.heap H locs → lv_has ls 6 [(0, .ref (ad 0)), (1, .int v1), (2, .int u2), (3, .ref (ad u3)), (4, .int v4)] → f_X1_digest_L59 k87 σ u2 u3 n v1 v4 = some r → W p l e rm_X1_digest s m args below meth c H locs 0 0 (MQ below (QG D A ad S (some (.int r)) σ) args s 0 0 A) (F0 m 59 ls []) := by
  have hx := Z.1
  have hb := Z.2.1
  have hown := Z.2.2.2.2.2.1
  have hts := Z.2.2.2.2.2.2.1
  intro n
  induction n with
  | zero => intro v1 v4 H locs ls hS hl h; cases h
  | succ n ih =>
    intro v1 v4 H locs ls hS hl h
    unfold f_X1_digest_L59 at h
    refine lv_iload hx hb dX1_digest_59 (lv_at hl 4 rfl) ?_
    refine lv_bipush (v := (8 : Int32)) hx hb dX1_digest_61 (by decide) ?_
    refine lv_icmp_ge (tgt := 87) hx hb dX1_digest_63 (by decide) (fun c13 => ?_) (fun c13 => ?_)
    · have h := if_t h c13
      exact hk87 _ _ _ _ hS (lv_sub hl [0, 1, 2, 3] rfl) h
    · have h := if_f h c13
      refine lv_bipush (v := (31 : Int32)) hx hb dX1_digest_66 (by decide) ?_
      refine lv_iload_n hx hb dX1_digest_68 rfl (lv_at hl 1 rfl) ?_
      refine lv_imul hx hb dX1_digest_69 ?_
      refine lv_aload_n hx hb dX1_digest_70 rfl (lv_at hl 3 rfl) ?_
      refine h_getC (n := 2) (j := (u3 + 2)) (sh := (13, 0)) Z hS cls_2 hu3 (by decide) rfl rfl rfl fl_X1_202_2 dX1_digest_71 (fun hc14 => ?_)
      refine lv_iload hx hb dX1_digest_74 (lv_at hl 4 rfl) ?_
      refine h_ci hS h (fun z hz => h_rU (rest := [.int ((31 : Int32) * v1)]) Z hS hc14 rfl vu_X1_423 (w_X4_of_3 hc14 hz) rfl rfl ⟨by decide, by decide⟩ rfl hl.1 rfl (Nat.le_of_ble_eq_true rfl) (Nat.zero_le _) (Nat.zero_le _) dX1_digest_76) (fun x15 H locs hS h => ?_)
      refine lv_iadd hx hb dX1_digest_79 ?_
      refine h_leti h (fun x16 h => ?_)
      refine lv_istore_n (lv' := [(1, .int x16), (0, .ref (ad 0)), (2, .int u2), (3, .ref (ad u3)), (4, .int v4)]) hx hb dX1_digest_80 rfl hl (by decide) rfl (fun ls hl => ?_)
      refine lv_iinc (v := (v4 + (1 : Int32))) (lv' := [(4, .int (v4 + (1 : Int32))), (1, .int x16), (0, .ref (ad 0)), (2, .int u2), (3, .ref (ad u3))]) hx hb dX1_digest_81 hl (k := 4) rfl rfl (by decide) rfl (fun ls hl => ?_)
      refine lv_goto (tgt := 59) hx hb dX1_digest_84 (by decide) ?_
      exact ih _ _ _ _ _ hS (lv_sub hl [2, 1, 3, 4, 0] rfl) h
set_option maxRecDepth 100000 in
set_option maxHeartbeats 4000000 in
theorem w_X1_digest_L118 (Z : Cz D (Ew D A) A cX1_digest 6 (some .int) RX1 p s m args meth c) {u2 : Int32} {u3 : Nat} {u4 : Int32} (hu0 : S 0 = (10, 0)) (hu3 : S u3 = (12, 0)) {r : Int32} {k169 : Int32 → Option Int32}
    (hk169 : ∀ (w1 : Int32) (H : Heap) (locs : List Loc) (ls : Array Slot), St D A ad S σ s.heap H locs → lv_has ls 6 [(0, .ref (ad 0)), (1, .int w1), (2, .int u2), (3, .ref (ad u3)), (4, .int u4)] → k169 w1 = some r → W p l e rm_X1_digest s m args below meth c H locs 0 0 (MQ below (QG D A ad S (some (.int r)) σ) args s 0 0 A) (F0 m 169 ls [])) :
    ∀ (n : Nat) (v1 : Int32) (v5 : Int32) (H : Heap) (locs : List Loc) (ls : Array Slot), St D A ad S σ s.heap H locs → lv_has ls 6 [(0, .ref (ad 0)), (1, .int v1), (2, .int u2), (3, .ref (ad u3)), (4, .int u4), (5, .int v5)] → f_X1_digest_L118 k169 σ u2 u3 u4 n v1 v5 = some r → W p l e rm_X1_digest s m args below meth c H locs 0 0 (MQ below (QG D A ad S (some (.int r)) σ) args s 0 0 A) (F0 m 118 ls []) := by
  have hx := Z.1
  have hb := Z.2.1
  have hown := Z.2.2.2.2.2.1
  have hts := Z.2.2.2.2.2.2.1
  intro n
  induction n with
  | zero => intro v1 v5 H locs ls hS hl h; cases h
  | succ n ih =>
    intro v1 v5 H locs ls hS hl h
    unfold f_X1_digest_L118 at h
    refine lv_iload hx hb dX1_digest_118 (lv_at hl 5 rfl) ?_
    refine lv_bipush (v := (8 : Int32)) hx hb dX1_digest_120 (by decide) ?_
    refine lv_icmp_ge (tgt := 169) hx hb dX1_digest_122 (by decide) (fun c24 => ?_) (fun c24 => ?_)
    · have h := if_t h c24
      exact hk169 _ _ _ _ hS (lv_sub hl [0, 1, 2, 3, 4] rfl) h
    · have h := if_f h c24
      refine lv_bipush (v := (31 : Int32)) hx hb dX1_digest_125 (by decide) ?_
      refine lv_iload_n hx hb dX1_digest_127 rfl (lv_at hl 1 rfl) ?_
      refine lv_imul hx hb dX1_digest_128 ?_
      refine lv_aload_n hx hb dX1_digest_129 rfl (lv_at hl 3 rfl) ?_
      refine h_getC (n := 1) (j := (u3 + 1)) (sh := (6, 10)) Z hS cls_2 hu3 (by decide) rfl rfl rfl fl_X1_156_2 dX1_digest_130 (fun hc25 => ?_)
      refine lv_iload hx hb dX1_digest_133 (lv_at hl 4 rfl) ?_
      refine h_aldN (sh := (14, 0)) Z hS hc25 (by decide) (by decide) rfl dX1_digest_135 h (fun j26 hj26 h => ?_)
      refine h_getC (n := 1) (j := (j26 + 1)) (sh := (1, 8)) Z hS cls_4 hj26 (by decide) rfl rfl rfl fl_X1_187_4 dX1_digest_136 (fun hc27 => ?_)
      refine lv_iload hx hb dX1_digest_139 (lv_at hl 5 rfl) ?_
      refine h_iald Z hS hc27 dX1_digest_141 h (fun x28 h => ?_)
      refine lv_iadd hx hb dX1_digest_142 ?_
      refine h_leti h (fun x29 h => ?_)
      refine lv_istore_n (lv' := [(1, .int x29), (0, .ref (ad 0)), (2, .int u2), (3, .ref (ad u3)), (4, .int u4), (5, .int v5)]) hx hb dX1_digest_143 rfl hl (by decide) rfl (fun ls hl => ?_)
      refine lv_bipush (v := (31 : Int32)) hx hb dX1_digest_144 (by decide) ?_
      refine lv_iload_n hx hb dX1_digest_146 rfl (lv_at hl 0 rfl) ?_
      refine lv_imul hx hb dX1_digest_147 ?_
      refine lv_aload_n hx hb dX1_digest_148 rfl (lv_at hl 3 rfl) ?_
      refine h_getC (n := 1) (j := (u3 + 1)) (sh := (6, 10)) Z hS cls_2 hu3 (by decide) rfl rfl rfl fl_X1_156_2 dX1_digest_149 (fun hc30 => ?_)
      refine lv_iload hx hb dX1_digest_152 (lv_at hl 4 rfl) ?_
      refine h_aldN (sh := (14, 0)) Z hS hc30 (by decide) (by decide) rfl dX1_digest_154 h (fun j31 hj31 h => ?_)
      refine h_getC (n := 2) (j := (j31 + 2)) (sh := (1, 8)) Z hS cls_4 hj31 (by decide) rfl rfl rfl fl_X1_190_4 dX1_digest_155 (fun hc32 => ?_)
      refine lv_iload hx hb dX1_digest_158 (lv_at hl 5 rfl) ?_
      refine h_iald Z hS hc32 dX1_digest_160 h (fun x33 h => ?_)
      refine lv_iadd hx hb dX1_digest_161 ?_
      refine h_leti h (fun x34 h => ?_)
      refine lv_istore_n (lv' := [(1, .int x34), (0, .ref (ad 0)), (2, .int u2), (3, .ref (ad u3)), (4, .int u4), (5, .int v5)]) hx hb dX1_digest_162 rfl hl (by decide) rfl (fun ls hl => ?_)
      refine lv_iinc (v := (v5 + (1 : Int32))) (lv' := [(5, .int (v5 + (1 : Int32))), (1, .int x34), (0, .ref (ad 0)), (2, .int u2), (3, .ref (ad u3)), (4, .int u4)]) hx hb dX1_digest_163 hl (k := 5) rfl rfl (by decide) rfl (fun ls hl => ?_)
      refine lv_goto (tgt := 118) hx hb dX1_digest_166 (by decide) ?_
      exact ih _ _ _ _ _ hS (lv_sub hl [2, 1, 3, 4, 5, 0] rfl) h
set_option maxRecDepth 100000 in
set_option maxHeartbeats 4000000 in
theorem w_X1_digest_L90 (Z : Cz D (Ew D A) A cX1_digest 6 (some .int) RX1 p s m args meth c) {u2 : Int32} {u3 : Nat} (hu0 : S 0 = (10, 0)) (hu3 : S u3 = (12, 0)) {r : Int32} {k175 : Int32 → Option Int32}
    (hk175 : ∀ (w1 : Int32) (H : Heap) (locs : List Loc) (ls : Array Slot), St D A ad S σ s.heap H locs → lv_has ls 6 [(0, .ref (ad 0)), (1, .int w1), (2, .int u2)] → k175 w1 = some r → W p l e rm_X1_digest s m args below meth c H locs 0 0 (MQ below (QG D A ad S (some (.int r)) σ) args s 0 0 A) (F0 m 175 ls [])) :
    ∀ (n : Nat) (v1 : Int32) (v4 : Int32) (H : Heap) (locs : List Loc) (ls : Array Slot), St D A ad S σ s.heap H locs → lv_has ls 6 [(0, .ref (ad 0)), (1, .int v1), (2, .int u2), (3, .ref (ad u3)), (4, .int v4)] → f_X1_digest_L90 k175 σ u2 u3 n v1 v4 = some r → W p l e rm_X1_digest s m args below meth c H locs 0 0 (MQ below (QG D A ad S (some (.int r)) σ) args s 0 0 A) (F0 m 90 ls []) := by
  have hx := Z.1
  have hb := Z.2.1
  have hown := Z.2.2.2.2.2.1
  have hts := Z.2.2.2.2.2.2.1
  intro n
  induction n with
  | zero => intro v1 v4 H locs ls hS hl h; cases h
  | succ n ih =>
    intro v1 v4 H locs ls hS hl h
    unfold f_X1_digest_L90 at h
    refine lv_iload hx hb dX1_digest_90 (lv_at hl 4 rfl) ?_
    refine lv_aload_n hx hb dX1_digest_92 rfl (lv_at hl 3 rfl) ?_
    refine h_getI Z hS cls_2 hu3 (by decide) rfl fl_X1_147_2 dX1_digest_93 h (fun x18 h => ?_)
    refine lv_icmp_ge (tgt := 175) hx hb dX1_digest_96 (by decide) (fun c19 => ?_) (fun c19 => ?_)
    · have h := if_t h c19
      exact hk175 _ _ _ _ hS (lv_sub hl [0, 1, 2] rfl) h
    · have h := if_f h c19
      refine lv_bipush (v := (31 : Int32)) hx hb dX1_digest_99 (by decide) ?_
      refine lv_iload_n hx hb dX1_digest_101 rfl (lv_at hl 1 rfl) ?_
      refine lv_imul hx hb dX1_digest_102 ?_
      refine lv_aload_n hx hb dX1_digest_103 rfl (lv_at hl 3 rfl) ?_
      refine h_getC (n := 1) (j := (u3 + 1)) (sh := (6, 10)) Z hS cls_2 hu3 (by decide) rfl rfl rfl fl_X1_156_2 dX1_digest_104 (fun hc20 => ?_)
      refine lv_iload hx hb dX1_digest_107 (lv_at hl 4 rfl) ?_
      refine h_aldN (sh := (14, 0)) Z hS hc20 (by decide) (by decide) rfl dX1_digest_109 h (fun j21 hj21 h => ?_)
      refine h_getI Z hS cls_4 hj21 (by decide) rfl fl_X1_171_4 dX1_digest_110 h (fun x22 h => ?_)
      refine lv_iadd hx hb dX1_digest_113 ?_
      refine h_leti h (fun x23 h => ?_)
      refine lv_istore_n (lv' := [(1, .int x23), (0, .ref (ad 0)), (2, .int u2), (3, .ref (ad u3)), (4, .int v4)]) hx hb dX1_digest_114 rfl hl (by decide) rfl (fun ls hl => ?_)
      refine lv_iconst (v := (0 : Int32)) hx hb dX1_digest_115 (by decide) ?_
      refine lv_istore (lv' := [(5, .int (0 : Int32)), (1, .int x23), (0, .ref (ad 0)), (2, .int u2), (3, .ref (ad u3)), (4, .int v4)]) hx hb dX1_digest_116 hl (by decide) rfl (fun ls hl => ?_)
      refine w_X1_digest_L118 Z hu0 hu3 (fun x35 H locs ls hS hl h => ?_) FU _ _ _ _ _ hS (lv_sub hl [2, 1, 3, 4, 5, 0] rfl) h
      refine lv_iinc (v := (v4 + (1 : Int32))) (lv' := [(4, .int (v4 + (1 : Int32))), (0, .ref (ad 0)), (1, .int x35), (2, .int u2), (3, .ref (ad u3))]) hx hb dX1_digest_169 hl (k := 4) rfl rfl (by decide) rfl (fun ls hl => ?_)
      refine lv_goto (tgt := 90) hx hb dX1_digest_172 (by decide) ?_
      exact ih _ _ _ _ _ hS (lv_sub hl [1, 2, 3, 4, 0] rfl) h
set_option maxRecDepth 100000 in
set_option maxHeartbeats 4000000 in
theorem w_X1_digest_L11 (Z : Cz D (Ew D A) A cX1_digest 6 (some .int) RX1 p s m args meth c) (hu0 : S 0 = (10, 0)) {r : Int32} {k181 : Int32 → Option Int32}
    (hk181 : ∀ (w1 : Int32) (H : Heap) (locs : List Loc) (ls : Array Slot), St D A ad S σ s.heap H locs → lv_has ls 6 [(1, .int w1)] → k181 w1 = some r → W p l e rm_X1_digest s m args below meth c H locs 0 0 (MQ below (QG D A ad S (some (.int r)) σ) args s 0 0 A) (F0 m 181 ls [])) :
    ∀ (n : Nat) (v1 : Int32) (v2 : Int32) (H : Heap) (locs : List Loc) (ls : Array Slot), St D A ad S σ s.heap H locs → lv_has ls 6 [(0, .ref (ad 0)), (1, .int v1), (2, .int v2)] → f_X1_digest_L11 k181 σ n v1 v2 = some r → W p l e rm_X1_digest s m args below meth c H locs 0 0 (MQ below (QG D A ad S (some (.int r)) σ) args s 0 0 A) (F0 m 11 ls []) := by
  have hx := Z.1
  have hb := Z.2.1
  have hown := Z.2.2.2.2.2.1
  have hts := Z.2.2.2.2.2.2.1
  intro n
  induction n with
  | zero => intro v1 v2 H locs ls hS hl h; cases h
  | succ n ih =>
    intro v1 v2 H locs ls hS hl h
    unfold f_X1_digest_L11 at h
    refine lv_iload_n hx hb dX1_digest_11 rfl (lv_at hl 2 rfl) ?_
    refine lv_aload_n hx hb dX1_digest_12 rfl (lv_at hl 0 rfl) ?_
    refine h_getI Z hS cls_0 hu0 (by decide) rfl fl_X1_140_0 dX1_digest_13 h (fun x3 h => ?_)
    refine lv_icmp_ge (tgt := 181) hx hb dX1_digest_16 (by decide) (fun c4 => ?_) (fun c4 => ?_)
    · have h := if_t h c4
      exact hk181 _ _ _ _ hS (lv_sub hl [1] rfl) h
    · have h := if_f h c4
      refine lv_aload_n hx hb dX1_digest_19 rfl (lv_at hl 0 rfl) ?_
      refine h_getC (n := 3) (j := 3) (sh := (5, 8)) Z hS cls_0 hu0 (by decide) rfl rfl rfl fl_X1_24_0 dX1_digest_20 (fun hc5 => ?_)
      refine lv_iload_n hx hb dX1_digest_23 rfl (lv_at hl 2 rfl) ?_
      refine h_aldN (sh := (12, 0)) Z hS hc5 (by decide) (by decide) rfl dX1_digest_24 h (fun j6 hj6 h => ?_)
      refine lv_astore_n (lv' := [(3, .ref (ad j6)), (0, .ref (ad 0)), (1, .int v1), (2, .int v2)]) hx hb dX1_digest_25 rfl hl (by decide) rfl (fun ls hl => ?_)
      refine lv_bipush (v := (31 : Int32)) hx hb dX1_digest_26 (by decide) ?_
      refine lv_iload_n hx hb dX1_digest_28 rfl (lv_at hl 2 rfl) ?_
      refine lv_imul hx hb dX1_digest_29 ?_
      refine lv_aload_n hx hb dX1_digest_30 rfl (lv_at hl 0 rfl) ?_
      refine h_getI Z hS cls_2 hj6 (by decide) rfl fl_X1_193_2 dX1_digest_31 h (fun x7 h => ?_)
      refine lv_iadd hx hb dX1_digest_34 ?_
      refine h_leti h (fun x8 h => ?_)
      refine lv_istore_n (lv' := [(1, .int x8), (3, .ref (ad j6)), (0, .ref (ad 0)), (2, .int v2)]) hx hb dX1_digest_35 rfl hl (by decide) rfl (fun ls hl => ?_)
      refine lv_bipush (v := (31 : Int32)) hx hb dX1_digest_36 (by decide) ?_
      refine lv_iload_n hx hb dX1_digest_38 rfl (lv_at hl 0 rfl) ?_
      refine lv_imul hx hb dX1_digest_39 ?_
      refine lv_aload_n hx hb dX1_digest_40 rfl (lv_at hl 1 rfl) ?_
      refine h_getI Z hS cls_2 hj6 (by decide) rfl fl_X1_196_2 dX1_digest_41 h (fun x9 h => ?_)
      refine lv_iadd hx hb dX1_digest_44 ?_
      refine h_leti h (fun x10 h => ?_)
      refine lv_istore_n (lv' := [(1, .int x10), (3, .ref (ad j6)), (0, .ref (ad 0)), (2, .int v2)]) hx hb dX1_digest_45 rfl hl (by decide) rfl (fun ls hl => ?_)
      refine lv_bipush (v := (31 : Int32)) hx hb dX1_digest_46 (by decide) ?_
      refine lv_iload_n hx hb dX1_digest_48 rfl (lv_at hl 0 rfl) ?_
      refine lv_imul hx hb dX1_digest_49 ?_
      refine lv_aload_n hx hb dX1_digest_50 rfl (lv_at hl 1 rfl) ?_
      refine h_getI Z hS cls_2 hj6 (by decide) rfl fl_X1_199_2 dX1_digest_51 h (fun x11 h => ?_)
      refine lv_iadd hx hb dX1_digest_54 ?_
      refine h_leti h (fun x12 h => ?_)
      refine lv_istore_n (lv' := [(1, .int x12), (3, .ref (ad j6)), (0, .ref (ad 0)), (2, .int v2)]) hx hb dX1_digest_55 rfl hl (by decide) rfl (fun ls hl => ?_)
      refine lv_iconst (v := (0 : Int32)) hx hb dX1_digest_56 (by decide) ?_
      refine lv_istore (lv' := [(4, .int (0 : Int32)), (1, .int x12), (3, .ref (ad j6)), (0, .ref (ad 0)), (2, .int v2)]) hx hb dX1_digest_57 hl (by decide) rfl (fun ls hl => ?_)
      refine w_X1_digest_L59 Z hu0 hj6 (fun x17 H locs ls hS hl h => ?_) FU _ _ _ _ _ hS (lv_sub hl [3, 1, 4, 2, 0] rfl) h
      refine lv_iconst (v := (0 : Int32)) hx hb dX1_digest_87 (by decide) ?_
      refine lv_istore (lv' := [(4, .int (0 : Int32)), (0, .ref (ad 0)), (1, .int x17), (2, .int v2), (3, .ref (ad j6))]) hx hb dX1_digest_88 hl (by decide) rfl (fun ls hl => ?_)
      refine w_X1_digest_L90 Z hu0 hj6 (fun x36 H locs ls hS hl h => ?_) FU _ _ _ _ _ hS (lv_sub hl [1, 2, 3, 4, 0] rfl) h
      refine lv_iinc (v := (v2 + (1 : Int32))) (lv' := [(2, .int (v2 + (1 : Int32))), (0, .ref (ad 0)), (1, .int x36)]) hx hb dX1_digest_175 hl (k := 2) rfl rfl (by decide) rfl (fun ls hl => ?_)
      refine lv_goto (tgt := 11) hx hb dX1_digest_178 (by decide) ?_
      exact ih _ _ _ _ _ hS (lv_sub hl [1, 2, 0] rfl) h
set_option maxRecDepth 100000 in
set_option maxHeartbeats 4000000 in
theorem w_X1_digest (hi0 : S 0 = (10, 0)) {r : Int32} (h : f_X1_digest σ = some r) : Met l yX1_digest (ws_ yX1_digest cX1_digest 6 (some .int)) rm_X1_digest (va_Pc [.ref (ad 0)] (PreG D (Ew D A) A ad S σ)) (QG D A ad S (some (.int r)) σ) 0 0 A := by
  refine y_met (by decide) (Nat.le_of_ble_eq_true rfl) (fun p e s m below meth c ls Z hS hl => ?_)
  have hx := Z.1
  have hb := Z.2.1
  have hown := Z.2.2.2.2.2.1
  have hts := Z.2.2.2.2.2.2.1
  unfold f_X1_digest at h
  refine lv_sipush (v := (217 : Int32)) hx hb dX1_digest_0 (by decide) ?_
  refine lv_aload_n hx hb dX1_digest_3 rfl (lv_at hl 0 rfl) ?_
  refine h_getI Z hS cls_0 hi0 (by decide) rfl fl_X1_299_0 dX1_digest_4 h (fun x1 h => ?_)
  refine lv_iadd hx hb dX1_digest_7 ?_
  refine h_leti h (fun x2 h => ?_)
  refine lv_istore_n (lv' := [(1, .int x2), (0, .ref (ad 0))]) hx hb dX1_digest_8 rfl hl (by decide) rfl (fun ls hl => ?_)
  refine lv_iconst (v := (0 : Int32)) hx hb dX1_digest_9 (by decide) ?_
  refine lv_istore_n (lv' := [(2, .int (0 : Int32)), (1, .int x2), (0, .ref (ad 0))]) hx hb dX1_digest_10 rfl hl (by decide) rfl (fun ls hl => ?_)
  refine w_X1_digest_L11 Z hi0 (fun x37 H locs ls hS hl h => ?_) FU _ _ _ _ _ hS (lv_sub hl [2, 1, 0] rfl) h
  refine lv_iload_n hx hb dX1_digest_181 rfl (lv_at hl 0 rfl) ?_
  exact h_iret Z hS dX1_digest_182 h
end
theorem dX1_countOf_0 : decode cX1_countOf 0 = .ok (.iconst 0, 1) := by decide +kernel
theorem dX1_countOf_1 : decode cX1_countOf 1 = .ok (.istore_n 2, 1) := by decide +kernel
theorem dX1_countOf_2 : decode cX1_countOf 2 = .ok (.iconst 0, 1) := by decide +kernel
theorem dX1_countOf_3 : decode cX1_countOf 3 = .ok (.istore_n 3, 1) := by decide +kernel
theorem dX1_countOf_4 : decode cX1_countOf 4 = .ok (.iload_n 3, 1) := by decide +kernel
theorem dX1_countOf_5 : decode cX1_countOf 5 = .ok (.aload_n 0, 1) := by decide +kernel
theorem dX1_countOf_6 : decode cX1_countOf 6 = .ok (.getfield 140, 3) := by decide +kernel
theorem dX1_countOf_9 : decode cX1_countOf 9 = .ok (.if_icmp .ge 30, 3) := by decide +kernel
theorem dX1_countOf_12 : decode cX1_countOf 12 = .ok (.iload_n 2, 1) := by decide +kernel
theorem dX1_countOf_13 : decode cX1_countOf 13 = .ok (.aload_n 0, 1) := by decide +kernel
theorem dX1_countOf_14 : decode cX1_countOf 14 = .ok (.getfield 24, 3) := by decide +kernel
theorem dX1_countOf_17 : decode cX1_countOf 17 = .ok (.iload_n 3, 1) := by decide +kernel
theorem dX1_countOf_18 : decode cX1_countOf 18 = .ok (.aaload, 1) := by decide +kernel
theorem dX1_countOf_19 : decode cX1_countOf 19 = .ok (.getfield 193, 3) := by decide +kernel
theorem dX1_countOf_22 : decode cX1_countOf 22 = .ok (.iload_n 1, 1) := by decide +kernel
theorem dX1_countOf_23 : decode cX1_countOf 23 = .ok (.if_icmp .ne 7, 3) := by decide +kernel
theorem dX1_countOf_26 : decode cX1_countOf 26 = .ok (.iconst 1, 1) := by decide +kernel
theorem dX1_countOf_27 : decode cX1_countOf 27 = .ok (.goto 4, 3) := by decide +kernel
theorem dX1_countOf_30 : decode cX1_countOf 30 = .ok (.iconst 0, 1) := by decide +kernel
theorem dX1_countOf_31 : decode cX1_countOf 31 = .ok (.iadd, 1) := by decide +kernel
theorem dX1_countOf_32 : decode cX1_countOf 32 = .ok (.istore_n 2, 1) := by decide +kernel
theorem dX1_countOf_33 : decode cX1_countOf 33 = .ok (.iinc 3 1, 3) := by decide +kernel
theorem dX1_countOf_36 : decode cX1_countOf 36 = .ok (.goto (-32), 3) := by decide +kernel
theorem dX1_countOf_39 : decode cX1_countOf 39 = .ok (.iload_n 2, 1) := by decide +kernel
theorem dX1_countOf_40 : decode cX1_countOf 40 = .ok (.ireturn, 1) := by decide +kernel
abbrev rm_X1_countOf : Room := k2_rm 0 0
section
variable {p : Program} {l : Launch} {e : Env} {s : State} {m : MethodId} {args : Array Value} {below : List Frame} {meth : Method} {c : Code} {D : gD} {A : Nat → Prop} {ad : Nat → Nat} {S : Nat → Nat × Nat} {σ : Mem}
set_option maxRecDepth 100000 in
set_option maxHeartbeats 4000000 in
theorem w_X1_countOf_L4 (Z : Cz D (Ew D A) A cX1_countOf 4 (some .int) RX1 p s m args meth c) {u1 : Int32} (hu0 : S 0 = (10, 0)) {r : Int32} {k39 : Int32 → Option Int32}
    (hk39 : ∀ (w2 : Int32) (H : Heap) (locs : List Loc) (ls : Array Slot), St D A ad S σ s.heap H locs → lv_has ls 4 [(2, .int w2)] → k39 w2 = some r → W p l e rm_X1_countOf s m args below meth c H locs 0 0 (MQ below (QG D A ad S (some (.int r)) σ) args s 0 0 A) (F0 m 39 ls [])) :
    ∀ (n : Nat) (v2 : Int32) (v3 : Int32) (H : Heap) (locs : List Loc) (ls : Array Slot), St D A ad S σ s.heap H locs → lv_has ls 4 [(0, .ref (ad 0)), (1, .int u1), (2, .int v2), (3, .int v3)] → f_X1_countOf_L4 k39 σ u1 n v2 v3 = some r → W p l e rm_X1_countOf s m args below meth c H locs 0 0 (MQ below (QG D A ad S (some (.int r)) σ) args s 0 0 A) (F0 m 4 ls []) := by
  have hx := Z.1
  have hb := Z.2.1
  have hown := Z.2.2.2.2.2.1
  have hts := Z.2.2.2.2.2.2.1
  intro n
  induction n with
  | zero => intro v2 v3 H locs ls hS hl h; cases h
  | succ n ih =>
    intro v2 v3 H locs ls hS hl h
    unfold f_X1_countOf_L4 at h
    refine lv_iload_n hx hb dX1_countOf_4 rfl (lv_at hl 3 rfl) ?_
    refine lv_aload_n hx hb dX1_countOf_5 rfl (lv_at hl 0 rfl) ?_
    refine h_getI Z hS cls_0 hu0 (by decide) rfl fl_X1_140_0 dX1_countOf_6 h (fun x1 h => ?_)
    refine lv_icmp_ge (tgt := 39) hx hb dX1_countOf_9 (by decide) (fun c2 => ?_) (fun c2 => ?_)
    · have h := if_t h c2
      exact hk39 _ _ _ _ hS (lv_sub hl [2] rfl) h
    · have h := if_f h c2
      refine lv_iload_n hx hb dX1_countOf_12 rfl (lv_at hl 2 rfl) ?_
      refine lv_aload_n hx hb dX1_countOf_13 rfl (lv_at hl 0 rfl) ?_
      refine h_getC (n := 3) (j := 3) (sh := (5, 8)) Z hS cls_0 hu0 (by decide) rfl rfl rfl fl_X1_24_0 dX1_countOf_14 (fun hc3 => ?_)
      refine lv_iload_n hx hb dX1_countOf_17 rfl (lv_at hl 3 rfl) ?_
      refine h_aldN (sh := (12, 0)) Z hS hc3 (by decide) (by decide) rfl dX1_countOf_18 h (fun j4 hj4 h => ?_)
      refine h_getI Z hS cls_2 hj4 (by decide) rfl fl_X1_193_2 dX1_countOf_19 h (fun x5 h => ?_)
      refine lv_iload_n hx hb dX1_countOf_22 rfl (lv_at hl 1 rfl) ?_
      obtain ⟨x7, hp8, h⟩ := bnd_el h
      have K8 : ∀ (H : Heap) (locs : List Loc) (ls : Array Slot), St D A ad S σ s.heap H locs → lv_has ls 4 [(0, .ref (ad 0)), (1, .int u1), (3, .int v3)] → W p l e rm_X1_countOf s m args below meth c H locs 0 0 (MQ below (QG D A ad S (some (.int r)) σ) args s 0 0 A) (F0 m 31 ls [.int x7, .int v2]) := by
        intro H locs ls hS hl
        refine lv_iadd hx hb dX1_countOf_31 ?_
        refine h_leti h (fun x9 h => ?_)
        refine lv_istore_n (lv' := [(2, .int x9), (0, .ref (ad 0)), (1, .int u1), (3, .int v3)]) hx hb dX1_countOf_32 rfl hl (by decide) rfl (fun ls hl => ?_)
        refine lv_iinc (v := (v3 + (1 : Int32))) (lv' := [(3, .int (v3 + (1 : Int32))), (2, .int x9), (0, .ref (ad 0)), (1, .int u1)]) hx hb dX1_countOf_33 hl (k := 3) rfl rfl (by decide) rfl (fun ls hl => ?_)
        refine lv_goto (tgt := 4) hx hb dX1_countOf_36 (by decide) ?_
        exact ih _ _ _ _ _ hS (lv_sub hl [2, 3, 1, 0] rfl) h
      clear h
      have h := hp8
      clear hp8
      refine lv_icmp_ne (tgt := 30) hx hb dX1_countOf_23 (by decide) (fun c6 => ?_) (fun c6 => ?_)
      · have h := if_f h c6
        refine lv_iconst (v := (0 : Int32)) hx hb dX1_countOf_30 (by decide) ?_
        cases h
        exact K8 _ _ _ hS (lv_sub hl [0, 1, 3] rfl)
      · have h := if_t h c6
        refine lv_iconst (v := (1 : Int32)) hx hb dX1_countOf_26 (by decide) ?_
        refine lv_goto (tgt := 31) hx hb dX1_countOf_27 (by decide) ?_
        cases h
        exact K8 _ _ _ hS (lv_sub hl [0, 1, 3] rfl)
set_option maxRecDepth 100000 in
set_option maxHeartbeats 4000000 in
theorem w_X1_countOf {a1 : Int32} (hi0 : S 0 = (10, 0)) {r : Int32} (h : f_X1_countOf σ a1 = some r) : Met l yX1_countOf (ws_ yX1_countOf cX1_countOf 4 (some .int)) rm_X1_countOf (va_Pc [.ref (ad 0), .int a1] (PreG D (Ew D A) A ad S σ)) (QG D A ad S (some (.int r)) σ) 0 0 A := by
  refine y_met (by decide) (Nat.le_of_ble_eq_true rfl) (fun p e s m below meth c ls Z hS hl => ?_)
  have hx := Z.1
  have hb := Z.2.1
  have hown := Z.2.2.2.2.2.1
  have hts := Z.2.2.2.2.2.2.1
  unfold f_X1_countOf at h
  refine lv_iconst (v := (0 : Int32)) hx hb dX1_countOf_0 (by decide) ?_
  refine lv_istore_n (lv' := [(2, .int (0 : Int32)), (0, .ref (ad 0)), (1, .int a1)]) hx hb dX1_countOf_1 rfl hl (by decide) rfl (fun ls hl => ?_)
  refine lv_iconst (v := (0 : Int32)) hx hb dX1_countOf_2 (by decide) ?_
  refine lv_istore_n (lv' := [(3, .int (0 : Int32)), (2, .int (0 : Int32)), (0, .ref (ad 0)), (1, .int a1)]) hx hb dX1_countOf_3 rfl hl (by decide) rfl (fun ls hl => ?_)
  refine w_X1_countOf_L4 Z hi0 (fun x10 H locs ls hS hl h => ?_) FU _ _ _ _ _ hS (lv_sub hl [2, 3, 1, 0] rfl) h
  refine lv_iload_n hx hb dX1_countOf_39 rfl (lv_at hl 0 rfl) ?_
  exact h_iret Z hS dX1_countOf_40 h
end
theorem dX1_count_0 : decode cX1_count 0 = .ok (.iload_n 1, 1) := by decide +kernel
theorem dX1_count_1 : decode cX1_count 1 = .ok (.tableswitch 131 0 9 #[55, 60, 65, 94, 100, 106, 111, 116, 121, 126], 55) := by decide +kernel
theorem dX1_count_56 : decode cX1_count 56 = .ok (.aload_n 0, 1) := by decide +kernel
theorem dX1_count_57 : decode cX1_count 57 = .ok (.getfield 299, 3) := by decide +kernel
theorem dX1_count_60 : decode cX1_count 60 = .ok (.ireturn, 1) := by decide +kernel
theorem dX1_count_61 : decode cX1_count 61 = .ok (.aload_n 0, 1) := by decide +kernel
theorem dX1_count_62 : decode cX1_count 62 = .ok (.getfield 140, 3) := by decide +kernel
theorem dX1_count_65 : decode cX1_count 65 = .ok (.ireturn, 1) := by decide +kernel
theorem dX1_count_66 : decode cX1_count 66 = .ok (.iconst 0, 1) := by decide +kernel
theorem dX1_count_67 : decode cX1_count 67 = .ok (.istore_n 2, 1) := by decide +kernel
theorem dX1_count_68 : decode cX1_count 68 = .ok (.iconst 0, 1) := by decide +kernel
theorem dX1_count_69 : decode cX1_count 69 = .ok (.istore_n 3, 1) := by decide +kernel
theorem dX1_count_70 : decode cX1_count 70 = .ok (.iload_n 3, 1) := by decide +kernel
theorem dX1_count_71 : decode cX1_count 71 = .ok (.aload_n 0, 1) := by decide +kernel
theorem dX1_count_72 : decode cX1_count 72 = .ok (.getfield 140, 3) := by decide +kernel
theorem dX1_count_75 : decode cX1_count 75 = .ok (.if_icmp .ge 18, 3) := by decide +kernel
theorem dX1_count_78 : decode cX1_count 78 = .ok (.iload_n 2, 1) := by decide +kernel
theorem dX1_count_79 : decode cX1_count 79 = .ok (.aload_n 0, 1) := by decide +kernel
theorem dX1_count_80 : decode cX1_count 80 = .ok (.getfield 72, 3) := by decide +kernel
theorem dX1_count_83 : decode cX1_count 83 = .ok (.iload_n 3, 1) := by decide +kernel
theorem dX1_count_84 : decode cX1_count 84 = .ok (.iaload, 1) := by decide +kernel
theorem dX1_count_85 : decode cX1_count 85 = .ok (.iadd, 1) := by decide +kernel
theorem dX1_count_86 : decode cX1_count 86 = .ok (.istore_n 2, 1) := by decide +kernel
theorem dX1_count_87 : decode cX1_count 87 = .ok (.iinc 3 1, 3) := by decide +kernel
theorem dX1_count_90 : decode cX1_count 90 = .ok (.goto (-20), 3) := by decide +kernel
theorem dX1_count_93 : decode cX1_count 93 = .ok (.iload_n 2, 1) := by decide +kernel
theorem dX1_count_94 : decode cX1_count 94 = .ok (.ireturn, 1) := by decide +kernel
theorem dX1_count_95 : decode cX1_count 95 = .ok (.aload_n 0, 1) := by decide +kernel
theorem dX1_count_96 : decode cX1_count 96 = .ok (.iconst 4, 1) := by decide +kernel
theorem dX1_count_97 : decode cX1_count 97 = .ok (.invokevirtual 427, 3) := by decide +kernel
theorem dX1_count_100 : decode cX1_count 100 = .ok (.ireturn, 1) := by decide +kernel
theorem dX1_count_101 : decode cX1_count 101 = .ok (.aload_n 0, 1) := by decide +kernel
theorem dX1_count_102 : decode cX1_count 102 = .ok (.iconst 5, 1) := by decide +kernel
theorem dX1_count_103 : decode cX1_count 103 = .ok (.invokevirtual 427, 3) := by decide +kernel
theorem dX1_count_106 : decode cX1_count 106 = .ok (.ireturn, 1) := by decide +kernel
theorem dX1_count_107 : decode cX1_count 107 = .ok (.aload_n 0, 1) := by decide +kernel
theorem dX1_count_108 : decode cX1_count 108 = .ok (.getfield 266, 3) := by decide +kernel
theorem dX1_count_111 : decode cX1_count 111 = .ok (.ireturn, 1) := by decide +kernel
theorem dX1_count_112 : decode cX1_count 112 = .ok (.aload_n 0, 1) := by decide +kernel
theorem dX1_count_113 : decode cX1_count 113 = .ok (.getfield 374, 3) := by decide +kernel
theorem dX1_count_116 : decode cX1_count 116 = .ok (.ireturn, 1) := by decide +kernel
theorem dX1_count_117 : decode cX1_count 117 = .ok (.aload_n 0, 1) := by decide +kernel
theorem dX1_count_118 : decode cX1_count 118 = .ok (.getfield 412, 3) := by decide +kernel
theorem dX1_count_121 : decode cX1_count 121 = .ok (.ireturn, 1) := by decide +kernel
theorem dX1_count_122 : decode cX1_count 122 = .ok (.aload_n 0, 1) := by decide +kernel
theorem dX1_count_123 : decode cX1_count 123 = .ok (.getfield 245, 3) := by decide +kernel
theorem dX1_count_126 : decode cX1_count 126 = .ok (.ireturn, 1) := by decide +kernel
theorem dX1_count_127 : decode cX1_count 127 = .ok (.aload_n 0, 1) := by decide +kernel
theorem dX1_count_128 : decode cX1_count 128 = .ok (.getfield 294, 3) := by decide +kernel
theorem dX1_count_131 : decode cX1_count 131 = .ok (.ireturn, 1) := by decide +kernel
theorem dX1_count_132 : decode cX1_count 132 = .ok (.iconst (-1), 1) := by decide +kernel
theorem dX1_count_133 : decode cX1_count 133 = .ok (.ireturn, 1) := by decide +kernel
abbrev rm_X1_count : Room := k2_rm 1 23
section
variable {p : Program} {l : Launch} {e : Env} {s : State} {m : MethodId} {args : Array Value} {below : List Frame} {meth : Method} {c : Code} {D : gD} {A : Nat → Prop} {ad : Nat → Nat} {S : Nat → Nat × Nat} {σ : Mem}
set_option maxRecDepth 100000 in
set_option maxHeartbeats 4000000 in
theorem w_X1_count_L70 (Z : Cz D (Ew D A) A cX1_count 4 (some .int) RX1 p s m args meth c) (hu0 : S 0 = (10, 0)) {r : Int32} {k93 : Int32 → Option Int32}
    (hk93 : ∀ (w2 : Int32) (H : Heap) (locs : List Loc) (ls : Array Slot), St D A ad S σ s.heap H locs → lv_has ls 4 [(2, .int w2)] → k93 w2 = some r → W p l e rm_X1_count s m args below meth c H locs 0 0 (MQ below (QG D A ad S (some (.int r)) σ) args s 0 0 A) (F0 m 93 ls [])) :
    ∀ (n : Nat) (v2 : Int32) (v3 : Int32) (H : Heap) (locs : List Loc) (ls : Array Slot), St D A ad S σ s.heap H locs → lv_has ls 4 [(0, .ref (ad 0)), (2, .int v2), (3, .int v3)] → f_X1_count_L70 k93 σ n v2 v3 = some r → W p l e rm_X1_count s m args below meth c H locs 0 0 (MQ below (QG D A ad S (some (.int r)) σ) args s 0 0 A) (F0 m 70 ls []) := by
  have hx := Z.1
  have hb := Z.2.1
  have hown := Z.2.2.2.2.2.1
  have hts := Z.2.2.2.2.2.2.1
  intro n
  induction n with
  | zero => intro v2 v3 H locs ls hS hl h; cases h
  | succ n ih =>
    intro v2 v3 H locs ls hS hl h
    unfold f_X1_count_L70 at h
    refine lv_iload_n hx hb dX1_count_70 rfl (lv_at hl 2 rfl) ?_
    refine lv_aload_n hx hb dX1_count_71 rfl (lv_at hl 0 rfl) ?_
    refine h_getI Z hS cls_0 hu0 (by decide) rfl fl_X1_140_0 dX1_count_72 h (fun x4 h => ?_)
    refine lv_icmp_ge (tgt := 93) hx hb dX1_count_75 (by decide) (fun c5 => ?_) (fun c5 => ?_)
    · have h := if_t h c5
      exact hk93 _ _ _ _ hS (lv_sub hl [1] rfl) h
    · have h := if_f h c5
      refine lv_iload_n hx hb dX1_count_78 rfl (lv_at hl 1 rfl) ?_
      refine lv_aload_n hx hb dX1_count_79 rfl (lv_at hl 0 rfl) ?_
      refine h_getC (n := 20) (j := 20) (sh := (1, 8)) Z hS cls_0 hu0 (by decide) rfl rfl rfl fl_X1_72_0 dX1_count_80 (fun hc6 => ?_)
      refine lv_iload_n hx hb dX1_count_83 rfl (lv_at hl 2 rfl) ?_
      refine h_iald Z hS hc6 dX1_count_84 h (fun x7 h => ?_)
      refine lv_iadd hx hb dX1_count_85 ?_
      refine h_leti h (fun x8 h => ?_)
      refine lv_istore_n (lv' := [(2, .int x8), (0, .ref (ad 0)), (3, .int v3)]) hx hb dX1_count_86 rfl hl (by decide) rfl (fun ls hl => ?_)
      refine lv_iinc (v := (v3 + (1 : Int32))) (lv' := [(3, .int (v3 + (1 : Int32))), (2, .int x8), (0, .ref (ad 0))]) hx hb dX1_count_87 hl (k := 2) rfl rfl (by decide) rfl (fun ls hl => ?_)
      refine lv_goto (tgt := 70) hx hb dX1_count_90 (by decide) ?_
      exact ih _ _ _ _ _ hS (lv_sub hl [2, 1, 0] rfl) h
set_option maxRecDepth 100000 in
set_option maxHeartbeats 4000000 in
theorem w_X1_count {a1 : Int32} (hi0 : S 0 = (10, 0)) {r : Int32} (h : f_X1_count σ a1 = some r) : Met l yX1_count (ws_ yX1_count cX1_count 4 (some .int)) rm_X1_count (va_Pc [.ref (ad 0), .int a1] (PreG D (Ew D A) A ad S σ)) (QG D A ad S (some (.int r)) σ) 0 0 A := by
  refine y_met (by decide) (Nat.le_of_ble_eq_true rfl) (fun p e s m below meth c ls Z hS hl => ?_)
  have hx := Z.1
  have hb := Z.2.1
  have hown := Z.2.2.2.2.2.1
  have hts := Z.2.2.2.2.2.2.1
  unfold f_X1_count at h
  refine lv_iload_n hx hb dX1_count_0 rfl (lv_at hl 1 rfl) ?_
  by_cases c1_0 : a1 = (0 : Int32)
  · refine h_tsw (k := (0 : Int32)) (off := 55) (tgt := 56) Z dX1_count_1 c1_0 (by decide) (by decide) rfl (by decide) ?_
    have h := if_t h c1_0
    refine lv_aload_n hx hb dX1_count_56 rfl (lv_at hl 0 rfl) ?_
    refine h_getI Z hS cls_0 hi0 (by decide) rfl fl_X1_299_0 dX1_count_57 h (fun x2 h => ?_)
    exact h_iret Z hS dX1_count_60 h
  replace h := if_f h c1_0
  by_cases c1_1 : a1 = (1 : Int32)
  · refine h_tsw (k := (1 : Int32)) (off := 60) (tgt := 61) Z dX1_count_1 c1_1 (by decide) (by decide) rfl (by decide) ?_
    have h := if_t h c1_1
    refine lv_aload_n hx hb dX1_count_61 rfl (lv_at hl 0 rfl) ?_
    refine h_getI Z hS cls_0 hi0 (by decide) rfl fl_X1_140_0 dX1_count_62 h (fun x3 h => ?_)
    exact h_iret Z hS dX1_count_65 h
  replace h := if_f h c1_1
  by_cases c1_2 : a1 = (2 : Int32)
  · refine h_tsw (k := (2 : Int32)) (off := 65) (tgt := 66) Z dX1_count_1 c1_2 (by decide) (by decide) rfl (by decide) ?_
    have h := if_t h c1_2
    refine lv_iconst (v := (0 : Int32)) hx hb dX1_count_66 (by decide) ?_
    refine lv_istore_n (lv' := [(2, .int (0 : Int32)), (0, .ref (ad 0)), (1, .int a1)]) hx hb dX1_count_67 rfl hl (by decide) rfl (fun ls hl => ?_)
    refine lv_iconst (v := (0 : Int32)) hx hb dX1_count_68 (by decide) ?_
    refine lv_istore_n (lv' := [(3, .int (0 : Int32)), (2, .int (0 : Int32)), (0, .ref (ad 0)), (1, .int a1)]) hx hb dX1_count_69 rfl hl (by decide) rfl (fun ls hl => ?_)
    refine w_X1_count_L70 Z hi0 (fun x9 H locs ls hS hl h => ?_) FU _ _ _ _ _ hS (lv_sub hl [2, 1, 0] rfl) h
    refine lv_iload_n hx hb dX1_count_93 rfl (lv_at hl 0 rfl) ?_
    exact h_iret Z hS dX1_count_94 h
  replace h := if_f h c1_2
  by_cases c1_3 : a1 = (3 : Int32)
  · refine h_tsw (k := (3 : Int32)) (off := 94) (tgt := 95) Z dX1_count_1 c1_3 (by decide) (by decide) rfl (by decide) ?_
    have h := if_t h c1_3
    refine lv_aload_n hx hb dX1_count_95 rfl (lv_at hl 0 rfl) ?_
    refine lv_iconst (v := (4 : Int32)) hx hb dX1_count_96 (by decide) ?_
    refine h_ci hS h (fun z hz => h_rV (rest := []) Z hS hi0 rfl v_X1_427 (w_X1_countOf hi0 hz) rfl rfl ⟨by decide, by decide⟩ rfl hl.1 rfl (Nat.le_of_ble_eq_true rfl) (Nat.zero_le _) (Nat.zero_le _) dX1_count_97) (fun x10 H locs hS h => ?_)
    exact h_iret Z hS dX1_count_100 h
  replace h := if_f h c1_3
  by_cases c1_4 : a1 = (4 : Int32)
  · refine h_tsw (k := (4 : Int32)) (off := 100) (tgt := 101) Z dX1_count_1 c1_4 (by decide) (by decide) rfl (by decide) ?_
    have h := if_t h c1_4
    refine lv_aload_n hx hb dX1_count_101 rfl (lv_at hl 0 rfl) ?_
    refine lv_iconst (v := (5 : Int32)) hx hb dX1_count_102 (by decide) ?_
    refine h_ci hS h (fun z hz => h_rV (rest := []) Z hS hi0 rfl v_X1_427 (w_X1_countOf hi0 hz) rfl rfl ⟨by decide, by decide⟩ rfl hl.1 rfl (Nat.le_of_ble_eq_true rfl) (Nat.zero_le _) (Nat.zero_le _) dX1_count_103) (fun x11 H locs hS h => ?_)
    exact h_iret Z hS dX1_count_106 h
  replace h := if_f h c1_4
  by_cases c1_5 : a1 = (5 : Int32)
  · refine h_tsw (k := (5 : Int32)) (off := 106) (tgt := 107) Z dX1_count_1 c1_5 (by decide) (by decide) rfl (by decide) ?_
    have h := if_t h c1_5
    refine lv_aload_n hx hb dX1_count_107 rfl (lv_at hl 0 rfl) ?_
    refine h_getI Z hS cls_0 hi0 (by decide) rfl fl_X1_266_0 dX1_count_108 h (fun x12 h => ?_)
    exact h_iret Z hS dX1_count_111 h
  replace h := if_f h c1_5
  by_cases c1_6 : a1 = (6 : Int32)
  · refine h_tsw (k := (6 : Int32)) (off := 111) (tgt := 112) Z dX1_count_1 c1_6 (by decide) (by decide) rfl (by decide) ?_
    have h := if_t h c1_6
    refine lv_aload_n hx hb dX1_count_112 rfl (lv_at hl 0 rfl) ?_
    refine h_getI Z hS cls_0 hi0 (by decide) rfl fl_X1_374_0 dX1_count_113 h (fun x13 h => ?_)
    exact h_iret Z hS dX1_count_116 h
  replace h := if_f h c1_6
  by_cases c1_7 : a1 = (7 : Int32)
  · refine h_tsw (k := (7 : Int32)) (off := 116) (tgt := 117) Z dX1_count_1 c1_7 (by decide) (by decide) rfl (by decide) ?_
    have h := if_t h c1_7
    refine lv_aload_n hx hb dX1_count_117 rfl (lv_at hl 0 rfl) ?_
    refine h_getI Z hS cls_0 hi0 (by decide) rfl fl_X1_412_0 dX1_count_118 h (fun x14 h => ?_)
    exact h_iret Z hS dX1_count_121 h
  replace h := if_f h c1_7
  by_cases c1_8 : a1 = (8 : Int32)
  · refine h_tsw (k := (8 : Int32)) (off := 121) (tgt := 122) Z dX1_count_1 c1_8 (by decide) (by decide) rfl (by decide) ?_
    have h := if_t h c1_8
    refine lv_aload_n hx hb dX1_count_122 rfl (lv_at hl 0 rfl) ?_
    refine h_getI Z hS cls_0 hi0 (by decide) rfl fl_X1_245_0 dX1_count_123 h (fun x15 h => ?_)
    exact h_iret Z hS dX1_count_126 h
  replace h := if_f h c1_8
  by_cases c1_9 : a1 = (9 : Int32)
  · refine h_tsw (k := (9 : Int32)) (off := 126) (tgt := 127) Z dX1_count_1 c1_9 (by decide) (by decide) rfl (by decide) ?_
    have h := if_t h c1_9
    refine lv_aload_n hx hb dX1_count_127 rfl (lv_at hl 0 rfl) ?_
    refine h_getI Z hS cls_0 hi0 (by decide) rfl fl_X1_294_0 dX1_count_128 h (fun x16 h => ?_)
    exact h_iret Z hS dX1_count_131 h
  replace h := if_f h c1_9
  refine h_tswd (n := 9) (tgt := 132) Z dX1_count_1 (by decide) (fun t ht => ?_) (by decide) ?_
  · rcases (show t = 0 ∨ t = 1 ∨ t = 2 ∨ t = 3 ∨ t = 4 ∨ t = 5 ∨ t = 6 ∨ t = 7 ∨ t = 8 ∨ t = 9 by omega) with rfl | rfl | rfl | rfl | rfl | rfl | rfl | rfl | rfl | rfl
    · exact Or.inr (ne_int c1_0 (by decide))
    · exact Or.inr (ne_int c1_1 (by decide))
    · exact Or.inr (ne_int c1_2 (by decide))
    · exact Or.inr (ne_int c1_3 (by decide))
    · exact Or.inr (ne_int c1_4 (by decide))
    · exact Or.inr (ne_int c1_5 (by decide))
    · exact Or.inr (ne_int c1_6 (by decide))
    · exact Or.inr (ne_int c1_7 (by decide))
    · exact Or.inr (ne_int c1_8 (by decide))
    · exact Or.inr (ne_int c1_9 (by decide))
  refine lv_iconst (v := (-1 : Int32)) hx hb dX1_count_132 (by decide) ?_
  exact h_iret Z hS dX1_count_133 h
end
theorem dX16_init_0 : decode cX16_init 0 = .ok (.aload_n 0, 1) := by decide +kernel
theorem dX16_init_1 : decode cX16_init 1 = .ok (.invokespecial 1, 3) := by decide +kernel
theorem dX16_init_4 : decode cX16_init 4 = .ok (.aload_n 0, 1) := by decide +kernel
theorem dX16_init_5 : decode cX16_init 5 = .ok (.iload_n 1, 1) := by decide +kernel
theorem dX16_init_6 : decode cX16_init 6 = .ok (.putfield 7, 3) := by decide +kernel
theorem dX16_init_9 : decode cX16_init 9 = .ok (.aload_n 0, 1) := by decide +kernel
theorem dX16_init_10 : decode cX16_init 10 = .ok (.aload_n 2, 1) := by decide +kernel
theorem dX16_init_11 : decode cX16_init 11 = .ok (.putfield 13, 3) := by decide +kernel
theorem dX16_init_14 : decode cX16_init 14 = .ok (.return_, 1) := by decide +kernel
abbrev rm_X16_init : Room := k2_rm 1 12
section
variable {p : Program} {l : Launch} {e : Env} {s : State} {m : MethodId} {args : Array Value} {below : List Frame} {meth : Method} {c : Code} {D : gD} {A : Nat → Prop} {ad : Nat → Nat} {S : Nat → Nat × Nat} {σ : Mem}
set_option maxRecDepth 100000 in
set_option maxHeartbeats 4000000 in
theorem w_X16_init {i0 : Nat} {a1 : Int32} {a2 : Nat} (hi0 : S i0 = (21, 0)) (ha2 : S a2 ∈ [(18, 0), (19, 0), (20, 0)]) {r : Mem} (h : f_X16_init σ i0 a1 a2 = some r) : Met l yX16_init (ws_ yX16_init cX16_init 3 none) rm_X16_init (va_Pc [.ref (ad i0), .int a1, .ref (ad a2)] (PreG D (Ew D A) A ad S σ)) (QG D A ad S none r) 0 0 A := by
  refine y_metI (by decide) (Nat.le_of_ble_eq_true rfl) (fun p e s m below meth c ls hnm Z hS hl => ?_)
  have hx := Z.1
  have hb := Z.2.1
  have hown := Z.2.2.2.2.2.1
  have hts := Z.2.2.2.2.2.2.1
  unfold f_X16_init at h
  refine lv_aload_n hx hb dX16_init_0 rfl (lv_at hl 0 rfl) ?_
  refine h_oinit Z q799 q111 q112 hl.1 (by decide) (Nat.le_of_ble_eq_true rfl) dX16_init_1 ?_
  refine lv_aload_n hx hb dX16_init_4 rfl (lv_at hl 0 rfl) ?_
  refine lv_iload_n hx hb dX16_init_5 rfl (lv_at hl 1 rfl) ?_
  refine h_putFI (k := 0) Z hnm hS cls_11 hi0 (by decide) rfl rfl rfl rfl q800 dX16_init_6 h (fun σ1 H locs hS h => ?_)
  refine lv_aload_n hx hb dX16_init_9 rfl (lv_at hl 0 rfl) ?_
  refine lv_aload_n hx hb dX16_init_10 rfl (lv_at hl 2 rfl) ?_
  refine h_putFR (k := 1) (v := (some a2)) Z hnm hS cls_11 hi0 (by decide) rfl rfl rfl (by first | exact Or.inl ⟨_, rfl⟩ | exact Or.inr ⟨_, rfl⟩) rfl (fun t ht => by cases ht; exact ha2) q801 dX16_init_11 h (fun σ2 H locs hS h => ?_)
  exact h_vret Z hS dX16_init_14 h
end
theorem dX12_init_0 : decode cX12_init 0 = .ok (.aload_n 0, 1) := by decide +kernel
theorem dX12_init_1 : decode cX12_init 1 = .ok (.invokespecial 1, 3) := by decide +kernel
theorem dX12_init_4 : decode cX12_init 4 = .ok (.return_, 1) := by decide +kernel
abbrev rm_X12_init_8 : Room := k2_rm 1 12
section
variable {p : Program} {l : Launch} {e : Env} {s : State} {m : MethodId} {args : Array Value} {below : List Frame} {meth : Method} {c : Code} {D : gD} {A : Nat → Prop} {ad : Nat → Nat} {S : Nat → Nat × Nat} {σ : Mem}
set_option maxRecDepth 100000 in
set_option maxHeartbeats 4000000 in
theorem w_X12_init_8 {i0 : Nat} (hi0 : S i0 = (18, 0)) {r : Unit} (h : f_X12_init σ i0 = some r) : Met l yX12_init (ws_ yX12_init cX12_init 1 none) rm_X12_init_8 (va_Pc [.ref (ad i0)] (PreG D (Ew D A) A ad S σ)) (QG D A ad S none σ) 0 0 A := by
  refine y_metI (by decide) (Nat.le_of_ble_eq_true rfl) (fun p e s m below meth c ls hnm Z hS hl => ?_)
  have hx := Z.1
  have hb := Z.2.1
  have hown := Z.2.2.2.2.2.1
  have hts := Z.2.2.2.2.2.2.1
  unfold f_X12_init at h
  refine lv_aload_n hx hb dX12_init_0 rfl (lv_at hl 0 rfl) ?_
  refine h_oinit Z q761 q111 q112 hl.1 (by decide) (Nat.le_of_ble_eq_true rfl) dX12_init_1 ?_
  exact h_vret0 Z hS dX12_init_4 h
end
theorem dX13_init_0 : decode cX13_init 0 = .ok (.aload_n 0, 1) := by decide +kernel
theorem dX13_init_1 : decode cX13_init 1 = .ok (.invokespecial 1, 3) := by decide +kernel
theorem dX13_init_4 : decode cX13_init 4 = .ok (.aload_n 0, 1) := by decide +kernel
theorem dX13_init_5 : decode cX13_init 5 = .ok (.aload_n 1, 1) := by decide +kernel
theorem dX13_init_6 : decode cX13_init 6 = .ok (.putfield 7, 3) := by decide +kernel
theorem dX13_init_9 : decode cX13_init 9 = .ok (.return_, 1) := by decide +kernel
abbrev rm_X13_init : Room := k2_rm 2 32
section
variable {p : Program} {l : Launch} {e : Env} {s : State} {m : MethodId} {args : Array Value} {below : List Frame} {meth : Method} {c : Code} {D : gD} {A : Nat → Prop} {ad : Nat → Nat} {S : Nat → Nat × Nat} {σ : Mem}
set_option maxRecDepth 100000 in
set_option maxHeartbeats 4000000 in
theorem w_X13_init {i0 : Nat} {a1 : Nat} (hi0 : S i0 = (18, 0)) (ha1 : S a1 ∈ [(18, 0), (19, 0), (20, 0)]) {r : Mem} (h : f_X13_init σ i0 a1 = some r) : Met l yX13_init (ws_ yX13_init cX13_init 2 none) rm_X13_init (va_Pc [.ref (ad i0), .ref (ad a1)] (PreG D (Ew D A) A ad S σ)) (QG D A ad S none r) 0 0 A := by
  refine y_metI (by decide) (Nat.le_of_ble_eq_true rfl) (fun p e s m below meth c ls hnm Z hS hl => ?_)
  have hx := Z.1
  have hb := Z.2.1
  have hown := Z.2.2.2.2.2.1
  have hts := Z.2.2.2.2.2.2.1
  unfold f_X13_init at h
  refine lv_aload_n hx hb dX13_init_0 rfl (lv_at hl 0 rfl) ?_
  refine h_cv hS h (fun z hz => h_rI (rest := []) Z hS vc_X13_1 (w_X12_init_8 hi0 hz) rfl rfl ⟨by decide, by decide⟩ rfl hl.1 rfl (Nat.le_of_ble_eq_true rfl) (Nat.zero_le _) (Nat.zero_le _) dX13_init_1) (fun _ H locs hS h => ?_)
  refine lv_aload_n hx hb dX13_init_4 rfl (lv_at hl 0 rfl) ?_
  refine lv_aload_n hx hb dX13_init_5 rfl (lv_at hl 1 rfl) ?_
  refine h_putFR (k := 0) (v := (some a1)) Z hnm hS cls_8 hi0 (by decide) rfl rfl rfl (by first | exact Or.inl ⟨_, rfl⟩ | exact Or.inr ⟨_, rfl⟩) rfl (fun t ht => by cases ht; exact ha1) q780 dX13_init_6 h (fun σ1 H locs hS h => ?_)
  exact h_vret Z hS dX13_init_9 h
end
abbrev rm_X12_init_9 : Room := k2_rm 1 12
section
variable {p : Program} {l : Launch} {e : Env} {s : State} {m : MethodId} {args : Array Value} {below : List Frame} {meth : Method} {c : Code} {D : gD} {A : Nat → Prop} {ad : Nat → Nat} {S : Nat → Nat × Nat} {σ : Mem}
set_option maxRecDepth 100000 in
set_option maxHeartbeats 4000000 in
theorem w_X12_init_9 {i0 : Nat} (hi0 : S i0 = (19, 0)) {r : Unit} (h : f_X12_init σ i0 = some r) : Met l yX12_init (ws_ yX12_init cX12_init 1 none) rm_X12_init_9 (va_Pc [.ref (ad i0)] (PreG D (Ew D A) A ad S σ)) (QG D A ad S none σ) 0 0 A := by
  refine y_metI (by decide) (Nat.le_of_ble_eq_true rfl) (fun p e s m below meth c ls hnm Z hS hl => ?_)
  have hx := Z.1
  have hb := Z.2.1
  have hown := Z.2.2.2.2.2.1
  have hts := Z.2.2.2.2.2.2.1
  unfold f_X12_init at h
  refine lv_aload_n hx hb dX12_init_0 rfl (lv_at hl 0 rfl) ?_
  refine h_oinit Z q761 q111 q112 hl.1 (by decide) (Nat.le_of_ble_eq_true rfl) dX12_init_1 ?_
  exact h_vret0 Z hS dX12_init_4 h
end
theorem dX14_init_0 : decode cX14_init 0 = .ok (.aload_n 0, 1) := by decide +kernel
theorem dX14_init_1 : decode cX14_init 1 = .ok (.invokespecial 1, 3) := by decide +kernel
theorem dX14_init_4 : decode cX14_init 4 = .ok (.aload_n 0, 1) := by decide +kernel
theorem dX14_init_5 : decode cX14_init 5 = .ok (.iload_n 1, 1) := by decide +kernel
theorem dX14_init_6 : decode cX14_init 6 = .ok (.putfield 7, 3) := by decide +kernel
theorem dX14_init_9 : decode cX14_init 9 = .ok (.return_, 1) := by decide +kernel
abbrev rm_X14_init : Room := k2_rm 2 32
section
variable {p : Program} {l : Launch} {e : Env} {s : State} {m : MethodId} {args : Array Value} {below : List Frame} {meth : Method} {c : Code} {D : gD} {A : Nat → Prop} {ad : Nat → Nat} {S : Nat → Nat × Nat} {σ : Mem}
set_option maxRecDepth 100000 in
set_option maxHeartbeats 4000000 in
theorem w_X14_init {i0 : Nat} {a1 : Int32} (hi0 : S i0 = (19, 0)) {r : Mem} (h : f_X14_init σ i0 a1 = some r) : Met l yX14_init (ws_ yX14_init cX14_init 2 none) rm_X14_init (va_Pc [.ref (ad i0), .int a1] (PreG D (Ew D A) A ad S σ)) (QG D A ad S none r) 0 0 A := by
  refine y_metI (by decide) (Nat.le_of_ble_eq_true rfl) (fun p e s m below meth c ls hnm Z hS hl => ?_)
  have hx := Z.1
  have hb := Z.2.1
  have hown := Z.2.2.2.2.2.1
  have hts := Z.2.2.2.2.2.2.1
  unfold f_X14_init at h
  refine lv_aload_n hx hb dX14_init_0 rfl (lv_at hl 0 rfl) ?_
  refine h_cv hS h (fun z hz => h_rI (rest := []) Z hS vc_X14_1 (w_X12_init_9 hi0 hz) rfl rfl ⟨by decide, by decide⟩ rfl hl.1 rfl (Nat.le_of_ble_eq_true rfl) (Nat.zero_le _) (Nat.zero_le _) dX14_init_1) (fun _ H locs hS h => ?_)
  refine lv_aload_n hx hb dX14_init_4 rfl (lv_at hl 0 rfl) ?_
  refine lv_iload_n hx hb dX14_init_5 rfl (lv_at hl 1 rfl) ?_
  refine h_putFI (k := 0) Z hnm hS cls_9 hi0 (by decide) rfl rfl rfl rfl q762 dX14_init_6 h (fun σ1 H locs hS h => ?_)
  exact h_vret Z hS dX14_init_9 h
end
abbrev rm_X12_init_10 : Room := k2_rm 1 12
section
variable {p : Program} {l : Launch} {e : Env} {s : State} {m : MethodId} {args : Array Value} {below : List Frame} {meth : Method} {c : Code} {D : gD} {A : Nat → Prop} {ad : Nat → Nat} {S : Nat → Nat × Nat} {σ : Mem}
set_option maxRecDepth 100000 in
set_option maxHeartbeats 4000000 in
theorem w_X12_init_10 {i0 : Nat} (hi0 : S i0 = (20, 0)) {r : Unit} (h : f_X12_init σ i0 = some r) : Met l yX12_init (ws_ yX12_init cX12_init 1 none) rm_X12_init_10 (va_Pc [.ref (ad i0)] (PreG D (Ew D A) A ad S σ)) (QG D A ad S none σ) 0 0 A := by
  refine y_metI (by decide) (Nat.le_of_ble_eq_true rfl) (fun p e s m below meth c ls hnm Z hS hl => ?_)
  have hx := Z.1
  have hb := Z.2.1
  have hown := Z.2.2.2.2.2.1
  have hts := Z.2.2.2.2.2.2.1
  unfold f_X12_init at h
  refine lv_aload_n hx hb dX12_init_0 rfl (lv_at hl 0 rfl) ?_
  refine h_oinit Z q761 q111 q112 hl.1 (by decide) (Nat.le_of_ble_eq_true rfl) dX12_init_1 ?_
  exact h_vret0 Z hS dX12_init_4 h
end
theorem dX15_init_0 : decode cX15_init 0 = .ok (.aload_n 0, 1) := by decide +kernel
theorem dX15_init_1 : decode cX15_init 1 = .ok (.invokespecial 1, 3) := by decide +kernel
theorem dX15_init_4 : decode cX15_init 4 = .ok (.aload_n 0, 1) := by decide +kernel
theorem dX15_init_5 : decode cX15_init 5 = .ok (.iload_n 1, 1) := by decide +kernel
theorem dX15_init_6 : decode cX15_init 6 = .ok (.putfield 7, 3) := by decide +kernel
theorem dX15_init_9 : decode cX15_init 9 = .ok (.return_, 1) := by decide +kernel
abbrev rm_X15_init : Room := k2_rm 2 32
section
variable {p : Program} {l : Launch} {e : Env} {s : State} {m : MethodId} {args : Array Value} {below : List Frame} {meth : Method} {c : Code} {D : gD} {A : Nat → Prop} {ad : Nat → Nat} {S : Nat → Nat × Nat} {σ : Mem}
set_option maxRecDepth 100000 in
set_option maxHeartbeats 4000000 in
theorem w_X15_init {i0 : Nat} {a1 : Int32} (hi0 : S i0 = (20, 0)) {r : Mem} (h : f_X15_init σ i0 a1 = some r) : Met l yX15_init (ws_ yX15_init cX15_init 2 none) rm_X15_init (va_Pc [.ref (ad i0), .int a1] (PreG D (Ew D A) A ad S σ)) (QG D A ad S none r) 0 0 A := by
  refine y_metI (by decide) (Nat.le_of_ble_eq_true rfl) (fun p e s m below meth c ls hnm Z hS hl => ?_)
  have hx := Z.1
  have hb := Z.2.1
  have hown := Z.2.2.2.2.2.1
  have hts := Z.2.2.2.2.2.2.1
  unfold f_X15_init at h
  refine lv_aload_n hx hb dX15_init_0 rfl (lv_at hl 0 rfl) ?_
  refine h_cv hS h (fun z hz => h_rI (rest := []) Z hS vc_X15_1 (w_X12_init_10 hi0 hz) rfl rfl ⟨by decide, by decide⟩ rfl hl.1 rfl (Nat.le_of_ble_eq_true rfl) (Nat.zero_le _) (Nat.zero_le _) dX15_init_1) (fun _ H locs hS h => ?_)
  refine lv_aload_n hx hb dX15_init_4 rfl (lv_at hl 0 rfl) ?_
  refine lv_iload_n hx hb dX15_init_5 rfl (lv_at hl 1 rfl) ?_
  refine h_putFI (k := 0) Z hnm hS cls_10 hi0 (by decide) rfl rfl rfl rfl q772 dX15_init_6 h (fun σ1 H locs hS h => ?_)
  exact h_vret Z hS dX15_init_9 h
end
theorem dX17_init_0 : decode cX17_init 0 = .ok (.aload_n 0, 1) := by decide +kernel
theorem dX17_init_1 : decode cX17_init 1 = .ok (.invokespecial 1, 3) := by decide +kernel
theorem dX17_init_4 : decode cX17_init 4 = .ok (.aload_n 0, 1) := by decide +kernel
theorem dX17_init_5 : decode cX17_init 5 = .ok (.aload_n 1, 1) := by decide +kernel
theorem dX17_init_6 : decode cX17_init 6 = .ok (.putfield 7, 3) := by decide +kernel
theorem dX17_init_9 : decode cX17_init 9 = .ok (.aload_n 0, 1) := by decide +kernel
theorem dX17_init_10 : decode cX17_init 10 = .ok (.aload_n 2, 1) := by decide +kernel
theorem dX17_init_11 : decode cX17_init 11 = .ok (.putfield 13, 3) := by decide +kernel
theorem dX17_init_14 : decode cX17_init 14 = .ok (.aload_n 0, 1) := by decide +kernel
theorem dX17_init_15 : decode cX17_init 15 = .ok (.iload_n 3, 1) := by decide +kernel
theorem dX17_init_16 : decode cX17_init 16 = .ok (.putfield 16, 3) := by decide +kernel
theorem dX17_init_19 : decode cX17_init 19 = .ok (.return_, 1) := by decide +kernel
abbrev rm_X17_init : Room := k2_rm 1 12
section
variable {p : Program} {l : Launch} {e : Env} {s : State} {m : MethodId} {args : Array Value} {below : List Frame} {meth : Method} {c : Code} {D : gD} {A : Nat → Prop} {ad : Nat → Nat} {S : Nat → Nat × Nat} {σ : Mem}
set_option maxRecDepth 100000 in
set_option maxHeartbeats 4000000 in
theorem w_X17_init {i0 : Nat} {a1 : Nat} {a2 : Nat} {a3 : Int32} (hi0 : S i0 = (22, 0)) (ha1 : S a1 ∈ [(18, 0), (19, 0), (20, 0)]) (ha2 : S a2 ∈ [(18, 0), (19, 0), (20, 0)]) {r : Mem} (h : f_X17_init σ i0 a1 a2 a3 = some r) : Met l yX17_init (ws_ yX17_init cX17_init 4 none) rm_X17_init (va_Pc [.ref (ad i0), .ref (ad a1), .ref (ad a2), .int a3] (PreG D (Ew D A) A ad S σ)) (QG D A ad S none r) 0 0 A := by
  refine y_metI (by decide) (Nat.le_of_ble_eq_true rfl) (fun p e s m below meth c ls hnm Z hS hl => ?_)
  have hx := Z.1
  have hb := Z.2.1
  have hown := Z.2.2.2.2.2.1
  have hts := Z.2.2.2.2.2.2.1
  unfold f_X17_init at h
  refine lv_aload_n hx hb dX17_init_0 rfl (lv_at hl 0 rfl) ?_
  refine h_oinit Z q819 q111 q112 hl.1 (by decide) (Nat.le_of_ble_eq_true rfl) dX17_init_1 ?_
  refine lv_aload_n hx hb dX17_init_4 rfl (lv_at hl 0 rfl) ?_
  refine lv_aload_n hx hb dX17_init_5 rfl (lv_at hl 1 rfl) ?_
  refine h_putFR (k := 0) (v := (some a1)) Z hnm hS cls_12 hi0 (by decide) rfl rfl rfl (by first | exact Or.inl ⟨_, rfl⟩ | exact Or.inr ⟨_, rfl⟩) rfl (fun t ht => by cases ht; exact ha1) q820 dX17_init_6 h (fun σ1 H locs hS h => ?_)
  refine lv_aload_n hx hb dX17_init_9 rfl (lv_at hl 0 rfl) ?_
  refine lv_aload_n hx hb dX17_init_10 rfl (lv_at hl 2 rfl) ?_
  refine h_putFR (k := 1) (v := (some a2)) Z hnm hS cls_12 hi0 (by decide) rfl rfl rfl (by first | exact Or.inl ⟨_, rfl⟩ | exact Or.inr ⟨_, rfl⟩) rfl (fun t ht => by cases ht; exact ha2) q821 dX17_init_11 h (fun σ2 H locs hS h => ?_)
  refine lv_aload_n hx hb dX17_init_14 rfl (lv_at hl 0 rfl) ?_
  refine lv_iload_n hx hb dX17_init_15 rfl (lv_at hl 3 rfl) ?_
  refine h_putFI (k := 2) Z hnm hS cls_12 hi0 (by decide) rfl rfl rfl rfl q822 dX17_init_16 h (fun σ3 H locs hS h => ?_)
  exact h_vret Z hS dX17_init_19 h
end
theorem dX10_init_0 : decode cX10_init 0 = .ok (.aload_n 0, 1) := by decide +kernel
theorem dX10_init_1 : decode cX10_init 1 = .ok (.invokespecial 1, 3) := by decide +kernel
theorem dX10_init_4 : decode cX10_init 4 = .ok (.aload_n 0, 1) := by decide +kernel
theorem dX10_init_5 : decode cX10_init 5 = .ok (.iload_n 1, 1) := by decide +kernel
theorem dX10_init_6 : decode cX10_init 6 = .ok (.putfield 7, 3) := by decide +kernel
theorem dX10_init_9 : decode cX10_init 9 = .ok (.aload_n 0, 1) := by decide +kernel
theorem dX10_init_10 : decode cX10_init 10 = .ok (.aload_n 2, 1) := by decide +kernel
theorem dX10_init_11 : decode cX10_init 11 = .ok (.putfield 13, 3) := by decide +kernel
theorem dX10_init_14 : decode cX10_init 14 = .ok (.return_, 1) := by decide +kernel
abbrev rm_X10_init : Room := k2_rm 1 12
section
variable {p : Program} {l : Launch} {e : Env} {s : State} {m : MethodId} {args : Array Value} {below : List Frame} {meth : Method} {c : Code} {D : gD} {A : Nat → Prop} {ad : Nat → Nat} {S : Nat → Nat × Nat} {σ : Mem}
set_option maxRecDepth 100000 in
set_option maxHeartbeats 4000000 in
theorem w_X10_init {i0 : Nat} {a1 : Int32} {a2 : Nat} (hi0 : S i0 = (16, 0)) (ha2 : S a2 ∈ [(22, 0), (17, 0), (16, 0)]) {r : Mem} (h : f_X10_init σ i0 a1 a2 = some r) : Met l yX10_init (ws_ yX10_init cX10_init 3 none) rm_X10_init (va_Pc [.ref (ad i0), .int a1, .ref (ad a2)] (PreG D (Ew D A) A ad S σ)) (QG D A ad S none r) 0 0 A := by
  refine y_metI (by decide) (Nat.le_of_ble_eq_true rfl) (fun p e s m below meth c ls hnm Z hS hl => ?_)
  have hx := Z.1
  have hb := Z.2.1
  have hown := Z.2.2.2.2.2.1
  have hts := Z.2.2.2.2.2.2.1
  unfold f_X10_init at h
  refine lv_aload_n hx hb dX10_init_0 rfl (lv_at hl 0 rfl) ?_
  refine h_oinit Z q833 q111 q112 hl.1 (by decide) (Nat.le_of_ble_eq_true rfl) dX10_init_1 ?_
  refine lv_aload_n hx hb dX10_init_4 rfl (lv_at hl 0 rfl) ?_
  refine lv_iload_n hx hb dX10_init_5 rfl (lv_at hl 1 rfl) ?_
  refine h_putFZ (k := 0) Z hnm hS cls_6 hi0 (by decide) rfl rfl rfl rfl q834 dX10_init_6 h (fun σ1 H locs hS h => ?_)
  refine lv_aload_n hx hb dX10_init_9 rfl (lv_at hl 0 rfl) ?_
  refine lv_aload_n hx hb dX10_init_10 rfl (lv_at hl 2 rfl) ?_
  refine h_putFR (k := 1) (v := (some a2)) Z hnm hS cls_6 hi0 (by decide) rfl rfl rfl (by first | exact Or.inl ⟨_, rfl⟩ | exact Or.inr ⟨_, rfl⟩) rfl (fun t ht => by cases ht; exact ha2) q835 dX10_init_11 h (fun σ2 H locs hS h => ?_)
  exact h_vret Z hS dX10_init_14 h
end
theorem dX11_init_0 : decode cX11_init 0 = .ok (.aload_n 0, 1) := by decide +kernel
theorem dX11_init_1 : decode cX11_init 1 = .ok (.invokespecial 1, 3) := by decide +kernel
theorem dX11_init_4 : decode cX11_init 4 = .ok (.aload_n 0, 1) := by decide +kernel
theorem dX11_init_5 : decode cX11_init 5 = .ok (.aload_n 1, 1) := by decide +kernel
theorem dX11_init_6 : decode cX11_init 6 = .ok (.putfield 7, 3) := by decide +kernel
theorem dX11_init_9 : decode cX11_init 9 = .ok (.return_, 1) := by decide +kernel
abbrev rm_X11_init : Room := k2_rm 1 12
section
variable {p : Program} {l : Launch} {e : Env} {s : State} {m : MethodId} {args : Array Value} {below : List Frame} {meth : Method} {c : Code} {D : gD} {A : Nat → Prop} {ad : Nat → Nat} {S : Nat → Nat × Nat} {σ : Mem}
set_option maxRecDepth 100000 in
set_option maxHeartbeats 4000000 in
theorem w_X11_init {i0 : Nat} {a1 : Nat} (hi0 : S i0 = (17, 0)) (ha1 : S a1 ∈ [(22, 0), (17, 0), (16, 0)]) {r : Mem} (h : f_X11_init σ i0 a1 = some r) : Met l yX11_init (ws_ yX11_init cX11_init 2 none) rm_X11_init (va_Pc [.ref (ad i0), .ref (ad a1)] (PreG D (Ew D A) A ad S σ)) (QG D A ad S none r) 0 0 A := by
  refine y_metI (by decide) (Nat.le_of_ble_eq_true rfl) (fun p e s m below meth c ls hnm Z hS hl => ?_)
  have hx := Z.1
  have hb := Z.2.1
  have hown := Z.2.2.2.2.2.1
  have hts := Z.2.2.2.2.2.2.1
  unfold f_X11_init at h
  refine lv_aload_n hx hb dX11_init_0 rfl (lv_at hl 0 rfl) ?_
  refine h_oinit Z q721 q111 q112 hl.1 (by decide) (Nat.le_of_ble_eq_true rfl) dX11_init_1 ?_
  refine lv_aload_n hx hb dX11_init_4 rfl (lv_at hl 0 rfl) ?_
  refine lv_aload_n hx hb dX11_init_5 rfl (lv_at hl 1 rfl) ?_
  refine h_putFR (k := 0) (v := (some a1)) Z hnm hS cls_7 hi0 (by decide) rfl rfl rfl (by first | exact Or.inl ⟨_, rfl⟩ | exact Or.inr ⟨_, rfl⟩) rfl (fun t ht => by cases ht; exact ha1) q722 dX11_init_6 h (fun σ1 H locs hS h => ?_)
  exact h_vret Z hS dX11_init_9 h
end
theorem dX18_init_0 : decode cX18_init 0 = .ok (.aload_n 0, 1) := by decide +kernel
theorem dX18_init_1 : decode cX18_init 1 = .ok (.invokespecial 1, 3) := by decide +kernel
theorem dX18_init_4 : decode cX18_init 4 = .ok (.aload_n 0, 1) := by decide +kernel
theorem dX18_init_5 : decode cX18_init 5 = .ok (.iload_n 1, 1) := by decide +kernel
theorem dX18_init_6 : decode cX18_init 6 = .ok (.putfield 7, 3) := by decide +kernel
theorem dX18_init_9 : decode cX18_init 9 = .ok (.aload_n 0, 1) := by decide +kernel
theorem dX18_init_10 : decode cX18_init 10 = .ok (.aload_n 2, 1) := by decide +kernel
theorem dX18_init_11 : decode cX18_init 11 = .ok (.putfield 13, 3) := by decide +kernel
theorem dX18_init_14 : decode cX18_init 14 = .ok (.aload_n 0, 1) := by decide +kernel
theorem dX18_init_15 : decode cX18_init 15 = .ok (.aload_n 3, 1) := by decide +kernel
theorem dX18_init_16 : decode cX18_init 16 = .ok (.putfield 17, 3) := by decide +kernel
theorem dX18_init_19 : decode cX18_init 19 = .ok (.return_, 1) := by decide +kernel
abbrev rm_X18_init : Room := k2_rm 1 12
section
variable {p : Program} {l : Launch} {e : Env} {s : State} {m : MethodId} {args : Array Value} {below : List Frame} {meth : Method} {c : Code} {D : gD} {A : Nat → Prop} {ad : Nat → Nat} {S : Nat → Nat × Nat} {σ : Mem}
set_option maxRecDepth 100000 in
set_option maxHeartbeats 4000000 in
theorem w_X18_init {i0 : Nat} {a1 : Int32} {a2 : Option Nat} {a3 : Nat} (hi0 : S i0 = (23, 0)) (ha2 : ∀ t, a2 = some t → S t ∈ [(22, 0), (17, 0), (16, 0)]) (ha3 : S a3 ∈ [(18, 0), (19, 0), (20, 0)]) {r : Mem} (h : f_X18_init σ i0 a1 a2 a3 = some r) : Met l yX18_init (ws_ yX18_init cX18_init 4 none) rm_X18_init (va_Pc [.ref (ad i0), .int a1, va_rf (a2.map ad), .ref (ad a3)] (PreG D (Ew D A) A ad S σ)) (QG D A ad S none r) 0 0 A := by
  refine y_metI (by decide) (by cases a2 <;> exact Nat.le_of_ble_eq_true rfl) (fun p e s m below meth c ls hnm Z hS hl => ?_)
  replace hl : lv_has ls 4 [(0, .ref (ad i0)), (1, .int a1), (2, va_rf (a2.map ad)), (3, .ref (ad a3))] := by cases a2 <;> exact hl
  have hx := Z.1
  have hb := Z.2.1
  have hown := Z.2.2.2.2.2.1
  have hts := Z.2.2.2.2.2.2.1
  unfold f_X18_init at h
  refine lv_aload_n hx hb dX18_init_0 rfl (lv_at hl 0 rfl) ?_
  refine h_oinit Z q854 q111 q112 hl.1 (by decide) (Nat.le_of_ble_eq_true rfl) dX18_init_1 ?_
  refine lv_aload_n hx hb dX18_init_4 rfl (lv_at hl 0 rfl) ?_
  refine lv_iload_n hx hb dX18_init_5 rfl (lv_at hl 1 rfl) ?_
  refine h_putFI (k := 0) Z hnm hS cls_13 hi0 (by decide) rfl rfl rfl rfl q855 dX18_init_6 h (fun σ1 H locs hS h => ?_)
  refine lv_aload_n hx hb dX18_init_9 rfl (lv_at hl 0 rfl) ?_
  refine h_aldq_n (o := a2) Z dX18_init_10 rfl (lv_at hl 2 rfl) ?_
  refine h_putFR (k := 1) (v := a2) Z hnm hS cls_13 hi0 (by decide) rfl rfl rfl (by first | exact Or.inl ⟨_, rfl⟩ | exact Or.inr ⟨_, rfl⟩) rfl ha2 q856 dX18_init_11 h (fun σ2 H locs hS h => ?_)
  refine lv_aload_n hx hb dX18_init_14 rfl (lv_at hl 0 rfl) ?_
  refine lv_aload_n hx hb dX18_init_15 rfl (lv_at hl 3 rfl) ?_
  refine h_putFR (k := 2) (v := (some a3)) Z hnm hS cls_13 hi0 (by decide) rfl rfl rfl (by first | exact Or.inl ⟨_, rfl⟩ | exact Or.inr ⟨_, rfl⟩) rfl (fun t ht => by cases ht; exact ha3) q857 dX18_init_16 h (fun σ3 H locs hS h => ?_)
  exact h_vret Z hS dX18_init_19 h
end
theorem dX8_init_0 : decode cX8_init 0 = .ok (.aload_n 0, 1) := by decide +kernel
theorem dX8_init_1 : decode cX8_init 1 = .ok (.invokespecial 3, 3) := by decide +kernel
theorem dX8_init_4 : decode cX8_init 4 = .ok (.aload_n 0, 1) := by decide +kernel
theorem dX8_init_5 : decode cX8_init 5 = .ok (.aload_n 1, 1) := by decide +kernel
theorem dX8_init_6 : decode cX8_init 6 = .ok (.putfield 9, 3) := by decide +kernel
theorem dX8_init_9 : decode cX8_init 9 = .ok (.aload_n 0, 1) := by decide +kernel
theorem dX8_init_10 : decode cX8_init 10 = .ok (.iload_n 2, 1) := by decide +kernel
theorem dX8_init_11 : decode cX8_init 11 = .ok (.putfield 15, 3) := by decide +kernel
theorem dX8_init_14 : decode cX8_init 14 = .ok (.return_, 1) := by decide +kernel
abbrev rm_X8_init : Room := k2_rm 1 12
section
variable {p : Program} {l : Launch} {e : Env} {s : State} {m : MethodId} {args : Array Value} {below : List Frame} {meth : Method} {c : Code} {D : gD} {A : Nat → Prop} {ad : Nat → Nat} {S : Nat → Nat × Nat} {σ : Mem}
set_option maxRecDepth 100000 in
set_option maxHeartbeats 4000000 in
theorem w_X8_init {i0 : Nat} {a1 : Nat} {a2 : Int32} (hi0 : S i0 = (15, 0)) (ha1 : S a1 = (2, 160)) {r : Mem} (h : f_X8_init σ i0 a1 a2 = some r) : Met l yX8_init (ws_ yX8_init cX8_init 3 none) rm_X8_init (va_Pc [.ref (ad i0), .ref (ad a1), .int a2] (PreG D (Ew D A) A ad S σ)) (QG D A ad S none r) 0 0 A := by
  refine y_metI (by decide) (Nat.le_of_ble_eq_true rfl) (fun p e s m below meth c ls hnm Z hS hl => ?_)
  have hx := Z.1
  have hb := Z.2.1
  have hown := Z.2.2.2.2.2.1
  have hts := Z.2.2.2.2.2.2.1
  unfold f_X8_init at h
  refine lv_aload_n hx hb dX8_init_0 rfl (lv_at hl 0 rfl) ?_
  refine h_oinit Z q514 q111 q112 hl.1 (by decide) (Nat.le_of_ble_eq_true rfl) dX8_init_1 ?_
  refine lv_aload_n hx hb dX8_init_4 rfl (lv_at hl 0 rfl) ?_
  refine lv_aload_n hx hb dX8_init_5 rfl (lv_at hl 1 rfl) ?_
  refine h_putFR (k := 0) (v := (some a1)) Z hnm hS cls_5 hi0 (by decide) rfl rfl rfl (by first | exact Or.inl ⟨_, rfl⟩ | exact Or.inr ⟨_, rfl⟩) rfl (fun t ht => by cases ht; rw [ha1]; decide) q515 dX8_init_6 h (fun σ1 H locs hS h => ?_)
  refine lv_aload_n hx hb dX8_init_9 rfl (lv_at hl 0 rfl) ?_
  refine lv_iload_n hx hb dX8_init_10 rfl (lv_at hl 2 rfl) ?_
  refine h_putFI (k := 1) Z hnm hS cls_5 hi0 (by decide) rfl rfl rfl rfl q516 dX8_init_11 h (fun σ2 H locs hS h => ?_)
  exact h_vret Z hS dX8_init_14 h
end
theorem dX8_look_0 : decode cX8_look 0 = .ok (.aload_n 0, 1) := by decide +kernel
theorem dX8_look_1 : decode cX8_look 1 = .ok (.getfield 19, 3) := by decide +kernel
theorem dX8_look_4 : decode cX8_look 4 = .ok (.aload_n 0, 1) := by decide +kernel
theorem dX8_look_5 : decode cX8_look 5 = .ok (.getfield 15, 3) := by decide +kernel
theorem dX8_look_8 : decode cX8_look 8 = .ok (.if_icmp .ge 30, 3) := by decide +kernel
theorem dX8_look_11 : decode cX8_look 11 = .ok (.aload_n 0, 1) := by decide +kernel
theorem dX8_look_12 : decode cX8_look 12 = .ok (.getfield 9, 3) := by decide +kernel
theorem dX8_look_15 : decode cX8_look 15 = .ok (.aload_n 0, 1) := by decide +kernel
theorem dX8_look_16 : decode cX8_look 16 = .ok (.getfield 19, 3) := by decide +kernel
theorem dX8_look_19 : decode cX8_look 19 = .ok (.baload, 1) := by decide +kernel
theorem dX8_look_20 : decode cX8_look 20 = .ok (.bipush 32, 2) := by decide +kernel
theorem dX8_look_22 : decode cX8_look 22 = .ok (.if_icmp .ne 16, 3) := by decide +kernel
theorem dX8_look_25 : decode cX8_look 25 = .ok (.aload_n 0, 1) := by decide +kernel
theorem dX8_look_26 : decode cX8_look 26 = .ok (.dup, 1) := by decide +kernel
theorem dX8_look_27 : decode cX8_look 27 = .ok (.getfield 19, 3) := by decide +kernel
theorem dX8_look_30 : decode cX8_look 30 = .ok (.iconst 1, 1) := by decide +kernel
theorem dX8_look_31 : decode cX8_look 31 = .ok (.iadd, 1) := by decide +kernel
theorem dX8_look_32 : decode cX8_look 32 = .ok (.putfield 19, 3) := by decide +kernel
theorem dX8_look_35 : decode cX8_look 35 = .ok (.goto (-35), 3) := by decide +kernel
theorem dX8_look_38 : decode cX8_look 38 = .ok (.aload_n 0, 1) := by decide +kernel
theorem dX8_look_39 : decode cX8_look 39 = .ok (.getfield 19, 3) := by decide +kernel
theorem dX8_look_42 : decode cX8_look 42 = .ok (.aload_n 0, 1) := by decide +kernel
theorem dX8_look_43 : decode cX8_look 43 = .ok (.getfield 15, 3) := by decide +kernel
theorem dX8_look_46 : decode cX8_look 46 = .ok (.if_icmp .ge 19, 3) := by decide +kernel
theorem dX8_look_49 : decode cX8_look 49 = .ok (.aload_n 0, 1) := by decide +kernel
theorem dX8_look_50 : decode cX8_look 50 = .ok (.getfield 9, 3) := by decide +kernel
theorem dX8_look_53 : decode cX8_look 53 = .ok (.aload_n 0, 1) := by decide +kernel
theorem dX8_look_54 : decode cX8_look 54 = .ok (.getfield 19, 3) := by decide +kernel
theorem dX8_look_57 : decode cX8_look 57 = .ok (.baload, 1) := by decide +kernel
theorem dX8_look_58 : decode cX8_look 58 = .ok (.sipush 255, 3) := by decide +kernel
theorem dX8_look_61 : decode cX8_look 61 = .ok (.iand, 1) := by decide +kernel
theorem dX8_look_62 : decode cX8_look 62 = .ok (.goto 4, 3) := by decide +kernel
theorem dX8_look_65 : decode cX8_look 65 = .ok (.iconst (-1), 1) := by decide +kernel
theorem dX8_look_66 : decode cX8_look 66 = .ok (.ireturn, 1) := by decide +kernel
abbrev rm_X8_look : Room := k2_rm 0 0
section
variable {p : Program} {l : Launch} {e : Env} {s : State} {m : MethodId} {args : Array Value} {below : List Frame} {meth : Method} {c : Code} {D : gD} {A : Nat → Prop} {ad : Nat → Nat} {S : Nat → Nat × Nat} {σ : Mem}
set_option maxRecDepth 100000 in
set_option maxHeartbeats 4000000 in
theorem w_X8_look_L0 (Z : Cz D (Ew D A) A cX8_look 1 (some .int) RX8 p s m args meth c) {u0 : Nat} (hu0 : S u0 = (15, 0)) {r : (Mem × Int32)} {k38 : Mem → Option (Mem × Int32)}
    (hk38 : ∀ (σ : Mem)  (H : Heap) (locs : List Loc) (ls : Array Slot), St D A ad S σ s.heap H locs → lv_has ls 1 [(0, .ref (ad u0))] → k38 σ = some r → W p l e rm_X8_look s m args below meth c H locs 0 0 (MQ below (QG D A ad S (some (.int r.2)) r.1) args s 0 0 A) (F0 m 38 ls [])) :
    ∀ (n : Nat) (σ : Mem)  (H : Heap) (locs : List Loc) (ls : Array Slot), St D A ad S σ s.heap H locs → lv_has ls 1 [(0, .ref (ad u0))] → f_X8_look_L0 k38 u0 n σ = some r → W p l e rm_X8_look s m args below meth c H locs 0 0 (MQ below (QG D A ad S (some (.int r.2)) r.1) args s 0 0 A) (F0 m 0 ls []) := by
  have hx := Z.1
  have hb := Z.2.1
  have hown := Z.2.2.2.2.2.1
  have hts := Z.2.2.2.2.2.2.1
  intro n
  induction n with
  | zero => intro σ H locs ls hS hl h; cases h
  | succ n ih =>
    intro σ H locs ls hS hl h
    unfold f_X8_look_L0 at h
    refine lv_aload_n hx hb dX8_look_0 rfl (lv_at hl 0 rfl) ?_
    refine h_getI Z hS cls_5 hu0 (by decide) rfl fl_X8_19_5 dX8_look_1 h (fun x1 h => ?_)
    refine lv_aload_n hx hb dX8_look_4 rfl (lv_at hl 0 rfl) ?_
    refine h_getI Z hS cls_5 hu0 (by decide) rfl fl_X8_15_5 dX8_look_5 h (fun x2 h => ?_)
    refine lv_icmp_ge (tgt := 38) hx hb dX8_look_8 (by decide) (fun c3 => ?_) (fun c3 => ?_)
    · have h := if_t h c3
      exact hk38 _ _ _ _ hS (lv_sub hl [0] rfl) h
    · have h := if_f h c3
      refine lv_aload_n hx hb dX8_look_11 rfl (lv_at hl 0 rfl) ?_
      refine h_getN (sh := (2, 160)) Z hS cls_5 hu0 (by decide) rfl rfl fl_X8_9_5 dX8_look_12 h (fun j4 hj4 h => ?_)
      refine lv_aload_n hx hb dX8_look_15 rfl (lv_at hl 0 rfl) ?_
      refine h_getI Z hS cls_5 hu0 (by decide) rfl fl_X8_19_5 dX8_look_16 h (fun x5 h => ?_)
      refine h_bald Z hS hj4 dX8_look_19 h (fun x6 h => ?_)
      refine lv_bipush (v := (32 : Int32)) hx hb dX8_look_20 (by decide) ?_
      refine lv_icmp_ne (tgt := 38) hx hb dX8_look_22 (by decide) (fun c7 => ?_) (fun c7 => ?_)
      · have h := if_f h c7
        exact hk38 _ _ _ _ hS (lv_sub hl [0] rfl) h
      · have h := if_t h c7
        refine lv_aload_n hx hb dX8_look_25 rfl (lv_at hl 0 rfl) ?_
        refine lv_dup hx hb dX8_look_26 rfl ?_
        refine h_getI Z hS cls_5 hu0 (by decide) rfl fl_X8_19_5 dX8_look_27 h (fun x8 h => ?_)
        refine lv_iconst (v := (1 : Int32)) hx hb dX8_look_30 (by decide) ?_
        refine lv_iadd hx hb dX8_look_31 ?_
        refine h_putI Z hS cls_5 hu0 (by decide) rfl rfl rfl fl_X8_19_5 dX8_look_32 h (fun σ9 H locs hS h => ?_)
        refine lv_goto (tgt := 0) hx hb dX8_look_35 (by decide) ?_
        exact ih _ _ _ _ hS (lv_sub hl [0] rfl) h
set_option maxRecDepth 100000 in
set_option maxHeartbeats 4000000 in
theorem w_X8_look {i0 : Nat} (hi0 : S i0 = (15, 0)) {r : (Mem × Int32)} (h : f_X8_look σ i0 = some r) : Met l yX8_look (ws_ yX8_look cX8_look 1 (some .int)) rm_X8_look (va_Pc [.ref (ad i0)] (PreG D (Ew D A) A ad S σ)) (QG D A ad S (some (.int r.2)) r.1) 0 0 A := by
  refine y_met (by decide) (Nat.le_of_ble_eq_true rfl) (fun p e s m below meth c ls Z hS hl => ?_)
  have hx := Z.1
  have hb := Z.2.1
  have hown := Z.2.2.2.2.2.1
  have hts := Z.2.2.2.2.2.2.1
  unfold f_X8_look at h
  refine w_X8_look_L0 Z hi0 (fun σ10 H locs ls hS hl h => ?_) FU _ _ _ _ hS (lv_sub hl [0] rfl) h
  refine lv_aload_n hx hb dX8_look_38 rfl (lv_at hl 0 rfl) ?_
  refine h_getI Z hS cls_5 hi0 (by decide) rfl fl_X8_19_5 dX8_look_39 h (fun x11 h => ?_)
  refine lv_aload_n hx hb dX8_look_42 rfl (lv_at hl 0 rfl) ?_
  refine h_getI Z hS cls_5 hi0 (by decide) rfl fl_X8_15_5 dX8_look_43 h (fun x12 h => ?_)
  refine lv_icmp_ge (tgt := 65) hx hb dX8_look_46 (by decide) (fun c13 => ?_) (fun c13 => ?_)
  · have h := if_t h c13
    refine lv_iconst (v := (-1 : Int32)) hx hb dX8_look_65 (by decide) ?_
    exact h_iretm Z hS dX8_look_66 h
  · have h := if_f h c13
    refine lv_aload_n hx hb dX8_look_49 rfl (lv_at hl 0 rfl) ?_
    refine h_getN (sh := (2, 160)) Z hS cls_5 hi0 (by decide) rfl rfl fl_X8_9_5 dX8_look_50 h (fun j14 hj14 h => ?_)
    refine lv_aload_n hx hb dX8_look_53 rfl (lv_at hl 0 rfl) ?_
    refine h_getI Z hS cls_5 hi0 (by decide) rfl fl_X8_19_5 dX8_look_54 h (fun x15 h => ?_)
    refine h_bald Z hS hj14 dX8_look_57 h (fun x16 h => ?_)
    refine lv_sipush (v := (255 : Int32)) hx hb dX8_look_58 (by decide) ?_
    refine lv_iand hx hb dX8_look_61 ?_
    refine lv_goto (tgt := 66) hx hb dX8_look_62 (by decide) ?_
    exact h_iretm Z hS dX8_look_66 h
end
theorem dX8_isDigit_0 : decode cX8_isDigit 0 = .ok (.aload_n 0, 1) := by decide +kernel
theorem dX8_isDigit_1 : decode cX8_isDigit 1 = .ok (.getfield 19, 3) := by decide +kernel
theorem dX8_isDigit_4 : decode cX8_isDigit 4 = .ok (.aload_n 0, 1) := by decide +kernel
theorem dX8_isDigit_5 : decode cX8_isDigit 5 = .ok (.getfield 15, 3) := by decide +kernel
theorem dX8_isDigit_8 : decode cX8_isDigit 8 = .ok (.if_icmp .ge 35, 3) := by decide +kernel
theorem dX8_isDigit_11 : decode cX8_isDigit 11 = .ok (.aload_n 0, 1) := by decide +kernel
theorem dX8_isDigit_12 : decode cX8_isDigit 12 = .ok (.getfield 9, 3) := by decide +kernel
theorem dX8_isDigit_15 : decode cX8_isDigit 15 = .ok (.aload_n 0, 1) := by decide +kernel
theorem dX8_isDigit_16 : decode cX8_isDigit 16 = .ok (.getfield 19, 3) := by decide +kernel
theorem dX8_isDigit_19 : decode cX8_isDigit 19 = .ok (.baload, 1) := by decide +kernel
theorem dX8_isDigit_20 : decode cX8_isDigit 20 = .ok (.bipush 48, 2) := by decide +kernel
theorem dX8_isDigit_22 : decode cX8_isDigit 22 = .ok (.if_icmp .lt 21, 3) := by decide +kernel
theorem dX8_isDigit_25 : decode cX8_isDigit 25 = .ok (.aload_n 0, 1) := by decide +kernel
theorem dX8_isDigit_26 : decode cX8_isDigit 26 = .ok (.getfield 9, 3) := by decide +kernel
theorem dX8_isDigit_29 : decode cX8_isDigit 29 = .ok (.aload_n 0, 1) := by decide +kernel
theorem dX8_isDigit_30 : decode cX8_isDigit 30 = .ok (.getfield 19, 3) := by decide +kernel
theorem dX8_isDigit_33 : decode cX8_isDigit 33 = .ok (.baload, 1) := by decide +kernel
theorem dX8_isDigit_34 : decode cX8_isDigit 34 = .ok (.bipush 57, 2) := by decide +kernel
theorem dX8_isDigit_36 : decode cX8_isDigit 36 = .ok (.if_icmp .gt 7, 3) := by decide +kernel
theorem dX8_isDigit_39 : decode cX8_isDigit 39 = .ok (.iconst 1, 1) := by decide +kernel
theorem dX8_isDigit_40 : decode cX8_isDigit 40 = .ok (.goto 4, 3) := by decide +kernel
theorem dX8_isDigit_43 : decode cX8_isDigit 43 = .ok (.iconst 0, 1) := by decide +kernel
theorem dX8_isDigit_44 : decode cX8_isDigit 44 = .ok (.ireturn, 1) := by decide +kernel
abbrev rm_X8_isDigit : Room := k2_rm 0 0
section
variable {p : Program} {l : Launch} {e : Env} {s : State} {m : MethodId} {args : Array Value} {below : List Frame} {meth : Method} {c : Code} {D : gD} {A : Nat → Prop} {ad : Nat → Nat} {S : Nat → Nat × Nat} {σ : Mem}
set_option maxRecDepth 100000 in
set_option maxHeartbeats 4000000 in
theorem w_X8_isDigit {i0 : Nat} (hi0 : S i0 = (15, 0)) {r : Int32} (h : f_X8_isDigit σ i0 = some r) : Met l yX8_isDigit (ws_ yX8_isDigit cX8_isDigit 1 (some .boolean)) rm_X8_isDigit (va_Pc [.ref (ad i0)] (PreG D (Ew D A) A ad S σ)) (QG D A ad S (some (.int r)) σ) 0 0 A := by
  refine y_met (by decide) (Nat.le_of_ble_eq_true rfl) (fun p e s m below meth c ls Z hS hl => ?_)
  have hx := Z.1
  have hb := Z.2.1
  have hown := Z.2.2.2.2.2.1
  have hts := Z.2.2.2.2.2.2.1
  unfold f_X8_isDigit at h
  refine lv_aload_n hx hb dX8_isDigit_0 rfl (lv_at hl 0 rfl) ?_
  refine h_getI Z hS cls_5 hi0 (by decide) rfl fl_X8_19_5 dX8_isDigit_1 h (fun x1 h => ?_)
  refine lv_aload_n hx hb dX8_isDigit_4 rfl (lv_at hl 0 rfl) ?_
  refine h_getI Z hS cls_5 hi0 (by decide) rfl fl_X8_15_5 dX8_isDigit_5 h (fun x2 h => ?_)
  refine lv_icmp_ge (tgt := 43) hx hb dX8_isDigit_8 (by decide) (fun c3 => ?_) (fun c3 => ?_)
  · have h := if_t h c3
    refine lv_iconst (v := (0 : Int32)) hx hb dX8_isDigit_43 (by decide) ?_
    exact h_zret Z hS dX8_isDigit_44 h
  · have h := if_f h c3
    refine lv_aload_n hx hb dX8_isDigit_11 rfl (lv_at hl 0 rfl) ?_
    refine h_getN (sh := (2, 160)) Z hS cls_5 hi0 (by decide) rfl rfl fl_X8_9_5 dX8_isDigit_12 h (fun j4 hj4 h => ?_)
    refine lv_aload_n hx hb dX8_isDigit_15 rfl (lv_at hl 0 rfl) ?_
    refine h_getI Z hS cls_5 hi0 (by decide) rfl fl_X8_19_5 dX8_isDigit_16 h (fun x5 h => ?_)
    refine h_bald Z hS hj4 dX8_isDigit_19 h (fun x6 h => ?_)
    refine lv_bipush (v := (48 : Int32)) hx hb dX8_isDigit_20 (by decide) ?_
    refine lv_icmp_lt (tgt := 43) hx hb dX8_isDigit_22 (by decide) (fun c7 => ?_) (fun c7 => ?_)
    · have h := if_t h c7
      refine lv_iconst (v := (0 : Int32)) hx hb dX8_isDigit_43 (by decide) ?_
      exact h_zret Z hS dX8_isDigit_44 h
    · have h := if_f h c7
      refine lv_aload_n hx hb dX8_isDigit_25 rfl (lv_at hl 0 rfl) ?_
      refine h_getN (sh := (2, 160)) Z hS cls_5 hi0 (by decide) rfl rfl fl_X8_9_5 dX8_isDigit_26 h (fun j8 hj8 h => ?_)
      refine lv_aload_n hx hb dX8_isDigit_29 rfl (lv_at hl 0 rfl) ?_
      refine h_getI Z hS cls_5 hi0 (by decide) rfl fl_X8_19_5 dX8_isDigit_30 h (fun x9 h => ?_)
      refine h_bald Z hS hj8 dX8_isDigit_33 h (fun x10 h => ?_)
      refine lv_bipush (v := (57 : Int32)) hx hb dX8_isDigit_34 (by decide) ?_
      refine lv_icmp_gt (tgt := 43) hx hb dX8_isDigit_36 (by decide) (fun c11 => ?_) (fun c11 => ?_)
      · have h := if_t h c11
        refine lv_iconst (v := (0 : Int32)) hx hb dX8_isDigit_43 (by decide) ?_
        exact h_zret Z hS dX8_isDigit_44 h
      · have h := if_f h c11
        refine lv_iconst (v := (1 : Int32)) hx hb dX8_isDigit_39 (by decide) ?_
        refine lv_goto (tgt := 44) hx hb dX8_isDigit_40 (by decide) ?_
        exact h_zret Z hS dX8_isDigit_44 h
end
theorem dX8_isSign_0 : decode cX8_isSign 0 = .ok (.iload_n 0, 1) := by decide +kernel
theorem dX8_isSign_1 : decode cX8_isSign 1 = .ok (.bipush 61, 2) := by decide +kernel
theorem dX8_isSign_3 : decode cX8_isSign 3 = .ok (.if_icmp .eq 15, 3) := by decide +kernel
theorem dX8_isSign_6 : decode cX8_isSign 6 = .ok (.iload_n 0, 1) := by decide +kernel
theorem dX8_isSign_7 : decode cX8_isSign 7 = .ok (.bipush 60, 2) := by decide +kernel
theorem dX8_isSign_9 : decode cX8_isSign 9 = .ok (.if_icmp .eq 9, 3) := by decide +kernel
theorem dX8_isSign_12 : decode cX8_isSign 12 = .ok (.iload_n 0, 1) := by decide +kernel
theorem dX8_isSign_13 : decode cX8_isSign 13 = .ok (.bipush 62, 2) := by decide +kernel
theorem dX8_isSign_15 : decode cX8_isSign 15 = .ok (.if_icmp .ne 7, 3) := by decide +kernel
theorem dX8_isSign_18 : decode cX8_isSign 18 = .ok (.iconst 1, 1) := by decide +kernel
theorem dX8_isSign_19 : decode cX8_isSign 19 = .ok (.goto 4, 3) := by decide +kernel
theorem dX8_isSign_22 : decode cX8_isSign 22 = .ok (.iconst 0, 1) := by decide +kernel
theorem dX8_isSign_23 : decode cX8_isSign 23 = .ok (.ireturn, 1) := by decide +kernel
abbrev rm_X8_isSign : Room := k2_rm 0 0
section
variable {p : Program} {l : Launch} {e : Env} {s : State} {m : MethodId} {args : Array Value} {below : List Frame} {meth : Method} {c : Code} {D : gD} {A : Nat → Prop} {ad : Nat → Nat} {S : Nat → Nat × Nat} {σ : Mem}
set_option maxRecDepth 100000 in
set_option maxHeartbeats 4000000 in
theorem w_X8_isSign {a1 : Int32} {r : Int32} (h : f_X8_isSign σ a1 = some r) : Met l yX8_isSign (ws_ yX8_isSign cX8_isSign 1 (some .boolean)) rm_X8_isSign (va_Pc [.int a1] (PreG D (Ew D A) A ad S σ)) (QG D A ad S (some (.int r)) σ) 0 0 A := by
  refine y_met (by decide) (Nat.le_of_ble_eq_true rfl) (fun p e s m below meth c ls Z hS hl => ?_)
  have hx := Z.1
  have hb := Z.2.1
  have hown := Z.2.2.2.2.2.1
  have hts := Z.2.2.2.2.2.2.1
  unfold f_X8_isSign at h
  refine lv_iload_n hx hb dX8_isSign_0 rfl (lv_at hl 0 rfl) ?_
  refine lv_bipush (v := (61 : Int32)) hx hb dX8_isSign_1 (by decide) ?_
  refine lv_icmp_eq (tgt := 18) hx hb dX8_isSign_3 (by decide) (fun c1 => ?_) (fun c1 => ?_)
  · have h := if_t h c1
    refine lv_iconst (v := (1 : Int32)) hx hb dX8_isSign_18 (by decide) ?_
    refine lv_goto (tgt := 23) hx hb dX8_isSign_19 (by decide) ?_
    exact h_zret Z hS dX8_isSign_23 h
  · have h := if_f h c1
    refine lv_iload_n hx hb dX8_isSign_6 rfl (lv_at hl 0 rfl) ?_
    refine lv_bipush (v := (60 : Int32)) hx hb dX8_isSign_7 (by decide) ?_
    refine lv_icmp_eq (tgt := 18) hx hb dX8_isSign_9 (by decide) (fun c2 => ?_) (fun c2 => ?_)
    · have h := if_t h c2
      refine lv_iconst (v := (1 : Int32)) hx hb dX8_isSign_18 (by decide) ?_
      refine lv_goto (tgt := 23) hx hb dX8_isSign_19 (by decide) ?_
      exact h_zret Z hS dX8_isSign_23 h
    · have h := if_f h c2
      refine lv_iload_n hx hb dX8_isSign_12 rfl (lv_at hl 0 rfl) ?_
      refine lv_bipush (v := (62 : Int32)) hx hb dX8_isSign_13 (by decide) ?_
      refine lv_icmp_ne (tgt := 22) hx hb dX8_isSign_15 (by decide) (fun c3 => ?_) (fun c3 => ?_)
      · have h := if_f h c3
        refine lv_iconst (v := (0 : Int32)) hx hb dX8_isSign_22 (by decide) ?_
        exact h_zret Z hS dX8_isSign_23 h
      · have h := if_t h c3
        refine lv_iconst (v := (1 : Int32)) hx hb dX8_isSign_18 (by decide) ?_
        refine lv_goto (tgt := 23) hx hb dX8_isSign_19 (by decide) ?_
        exact h_zret Z hS dX8_isSign_23 h
end
